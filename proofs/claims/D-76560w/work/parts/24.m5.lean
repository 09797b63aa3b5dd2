/-! WALKS (printed by walk.py): mayDo, stands, becomesOne, what -/
set_option maxRecDepth 100000
set_option maxRecDepth 100000 in
theorem ct_X2_mayDo {l : Launch} {D : va_G} {E : State → Prop} {B : Nat} (hE : Stab E) {ad : Nat → Nat} {h0 : AH} (σ : MSt)  (p : Nat) (o : Int32) (hp : p < 15) : Ct l D E B yX2_mayDo cX2_mayDo 3 (some .boolean) 2 43 0 0 [.ref (ad 0), .int (nI p), .int o] (MH D ad h0 σ) (RI (bI (mP σ p 0 = o ∧ sOpen (mP σ) (σ.1 6) p ∧ ¬ mP σ p 3 = nI 2)) (MH D ad h0 σ)) := by
  refine Ct.of (nL := 3) (lv := [some (.ref (ad 0)), some (.int (nI p)), some (.int o)]) (by decide) (Nat.le_of_ble_eq_true rfl) hE 0 rfl ?_
  generalize hT : RI (bI (mP σ p 0 = o ∧ sOpen (mP σ) (σ.1 6) p ∧ ¬ mP σ p 3 = nI 2)) (MH D ad h0 σ) = T
  intro zp ze zs zm zb zt zc F hr hnm
  generalize ([.ref (ad 0), .int (nI p), .int o] : List Value).toArray = za at F ⊢
  refine g_aload_n F dX2_mayDo_0 rfl rfl (np := 1) rfl ?_
  refine g_iload_n F dX2_mayDo_1 rfl rfl (np := 2) rfl ?_
  refine g_iload_n F dX2_mayDo_2 rfl rfl (np := 3) rfl ?_
  refine g_runV F (C := RX2) (ci := 2) (T0 := TX2) (N := 42) (rest := []) (ct_X2_isHis hE σ p o (by omega)) (lw_V q1819 q1821 qs76 q102 q1822) hcV_X2_isHis ⟨Nat.le_of_ble_eq_true rfl, Nat.le_of_ble_eq_true rfl⟩ rfl (fun h hs => hs.obj) rfl rfl (Nat.le_of_ble_eq_true rfl) dX2_mayDo_3 ⟨Nat.le_of_ble_eq_true rfl, Nat.le_of_ble_eq_true rfl⟩ (np := 6) rfl (k_RI ?_)
  refine g_if_eqB F dX2_mayDo_6 (tp := 26) (by decide) (np := 9) rfl (fun c6 => ?_) (fun c6 => ?_)
  · refine g_iconst F (v := (nI 0)) dX2_mayDo_26 (by decide) (np := 27) rfl ?_
    have hv : (nI (0) : Int32) = bI (mP σ p 0 = o ∧ sOpen (mP σ) (σ.1 6) p ∧ ¬ mP σ p 3 = nI 2) := (show (0 : Int32) = _ from (bI_f (by simp_all [mP_3])).symm)
    exact g_iret F hr rfl (Nat.le_of_ble_eq_true rfl) (Nat.le_of_ble_eq_true rfl) dX2_mayDo_27 (fun h hs => by rw [← hT]; exact ⟨congrArg (fun z => some (Value.int z)) hv, hs⟩)
  · refine g_aload_n F dX2_mayDo_9 rfl rfl (np := 10) rfl ?_
    refine h_get F (k := 3) (v := .ref (ad 3)) (by decide) rfl q1549 dX2_mayDo_10 (np := 13) rfl ?_
    refine g_bipush F (v := (nI 15)) dX2_mayDo_13 (by decide) (np := 15) rfl ?_
    refine g_iload_n F dX2_mayDo_15 rfl rfl (np := 16) rfl ?_
    refine g_iaddN F dX2_mayDo_16 (np := 17) rfl ?_
    refine h_ald F (k := 3) (i := 15 + p) (L := 75) (v := σ.2.1 3 (15 + p)) rfl rfl (by decide) (by omega) rfl rfl dX2_mayDo_17 (by decide) (by decide) (np := 18) rfl ?_
    refine g_iconst F (v := (nI 2)) dX2_mayDo_18 (by decide) (np := 19) rfl ?_
    refine g_icmp_eq F dX2_mayDo_19 (tp := 26) (by decide) (np := 22) rfl (fun c19 => ?_) (fun c19 => ?_)
    · refine g_iconst F (v := (nI 0)) dX2_mayDo_26 (by decide) (np := 27) rfl ?_
      have hv : (nI (0) : Int32) = bI (mP σ p 0 = o ∧ sOpen (mP σ) (σ.1 6) p ∧ ¬ mP σ p 3 = nI 2) := (show (0 : Int32) = _ from (bI_f (by simp_all [mP_3])).symm)
      exact g_iret F hr rfl (Nat.le_of_ble_eq_true rfl) (Nat.le_of_ble_eq_true rfl) dX2_mayDo_27 (fun h hs => by rw [← hT]; exact ⟨congrArg (fun z => some (Value.int z)) hv, hs⟩)
    · refine g_iconst F (v := (nI 1)) dX2_mayDo_22 (by decide) (np := 23) rfl ?_
      refine g_goto F dX2_mayDo_23 (np := 27) (by decide) ?_
      have hv : (nI (1) : Int32) = bI (mP σ p 0 = o ∧ sOpen (mP σ) (σ.1 6) p ∧ ¬ mP σ p 3 = nI 2) := (show (1 : Int32) = _ from (bI_t (by simp_all [mP_3])).symm)
      exact g_iret F hr rfl (Nat.le_of_ble_eq_true rfl) (Nat.le_of_ble_eq_true rfl) dX2_mayDo_27 (fun h hs => by rw [← hT]; exact ⟨congrArg (fun z => some (Value.int z)) hv, hs⟩)

set_option maxRecDepth 100000 in
theorem ct_X2_stands {l : Launch} {D : va_G} {E : State → Prop} {B : Nat} (hE : Stab E) {ad : Nat → Nat} {h0 : AH} (σ : MSt) (L : LawT) (o : Int32) (xt : Nat) (hok : mOK σ L) (hx : xt < 2 ^ 31) : Ct l D E B yX2_stands cX2_stands 6 (some .boolean) 6 137 0 0 [.ref (ad 0), .int o, .int (nI xt)] (MH D ad h0 σ) (RI (bI (sStands (mV σ L) (σ.1 6) o (nI (xt / 100)) (xt % 100))) (MH D ad h0 σ)) := by
  refine Ct.of (nL := 6) (lv := [some (.ref (ad 0)), some (.int o), some (.int (nI xt)), none, none, none]) (by decide) (Nat.le_of_ble_eq_true rfl) hE 3 rfl ?_
  generalize hT : RI (bI (sStands (mV σ L) (σ.1 6) o (nI (xt / 100)) (xt % 100))) (MH D ad h0 σ) = T
  intro zp ze zs zm zb zt zc F hr hnm
  generalize ([.ref (ad 0), .int o, .int (nI xt)] : List Value).toArray = za at F ⊢
  have hok2 := hok
  obtain ⟨ho8, hm15, ht99, hby, hlaw⟩ := hok2
  refine g_aload_n F dX2_stands_0 rfl rfl (np := 1) rfl ?_
  refine h_get F (k := 6) (v := .int (nI (σ.1 6))) (by decide) rfl q1552 dX2_stands_1 (np := 4) rfl ?_
  refine g_istore_n F (lv' := [some (.ref (ad 0)), some (.int o), some (.int (nI xt)), some (.int (nI (σ.1 6))), none, none]) dX2_stands_4 rfl (by decide) rfl rfl (np := 5) rfl ?_
  refine g_iconst F (v := (nI 1)) dX2_stands_5 (by decide) (np := 6) rfl ?_
  refine g_istore F (lv' := [some (.ref (ad 0)), some (.int o), some (.int (nI xt)), some (.int (nI (σ.1 6))), some (.int (nI 1)), none]) dX2_stands_6 (by decide) rfl rfl (np := 8) rfl ?_
  refine g_iconst F (v := (nI 0)) dX2_stands_8 (by decide) (np := 9) rfl ?_
  refine g_istore F (lv' := [some (.ref (ad 0)), some (.int o), some (.int (nI xt)), some (.int (nI (σ.1 6))), some (.int (nI 1)), some (.int (nI 0))]) dX2_stands_9 (by decide) rfl rfl (np := 11) rfl ?_
  have L11 : ∀ (zn : Nat) (b : Int32) (k : Nat) (t : Nat), (b = bI (∀ j, j < k → ¬ sHigh (mV σ L) (day (σ.1 6) j) o < nI (xt / 100))) → (k ≤ xt % 100 + 1) → xt % 100 + 1 - k < zn → WG zp l ze ({ frames := 6, cells := 0, slots := 0, locals := 137 } : Room) zs zm za zb zt zc D B 6 (MQ zb (QT D B T) za zs 0 0 (zA B)) (MH D ad h0 (sN σ 6 t)) 0 0 11 [some (.ref (ad 0)), some (.int o), some (.int (nI xt)), some (.int (nI (σ.1 6))), some (.int b), some (.int (nI k))] [] := by
    intro zn
    induction zn with
    | zero => intro b k t h1 h2 hm; exact absurd hm (Nat.not_lt_zero _)
    | succ zn ih11 =>
      intro b k t h1 h2 hm
      refine g_iload F dX2_stands_11 rfl (np := 13) rfl ?_
      refine g_iload_n F dX2_stands_13 rfl rfl (np := 14) rfl ?_
      refine g_bipush F (v := (nI 100)) dX2_stands_14 (by decide) (np := 16) rfl ?_
      refine g_iremN F (by omega) (by decide) (by decide) dX2_stands_16 (np := 17) rfl ?_
      refine g_icmp_gtN F (by omega) (by omega) dX2_stands_17 (tp := 54) (by decide) (np := 20) rfl (fun c17 => ?_) (fun c17 => ?_)
      · refine g_aload_n F dX2_stands_54 rfl rfl (np := 55) rfl ?_
        refine g_iload_n F dX2_stands_55 rfl rfl (np := 56) rfl ?_
        refine h_put F (k := 6) (n := σ.1 6) (ty := .int) rfl (by decide) (mset_6 _ _ _) rfl rfl rfl rfl q1552 dX2_stands_56 (np := 59) rfl ?_
        refine WG.weak (S' := MH D ad h0 (sN σ 6 (σ.1 6))) (fun h hs => by rw [sN_sN] at hs; exact hs) ?_
        refine WG.weak (S' := MH D ad h0 σ) (fun h hs => by rw [show σ = sN σ 6 (σ.1 6) from (sN_same σ 6).symm]; exact hs) ?_
        refine g_iload F dX2_stands_59 rfl (np := 61) rfl ?_
        have hv : b = bI (sStands (mV σ L) (σ.1 6) o (nI (xt / 100)) (xt % 100)) := by rw [h1, show k = xt % 100 + 1 by omega]; rfl
        exact g_iret F hr (by rw [hv]; exact bI_nar) (Nat.le_of_ble_eq_true rfl) (Nat.le_of_ble_eq_true rfl) dX2_stands_61 (fun h hs => by rw [← hT]; exact ⟨congrArg (fun z => some (Value.int z)) hv, hs⟩)
      · refine g_aload_n F dX2_stands_20 rfl rfl (np := 21) rfl ?_
        refine g_bipush F (v := (nI 99)) dX2_stands_21 (by decide) (np := 23) rfl ?_
        refine g_iload_n F dX2_stands_23 rfl rfl (np := 24) rfl ?_
        refine g_iload F dX2_stands_24 rfl (np := 26) rfl ?_
        refine g_iaddN F dX2_stands_26 (np := 27) rfl ?_
        refine g_min F (rest := [.ref (ad 0)]) q1831 (by decide) (by decide) (Nat.le_of_ble_eq_true rfl) (Nat.le_of_ble_eq_true rfl) dX2_stands_27 (np := 30) rfl ?_
        refine WG.eqv (st' := [.int (nI (day (σ.1 6) k)), .ref (ad 0)]) (congrArg (fun z => ([.int z, .ref (ad 0)] : List Value)) (show (jmin (nI (99)) (nI ((σ.1 6) + k))) = (nI (day (σ.1 6) k)) from by exact jmin_N (by decide) (by omega))) rfl ?_
        refine h_put F (k := 6) (n := day (σ.1 6) k) (ty := .int) rfl (by decide) (mset_6 _ _ _) rfl rfl rfl rfl q1552 dX2_stands_30 (np := 33) rfl ?_
        refine WG.weak (S' := MH D ad h0 (sN σ 6 (day (σ.1 6) k))) (fun h hs => by rw [sN_sN] at hs; exact hs) ?_
        refine g_aload_n F dX2_stands_33 rfl rfl (np := 34) rfl ?_
        refine g_iload_n F dX2_stands_34 rfl rfl (np := 35) rfl ?_
        refine g_runV F (C := RX2) (ci := 2) (T0 := TX2) (N := 42) (rest := []) (ct_X2_highOf hE (sN σ 6 (day (σ.1 6) k)) L o (by exact hok.day (day_le _ _))) (lw_V q1844 q1846 qs80 q102 q1847) hcV_X2_highOf ⟨Nat.le_of_ble_eq_true rfl, Nat.le_of_ble_eq_true rfl⟩ rfl (fun h hs => hs.obj) rfl rfl (Nat.le_of_ble_eq_true rfl) dX2_stands_35 ⟨Nat.le_of_ble_eq_true rfl, Nat.le_of_ble_eq_true rfl⟩ (np := 38) rfl (k_RI ?_)
        refine g_iload_n F dX2_stands_38 rfl rfl (np := 39) rfl ?_
        refine g_bipush F (v := (nI 100)) dX2_stands_39 (by decide) (np := 41) rfl ?_
        refine g_idivN F (by omega) (by decide) (by decide) dX2_stands_41 (np := 42) rfl ?_
        refine g_icmp_ge F dX2_stands_42 (tp := 48) (by decide) (np := 45) rfl (fun c42 => ?_) (fun c42 => ?_)
        · refine g_iinc F (v := (nI (k + 1))) (lv' := [some (.ref (ad 0)), some (.int o), some (.int (nI xt)), some (.int (nI (σ.1 6))), some (.int b), some (.int (nI (k + 1)))]) dX2_stands_48 rfl (nI_add _ _) (by decide) rfl rfl (np := 51) rfl ?_
          refine g_goto F dX2_stands_51 (np := 11) (by decide) ?_
          exact ih11 b (k + 1) ((day (σ.1 6) k)) (by first | (rw [h1]; exact bI_c (all_s (K := fun j => ¬ sHigh (mV σ L) (day (σ.1 6) j) o < nI (xt / 100)) (Int32.not_lt.mpr ‹_›))) | exact (bI_f (fun z => z k (Nat.lt_succ_self _) (Int32.not_le.mp ‹_›))).symm) (by first | assumption | omega) (by omega)
        · refine g_iconst F (v := (nI 0)) dX2_stands_45 (by decide) (np := 46) rfl ?_
          refine g_istore F (lv' := [some (.ref (ad 0)), some (.int o), some (.int (nI xt)), some (.int (nI (σ.1 6))), some (.int (nI 0)), some (.int (nI k))]) dX2_stands_46 (by decide) rfl rfl (np := 48) rfl ?_
          refine g_iinc F (v := (nI (k + 1))) (lv' := [some (.ref (ad 0)), some (.int o), some (.int (nI xt)), some (.int (nI (σ.1 6))), some (.int (nI 0)), some (.int (nI (k + 1)))]) dX2_stands_48 rfl (nI_add _ _) (by decide) rfl rfl (np := 51) rfl ?_
          refine g_goto F dX2_stands_51 (np := 11) (by decide) ?_
          exact ih11 (nI (0)) (k + 1) ((day (σ.1 6) k)) (by first | (rw [h1]; exact bI_c (all_s (K := fun j => ¬ sHigh (mV σ L) (day (σ.1 6) j) o < nI (xt / 100)) (Int32.not_lt.mpr ‹_›))) | exact (bI_f (fun z => z k (Nat.lt_succ_self _) (Int32.not_le.mp ‹_›))).symm) (by first | assumption | omega) (by omega)
  refine WG.weak (S' := MH D ad h0 (sN σ 6 (σ.1 6))) (fun h hs => by rw [sN_same]; exact hs) ?_
  exact L11 _ (nI (1)) 0 ((σ.1 6)) (by exact (bI_t (fun j hj => by omega)).symm) (by omega) (Nat.lt_succ_self _)

set_option maxRecDepth 100000 in
theorem ct_X2_becomesOne {l : Launch} {D : va_G} {E : State → Prop} {B : Nat} (hE : Stab E) {ad : Nat → Nat} {h0 : AH} (σ : MSt)  (p : Nat) (b : Int32) (t : Int32) (w : Int32) (kd : Int32) (ls : Int32) (hp : p < 15) : Ct l D E B yX2_becomesOne cX2_becomesOne 7 none 0 0 0 0 [.ref (ad 0), .int (nI p), .int b, .int t, .int w, .int kd, .int ls] (MH D ad h0 σ) (RV (MH D ad h0 (bOne σ p b t w kd ls))) := by
  refine Ct.of (nL := 7) (lv := [some (.ref (ad 0)), some (.int (nI p)), some (.int b), some (.int t), some (.int w), some (.int kd), some (.int ls)]) (by decide) (Nat.le_of_ble_eq_true rfl) hE 0 rfl ?_
  generalize hT : RV (MH D ad h0 (bOne σ p b t w kd ls)) = T
  intro zp ze zs zm zb zt zc F hr hnm
  generalize ([.ref (ad 0), .int (nI p), .int b, .int t, .int w, .int kd, .int ls] : List Value).toArray = za at F ⊢
  refine g_aload_n F dX2_becomesOne_0 rfl rfl (np := 1) rfl ?_
  refine h_get F (k := 4) (v := .ref (ad 4)) (by decide) rfl q1550 dX2_becomesOne_1 (np := 4) rfl ?_
  refine g_iload_n F dX2_becomesOne_4 rfl rfl (np := 5) rfl ?_
  refine g_iload_n F dX2_becomesOne_5 rfl rfl (np := 6) rfl ?_
  refine h_ast F (k := 4) (i := p) (L := 15) rfl rfl (by decide) (by omega) rfl dX2_becomesOne_6 (by decide) (by decide) (np := 7) rfl ?_
  refine g_aload_n F dX2_becomesOne_7 rfl rfl (np := 8) rfl ?_
  refine h_get F (k := 5) (v := .ref (ad 5)) (by decide) rfl q1551 dX2_becomesOne_8 (np := 11) rfl ?_
  refine g_iload_n F dX2_becomesOne_11 rfl rfl (np := 12) rfl ?_
  refine g_iload_n F dX2_becomesOne_12 rfl rfl (np := 13) rfl ?_
  refine h_ast F (k := 5) (i := p) (L := 15) rfl rfl (by decide) (by omega) rfl dX2_becomesOne_13 (by decide) (by decide) (np := 14) rfl ?_
  refine g_aload_n F dX2_becomesOne_14 rfl rfl (np := 15) rfl ?_
  refine h_get F (k := 3) (v := .ref (ad 3)) (by decide) rfl q1549 dX2_becomesOne_15 (np := 18) rfl ?_
  refine g_iload_n F dX2_becomesOne_18 rfl rfl (np := 19) rfl ?_
  refine g_iload F dX2_becomesOne_19 rfl (np := 21) rfl ?_
  refine h_ast F (k := 3) (i := p) (L := 75) rfl rfl (by decide) (by omega) rfl dX2_becomesOne_21 (by decide) (by decide) (np := 22) rfl ?_
  refine g_aload_n F dX2_becomesOne_22 rfl rfl (np := 23) rfl ?_
  refine h_get F (k := 3) (v := .ref (ad 3)) (by decide) rfl q1549 dX2_becomesOne_23 (np := 26) rfl ?_
  refine g_bipush F (v := (nI 15)) dX2_becomesOne_26 (by decide) (np := 28) rfl ?_
  refine g_iload_n F dX2_becomesOne_28 rfl rfl (np := 29) rfl ?_
  refine g_iaddN F dX2_becomesOne_29 (np := 30) rfl ?_
  refine g_iload F dX2_becomesOne_30 rfl (np := 32) rfl ?_
  refine h_ast F (k := 3) (i := 15 + p) (L := 75) rfl rfl (by decide) (by omega) rfl dX2_becomesOne_32 (by decide) (by decide) (np := 33) rfl ?_
  refine g_aload_n F dX2_becomesOne_33 rfl rfl (np := 34) rfl ?_
  refine h_get F (k := 3) (v := .ref (ad 3)) (by decide) rfl q1549 dX2_becomesOne_34 (np := 37) rfl ?_
  refine g_bipush F (v := (nI 30)) dX2_becomesOne_37 (by decide) (np := 39) rfl ?_
  refine g_iload_n F dX2_becomesOne_39 rfl rfl (np := 40) rfl ?_
  refine g_iaddN F dX2_becomesOne_40 (np := 41) rfl ?_
  refine g_iload F dX2_becomesOne_41 rfl (np := 43) rfl ?_
  refine h_ast F (k := 3) (i := 30 + p) (L := 75) rfl rfl (by decide) (by omega) rfl dX2_becomesOne_43 (by decide) (by decide) (np := 44) rfl ?_
  refine g_aload_n F dX2_becomesOne_44 rfl rfl (np := 45) rfl ?_
  refine h_get F (k := 3) (v := .ref (ad 3)) (by decide) rfl q1549 dX2_becomesOne_45 (np := 48) rfl ?_
  refine g_bipush F (v := (nI 45)) dX2_becomesOne_48 (by decide) (np := 50) rfl ?_
  refine g_iload_n F dX2_becomesOne_50 rfl rfl (np := 51) rfl ?_
  refine g_iaddN F dX2_becomesOne_51 (np := 52) rfl ?_
  refine g_aload_n F dX2_becomesOne_52 rfl rfl (np := 53) rfl ?_
  refine h_get F (k := 6) (v := .int (nI (σ.1 6))) (by decide) rfl q1552 dX2_becomesOne_53 (np := 56) rfl ?_
  refine h_ast F (k := 3) (i := 45 + p) (L := 75) rfl rfl (by decide) (by omega) rfl dX2_becomesOne_56 (by decide) (by decide) (np := 57) rfl ?_
  refine g_aload_n F dX2_becomesOne_57 rfl rfl (np := 58) rfl ?_
  refine h_get F (k := 3) (v := .ref (ad 3)) (by decide) rfl q1549 dX2_becomesOne_58 (np := 61) rfl ?_
  refine g_bipush F (v := (nI 60)) dX2_becomesOne_61 (by decide) (np := 63) rfl ?_
  refine g_iload_n F dX2_becomesOne_63 rfl rfl (np := 64) rfl ?_
  refine g_iaddN F dX2_becomesOne_64 (np := 65) rfl ?_
  refine g_iconst F (v := (nI 0)) dX2_becomesOne_65 (by decide) (np := 66) rfl ?_
  refine h_ast F (k := 3) (i := 60 + p) (L := 75) rfl rfl (by decide) (by omega) rfl dX2_becomesOne_66 (by decide) (by decide) (np := 67) rfl ?_
  have hσ : (sA (sA (sA (sA (sA (sA (sA σ 4 p b) 5 p t) 3 p w) 3 (15 + p) kd) 3 (30 + p) ls) 3 (45 + p) (nI (σ.1 6))) 3 (60 + p) (nI (0))) = (bOne σ p b t w kd ls) := by rfl
  exact g_vret F hr (Nat.le_of_ble_eq_true rfl) (Nat.le_of_ble_eq_true rfl) dX2_becomesOne_67 (fun h hs => by rw [← hT]; exact ⟨rfl, (hσ ▸ hs)⟩)

set_option maxRecDepth 100000 in
theorem ct_X2_what {l : Launch} {D : va_G} {E : State → Prop} {B : Nat} (hE : Stab E) {ad : Nat → Nat} {h0 : AH} (σ : MSt) (L : LawT) (o : Int32) (kl : Int32) (xt : Int32) (hok : mOK σ L) (hm14 : σ.1 2 ≤ 14) : Ct l D E B yX2_what cX2_what 6 (some .int) 7 162 0 0 [.ref (ad 0), .int o, .int kl, .int xt] (MH D ad h0 σ) (RE (fun r σ' => r = rWhat (mV σ L) (σ.1 6) (σ.1 0) o kl xt ∧ (σ' = σ ∨ (σ.1 2 < 14 ∧ ∃ w kd ls, σ' = sN (tOne σ o w kd ls) 2 (σ.1 2)))) (fun _ σ' => MH D ad h0 σ')) := by
  refine Ct.of (nL := 6) (lv := [some (.ref (ad 0)), some (.int o), some (.int kl), some (.int xt), none, none]) (by decide) (Nat.le_of_ble_eq_true rfl) hE 2 rfl ?_
  generalize hT : RE (fun r σ' => r = rWhat (mV σ L) (σ.1 6) (σ.1 0) o kl xt ∧ (σ' = σ ∨ (σ.1 2 < 14 ∧ ∃ w kd ls, σ' = sN (tOne σ o w kd ls) 2 (σ.1 2)))) (fun _ σ' => MH D ad h0 σ') = T
  intro zp ze zs zm zb zt zc F hr hnm
  generalize ([.ref (ad 0), .int o, .int kl, .int xt] : List Value).toArray = za at F ⊢
  have hok2 := hok
  obtain ⟨ho8, hm15, ht99, hby, hlaw⟩ := hok2
  refine g_aload_n F dX2_what_0 rfl rfl (np := 1) rfl ?_
  refine g_iload_n F dX2_what_1 rfl rfl (np := 2) rfl ?_
  refine g_runV F (C := RX2) (ci := 2) (T0 := TX2) (N := 42) (rest := []) (ct_X2_isOwner hE σ o (by first | assumption | omega)) (lw_V q1688 q1690 qs54 q102 q1691) hcV_X2_isOwner ⟨Nat.le_of_ble_eq_true rfl, Nat.le_of_ble_eq_true rfl⟩ rfl (fun h hs => hs.obj) rfl rfl (Nat.le_of_ble_eq_true rfl) dX2_what_2 ⟨Nat.le_of_ble_eq_true rfl, Nat.le_of_ble_eq_true rfl⟩ (np := 5) rfl (k_RI ?_)
  refine g_if_eqB F dX2_what_5 (tp := 49) (by decide) (np := 8) rfl (fun c5 => ?_) (fun c5 => ?_)
  · refine g_iconst F (v := (-1)) dX2_what_49 (by decide) (np := 50) rfl ?_
    exact g_iret F hr rfl (Nat.le_of_ble_eq_true rfl) (Nat.le_of_ble_eq_true rfl) dX2_what_50 (fun h hs => by rw [← hT]; exact ⟨_, σ, ⟨(by unfold rWhat; rw [pif_f (fun z => by obtain ⟨z1, z2, z3, z4, z5, z6, z7⟩ := z; first | exact ‹¬ inN _ _› z1 | exact z2 ‹_› | exact z5 ‹_› | (exact absurd ‹_› z4) | omega)]), Or.inl rfl⟩, rfl, hs⟩)
  · refine g_iload_n F dX2_what_8 rfl rfl (np := 9) rfl ?_
    refine g_if_lt F dX2_what_9 (tp := 49) (by decide) (np := 12) rfl (fun c9 => ?_) (fun c9 => ?_)
    · refine g_iconst F (v := (-1)) dX2_what_49 (by decide) (np := 50) rfl ?_
      exact g_iret F hr rfl (Nat.le_of_ble_eq_true rfl) (Nat.le_of_ble_eq_true rfl) dX2_what_50 (fun h hs => by rw [← hT]; exact ⟨_, σ, ⟨(by unfold rWhat; rw [pif_f (fun z => by obtain ⟨z1, z2, z3, z4, z5, z6, z7⟩ := z; first | exact ‹¬ inN _ _› z1 | exact z2 ‹_› | exact z5 ‹_› | (exact absurd ‹_› z4) | omega)]), Or.inl rfl⟩, rfl, hs⟩)
    · obtain ⟨hke, hkl⟩ := nI_cl c9
      refine WG.eqv (lv' := [some (.ref (ad 0)), some (.int o), some (.int (nI (kl.toNatClampNeg))), some (.int xt), none, none]) rfl (congrArg (fun z => ([some (.ref (ad 0)), some (.int o), some (.int z), some (.int xt), none, none] : List (Option Value))) (show kl = (nI (kl.toNatClampNeg)) from by exact hke)) ?_
      refine g_iload_n F dX2_what_12 rfl rfl (np := 13) rfl ?_
      refine g_bipush F (v := (nI 100)) dX2_what_13 (by decide) (np := 15) rfl ?_
      refine g_idivN F (by omega) (by decide) (by decide) dX2_what_15 (np := 16) rfl ?_
      refine g_iconst F (v := (nI 2)) dX2_what_16 (by decide) (np := 17) rfl ?_
      refine g_icmp_gtN F (by omega) (by decide) dX2_what_17 (tp := 49) (by decide) (np := 20) rfl (fun c17 => ?_) (fun c17 => ?_)
      · refine g_iconst F (v := (-1)) dX2_what_49 (by decide) (np := 50) rfl ?_
        exact g_iret F hr rfl (Nat.le_of_ble_eq_true rfl) (Nat.le_of_ble_eq_true rfl) dX2_what_50 (fun h hs => by rw [← hT]; exact ⟨_, σ, ⟨(by unfold rWhat; rw [pif_f (fun z => by obtain ⟨z1, z2, z3, z4, z5, z6, z7⟩ := z; first | exact ‹¬ inN _ _› z1 | exact z2 ‹_› | exact z5 ‹_› | (exact absurd ‹_› z4) | omega)]), Or.inl rfl⟩, rfl, hs⟩)
      · refine g_iload_n F dX2_what_20 rfl rfl (np := 21) rfl ?_
        refine g_bipush F (v := (nI 100)) dX2_what_21 (by decide) (np := 23) rfl ?_
        refine g_iremN F (by omega) (by decide) (by decide) dX2_what_23 (np := 24) rfl ?_
        refine g_if_eqN F (by omega) dX2_what_24 (tp := 49) (by decide) (np := 27) rfl (fun c24 => ?_) (fun c24 => ?_)
        · refine g_iconst F (v := (-1)) dX2_what_49 (by decide) (np := 50) rfl ?_
          exact g_iret F hr rfl (Nat.le_of_ble_eq_true rfl) (Nat.le_of_ble_eq_true rfl) dX2_what_50 (fun h hs => by rw [← hT]; exact ⟨_, σ, ⟨(by unfold rWhat; rw [pif_f (fun z => by obtain ⟨z1, z2, z3, z4, z5, z6, z7⟩ := z; first | exact ‹¬ inN _ _› z1 | exact z2 ‹_› | exact z5 ‹_› | (exact absurd ‹_› z4) | omega)]), Or.inl rfl⟩, rfl, hs⟩)
        · refine g_iload_n F dX2_what_27 rfl rfl (np := 28) rfl ?_
          refine g_if_lt F dX2_what_28 (tp := 49) (by decide) (np := 31) rfl (fun c28 => ?_) (fun c28 => ?_)
          · refine g_iconst F (v := (-1)) dX2_what_49 (by decide) (np := 50) rfl ?_
            exact g_iret F hr rfl (Nat.le_of_ble_eq_true rfl) (Nat.le_of_ble_eq_true rfl) dX2_what_50 (fun h hs => by rw [← hT]; exact ⟨_, σ, ⟨(by unfold rWhat; rw [pif_f (fun z => by obtain ⟨z1, z2, z3, z4, z5, z6, z7⟩ := z; first | exact ‹¬ inN _ _› z1 | exact z2 ‹_› | exact z5 ‹_› | (exact absurd ‹_› z4) | omega)]), Or.inl rfl⟩, rfl, hs⟩)
          · obtain ⟨hxe, hxl⟩ := nI_cl c28
            refine WG.eqv (lv' := [some (.ref (ad 0)), some (.int o), some (.int (nI (kl.toNatClampNeg))), some (.int (nI (xt.toNatClampNeg))), none, none]) rfl (congrArg (fun z => ([some (.ref (ad 0)), some (.int o), some (.int (nI (kl.toNatClampNeg))), some (.int z), none, none] : List (Option Value))) (show xt = (nI (xt.toNatClampNeg)) from by exact hxe)) ?_
            refine g_iload_n F dX2_what_31 rfl rfl (np := 32) rfl ?_
            refine g_bipush F (v := (nI 100)) dX2_what_32 (by decide) (np := 34) rfl ?_
            refine g_idivN F (by omega) (by decide) (by decide) dX2_what_34 (np := 35) rfl ?_
            refine g_bipush F (v := (nI 9)) dX2_what_35 (by decide) (np := 37) rfl ?_
            refine g_icmp_gtN F (by omega) (by decide) dX2_what_37 (tp := 49) (by decide) (np := 40) rfl (fun c37 => ?_) (fun c37 => ?_)
            · refine g_iconst F (v := (-1)) dX2_what_49 (by decide) (np := 50) rfl ?_
              exact g_iret F hr rfl (Nat.le_of_ble_eq_true rfl) (Nat.le_of_ble_eq_true rfl) dX2_what_50 (fun h hs => by rw [← hT]; exact ⟨_, σ, ⟨(by unfold rWhat; rw [pif_f (fun z => by obtain ⟨z1, z2, z3, z4, z5, z6, z7⟩ := z; first | exact ‹¬ inN _ _› z1 | exact z2 ‹_› | exact z5 ‹_› | (exact absurd ‹_› z4) | omega)]), Or.inl rfl⟩, rfl, hs⟩)
            · refine g_iload_n F dX2_what_40 rfl rfl (np := 41) rfl ?_
              refine g_bipush F (v := (nI 100)) dX2_what_41 (by decide) (np := 43) rfl ?_
              refine g_iremN F (by omega) (by decide) (by decide) dX2_what_43 (np := 44) rfl ?_
              refine g_bipush F (v := (nI 40)) dX2_what_44 (by decide) (np := 46) rfl ?_
              refine g_icmp_leN F (by omega) (by decide) dX2_what_46 (tp := 51) (by decide) (np := 49) rfl (fun c46 => ?_) (fun c46 => ?_)
              · have hW : wOK (σ.1 0) o kl xt := ⟨by assumption, c9, by omega, c24, c28, by omega, by omega⟩
                refine g_aload_n F dX2_what_51 rfl rfl (np := 52) rfl ?_
                refine h_get F (k := 2) (v := .int (nI (σ.1 2))) (by decide) rfl q1548 dX2_what_52 (np := 55) rfl ?_
                refine g_bipush F (v := (nI 14)) dX2_what_55 (by decide) (np := 57) rfl ?_
                refine g_icmp_neN F (by omega) (by decide) dX2_what_57 (tp := 63) (by decide) (np := 60) rfl (fun c57 => ?_) (fun c57 => ?_)
                · refine g_bipush F (v := (-2)) dX2_what_63 (by decide) (np := 65) rfl ?_
                  refine g_istore F (lv' := [some (.ref (ad 0)), some (.int o), some (.int (nI (kl.toNatClampNeg))), some (.int (nI (xt.toNatClampNeg))), some (.int (-2)), none]) dX2_what_65 (by decide) rfl rfl (np := 67) rfl ?_
                  refine g_aload_n F dX2_what_67 rfl rfl (np := 68) rfl ?_
                  refine g_dup F dX2_what_68 rfl (np := 69) rfl ?_
                  refine h_get F (k := 2) (v := .int (nI (σ.1 2))) (by decide) rfl q1548 dX2_what_69 (np := 72) rfl ?_
                  refine g_iconst F (v := (nI 1)) dX2_what_72 (by decide) (np := 73) rfl ?_
                  refine g_iaddN F dX2_what_73 (np := 74) rfl ?_
                  refine h_put F (k := 2) (n := (σ.1 2) + 1) (ty := .int) rfl (by decide) (mset_2 _ _ _) rfl rfl rfl rfl q1548 dX2_what_74 (np := 77) rfl ?_
                  refine g_bipush F (v := (nI 99)) dX2_what_77 (by decide) (np := 79) rfl ?_
                  refine g_istore F (lv' := [some (.ref (ad 0)), some (.int o), some (.int (nI (kl.toNatClampNeg))), some (.int (nI (xt.toNatClampNeg))), some (.int (-2)), some (.int (nI 99))]) dX2_what_79 (by decide) rfl rfl (np := 81) rfl ?_
                  have L81 : ∀ (zn : Nat) (f : Int32) (q : Int32) (k : Nat) (σ1 : MSt), (f = oI (sLeast (sWhatK (mV σ L) (σ.1 6) o kl.toNatClampNeg xt.toNatClampNeg) k (100 - k))) → (k ≤ 100) → (q = nI k - 1) → ((k = 100 ∧ σ1 = sN σ 2 (σ.1 2 + 1)) ∨ (k < 100 ∧ σ1 = tOne σ o (nI k) (nI (kl.toNatClampNeg / 100)) (nI (kl.toNatClampNeg % 100)))) → k < zn → WG zp l ze ({ frames := 7, cells := 0, slots := 0, locals := 162 } : Room) zs zm za zb zt zc D B 6 (MQ zb (QT D B T) za zs 0 0 (zA B)) (MH D ad h0 σ1) 0 0 81 [some (.ref (ad 0)), some (.int o), some (.int (nI (kl.toNatClampNeg))), some (.int (nI (xt.toNatClampNeg))), some (.int f), some (.int q)] [] := by
                    intro zn
                    induction zn with
                    | zero => intro f q k σ1 h1 h2 h3 h4 hm; exact absurd hm (Nat.not_lt_zero _)
                    | succ zn ih81 =>
                      intro f q k σ1 h1 h2 h3 h4 hm
                      refine g_iload F dX2_what_81 rfl (np := 83) rfl ?_
                      refine g_if_lt F dX2_what_83 (tp := 127) (by decide) (np := 86) rfl (fun c83 => ?_) (fun c83 => ?_)
                      · have hk0 : k = 0 := by
                          rcases Nat.eq_zero_or_pos k with z | z
                          · exact z
                          · exfalso; obtain ⟨k0, rfl⟩ : ∃ k0, k = k0 + 1 := ⟨k - 1, by omega⟩; rw [h3, nI_pred] at c83; exact absurd c83 (nI_pos (by omega))
                        have e4 : σ1 = tOne σ o (nI k) (nI (kl.toNatClampNeg / 100)) (nI (kl.toNatClampNeg % 100)) := by
                          rcases h4 with ⟨z, -⟩ | ⟨-, z⟩
                          · omega
                          · exact z
                        refine WG.weak (S' := MH D ad h0 (tOne σ o (nI k) (nI (kl.toNatClampNeg / 100)) (nI (kl.toNatClampNeg % 100)))) (fun h hs => by rw [show (tOne σ o (nI k) (nI (kl.toNatClampNeg / 100)) (nI (kl.toNatClampNeg % 100))) = σ1 from by exact e4.symm]; exact hs) ?_
                        have hfin : f = oI (sWhat (mV σ L) (σ.1 6) o kl.toNatClampNeg xt.toNatClampNeg) := by rw [h1, hk0]; rfl
                        refine g_aload_n F dX2_what_127 rfl rfl (np := 128) rfl ?_
                        refine g_dup F dX2_what_128 rfl (np := 129) rfl ?_
                        refine h_get F (k := 2) (v := .int (nI (σ.1 2 + 1))) (by decide) rfl q1548 dX2_what_129 (np := 132) rfl ?_
                        refine g_iconst F (v := (nI 1)) dX2_what_132 (by decide) (np := 133) rfl ?_
                        refine g_isubN F (by omega) dX2_what_133 (np := 134) rfl ?_
                        refine WG.eqv (st' := [.int (nI (σ.1 2)), .ref (ad 0)]) (congrArg (fun z => ([.int z, .ref (ad 0)] : List Value)) (show (nI ((σ.1 2 + 1) - 1)) = (nI (σ.1 2)) from by exact congrArg nI (Nat.add_sub_cancel _ _))) rfl ?_
                        refine h_put F (k := 2) (n := σ.1 2) (ty := .int) rfl (by decide) (mset_2 _ _ _) rfl rfl rfl rfl q1548 dX2_what_134 (np := 137) rfl ?_
                        refine g_iload F dX2_what_137 rfl (np := 139) rfl ?_
                        exact g_iret F hr rfl (Nat.le_of_ble_eq_true rfl) (Nat.le_of_ble_eq_true rfl) dX2_what_139 (fun h hs => by rw [← hT]; exact ⟨_, _, ⟨(by unfold rWhat; rw [pif_t hW, if_neg (show ¬ (mV σ L).2.2.1 = 14 from c57)]; exact hfin), Or.inr ⟨by omega, _, _, _, rfl⟩⟩, rfl, hs⟩)
                      · obtain ⟨k0, rfl⟩ : ∃ k0, k = k0 + 1 := by
                          rcases Nat.eq_zero_or_pos k with rfl | z
                          · exact absurd (by rw [h3]; decide) c83
                          · exact ⟨k - 1, by omega⟩
                        have e0 : q = nI k0 := by rw [h3]; exact (nI_pred k0)
                        refine WG.eqv (lv' := [some (.ref (ad 0)), some (.int o), some (.int (nI (kl.toNatClampNeg))), some (.int (nI (xt.toNatClampNeg))), some (.int f), some (.int (nI k0))]) rfl (congrArg (fun z => ([some (.ref (ad 0)), some (.int o), some (.int (nI (kl.toNatClampNeg))), some (.int (nI (xt.toNatClampNeg))), some (.int f), some (.int z)] : List (Option Value))) (show q = (nI k0) from by exact e0)) ?_
                        have e2 : σ1.1 = (sN σ 2 (σ.1 2 + 1)).1 := by rcases h4 with ⟨-, z⟩ | ⟨-, z⟩ <;> rw [z] <;> rfl
                        have e3 : σ1.1 2 = σ.1 2 + 1 := by rw [e2]; rfl
                        refine g_aload_n F dX2_what_86 rfl rfl (np := 87) rfl ?_
                        refine g_aload_n F dX2_what_87 rfl rfl (np := 88) rfl ?_
                        refine h_get F (k := 2) (v := .int (nI (σ1.1 2))) (by decide) rfl q1548 dX2_what_88 (np := 91) rfl ?_
                        refine g_iconst F (v := (nI 1)) dX2_what_91 (by decide) (np := 92) rfl ?_
                        refine WG.eqv (st' := [.int (nI 1), .int (nI (σ.1 2 + 1)), .ref (ad 0)]) (congrArg (fun z => ([.int (nI 1), .int z, .ref (ad 0)] : List Value)) (show (nI (σ1.1 2)) = (nI (σ.1 2 + 1)) from by rw [e3])) rfl ?_
                        refine g_isubN F (by omega) dX2_what_92 (np := 93) rfl ?_
                        refine g_iload_n F dX2_what_93 rfl rfl (np := 94) rfl ?_
                        refine g_iconst F (v := (-1)) dX2_what_94 (by decide) (np := 95) rfl ?_
                        refine g_iload F dX2_what_95 rfl (np := 97) rfl ?_
                        refine g_iload_n F dX2_what_97 rfl rfl (np := 98) rfl ?_
                        refine g_bipush F (v := (nI 100)) dX2_what_98 (by decide) (np := 100) rfl ?_
                        refine g_idivN F (by omega) (by decide) (by decide) dX2_what_100 (np := 101) rfl ?_
                        refine g_iload_n F dX2_what_101 rfl rfl (np := 102) rfl ?_
                        refine g_bipush F (v := (nI 100)) dX2_what_102 (by decide) (np := 104) rfl ?_
                        refine g_iremN F (by omega) (by decide) (by decide) dX2_what_104 (np := 105) rfl ?_
                        refine g_runV F (C := RX2) (ci := 2) (T0 := TX2) (N := 42) (rest := []) (ct_X2_becomesOne hE σ1 ((σ.1 2 + 1) - 1) o (-1) (nI (k0)) (nI (kl.toNatClampNeg / 100)) (nI (kl.toNatClampNeg % 100)) (by omega)) (lw_V q1696 q1698 qs56 q102 q1699) hcV_X2_becomesOne ⟨Nat.le_of_ble_eq_true rfl, Nat.le_of_ble_eq_true rfl⟩ rfl (fun h hs => hs.obj) rfl rfl (Nat.le_of_ble_eq_true rfl) dX2_what_105 ⟨Nat.le_of_ble_eq_true rfl, Nat.le_of_ble_eq_true rfl⟩ (np := 108) rfl (k_RV ?_)
                        have hsg108 : (tOne σ o (nI k0) (nI (kl.toNatClampNeg / 100)) (nI (kl.toNatClampNeg % 100))) = (bOne σ1 ((σ.1 2 + 1) - 1) o (-1) (nI (k0)) (nI (kl.toNatClampNeg / 100)) (nI (kl.toNatClampNeg % 100))) := by
                          rcases h4 with ⟨-, z⟩ | ⟨-, z⟩
                          · rw [z]; rfl
                          · rw [z]; exact (bOne_twice _ (by omega) _ _ _ _ _ _).symm
                        refine WG.weak (S' := MH D ad h0 (tOne σ o (nI k0) (nI (kl.toNatClampNeg / 100)) (nI (kl.toNatClampNeg % 100)))) (fun h hs => by rw [hsg108]; exact hs) ?_
                        have hst : sStands (mV (tOne σ o (nI k0) (nI (kl.toNatClampNeg / 100)) (nI (kl.toNatClampNeg % 100))) L) (σ.1 6) o (nI (xt.toNatClampNeg / 100)) (xt.toNatClampNeg % 100) ↔ sWhatK (mV σ L) (σ.1 6) o kl.toNatClampNeg xt.toNatClampNeg k0 := tOne_stands (σ := σ) (L := L) (by omega) o (nI k0) (nI (kl.toNatClampNeg / 100)) (nI (kl.toNatClampNeg % 100)) (nI (xt.toNatClampNeg / 100)) (xt.toNatClampNeg % 100)
                        refine g_aload_n F dX2_what_108 rfl rfl (np := 109) rfl ?_
                        refine g_iload_n F dX2_what_109 rfl rfl (np := 110) rfl ?_
                        refine g_iload_n F dX2_what_110 rfl rfl (np := 111) rfl ?_
                        refine g_runV F (C := RX2) (ci := 2) (T0 := TX2) (N := 42) (rest := []) (ct_X2_stands hE (tOne σ o (nI k0) (nI (kl.toNatClampNeg / 100)) (nI (kl.toNatClampNeg % 100))) L o xt.toNatClampNeg (by exact tOne_OK hok (by omega) (by assumption) _ _ _) (by omega)) (lw_V q1876 q1878 qs82 q102 q1879) hcV_X2_stands ⟨Nat.le_of_ble_eq_true rfl, Nat.le_of_ble_eq_true rfl⟩ rfl (fun h hs => hs.obj) rfl rfl (Nat.le_of_ble_eq_true rfl) dX2_what_111 ⟨Nat.le_of_ble_eq_true rfl, Nat.le_of_ble_eq_true rfl⟩ (np := 114) rfl (k_RI ?_)
                        refine g_if_eqB F dX2_what_114 (tp := 121) (by decide) (np := 117) rfl (fun c114 => ?_) (fun c114 => ?_)
                        · refine g_iinc F (v := (nI (k0) - 1)) (lv' := [some (.ref (ad 0)), some (.int o), some (.int (nI (kl.toNatClampNeg))), some (.int (nI (xt.toNatClampNeg))), some (.int f), some (.int (nI (k0) - 1))]) dX2_what_121 rfl (zi_sub1 _) (by decide) rfl rfl (np := 124) rfl ?_
                          refine g_goto F dX2_what_124 (np := 81) (by decide) ?_
                          exact ih81 f (nI (k0) - 1) k0 (((tOne σ o (nI k0) (nI (kl.toNatClampNeg / 100)) (nI (kl.toNatClampNeg % 100))))) (by rw [show 100 - k0 = (100 - (k0 + 1)) + 1 by omega]; first | (rw [sLeast_t (hst.mp ‹_›)]; rfl) | (rw [sLeast_f (fun z => ‹¬ _› (hst.mpr z))]; exact h1)) (by first | assumption | omega) (by rfl) (by exact Or.inr ⟨by omega, rfl⟩) (by omega)
                        · refine g_iload F dX2_what_117 rfl (np := 119) rfl ?_
                          refine g_istore F (lv' := [some (.ref (ad 0)), some (.int o), some (.int (nI (kl.toNatClampNeg))), some (.int (nI (xt.toNatClampNeg))), some (.int (nI k0)), some (.int (nI k0))]) dX2_what_119 (by decide) rfl rfl (np := 121) rfl ?_
                          refine g_iinc F (v := (nI (k0) - 1)) (lv' := [some (.ref (ad 0)), some (.int o), some (.int (nI (kl.toNatClampNeg))), some (.int (nI (xt.toNatClampNeg))), some (.int (nI k0)), some (.int (nI (k0) - 1))]) dX2_what_121 rfl (zi_sub1 _) (by decide) rfl rfl (np := 124) rfl ?_
                          refine g_goto F dX2_what_124 (np := 81) (by decide) ?_
                          exact ih81 (nI (k0)) (nI (k0) - 1) k0 (((tOne σ o (nI k0) (nI (kl.toNatClampNeg / 100)) (nI (kl.toNatClampNeg % 100))))) (by rw [show 100 - k0 = (100 - (k0 + 1)) + 1 by omega]; first | (rw [sLeast_t (hst.mp ‹_›)]; rfl) | (rw [sLeast_f (fun z => ‹¬ _› (hst.mpr z))]; exact h1)) (by first | assumption | omega) (by rfl) (by exact Or.inr ⟨by omega, rfl⟩) (by omega)
                  exact L81 _ (-2) (nI (99)) 100 ((sN σ 2 ((σ.1 2) + 1))) (by rfl) (by omega) (by decide) (by exact Or.inl ⟨rfl, rfl⟩) (Nat.lt_succ_self _)
                · refine g_bipush F (v := (-2)) dX2_what_60 (by decide) (np := 62) rfl ?_
                  exact g_iret F hr rfl (Nat.le_of_ble_eq_true rfl) (Nat.le_of_ble_eq_true rfl) dX2_what_62 (fun h hs => by rw [← hT]; exact ⟨_, σ, ⟨(by unfold rWhat; rw [pif_t hW, if_pos (show (mV σ L).2.2.1 = 14 from c57)]), Or.inl rfl⟩, rfl, hs⟩)
              · refine g_iconst F (v := (-1)) dX2_what_49 (by decide) (np := 50) rfl ?_
                exact g_iret F hr rfl (Nat.le_of_ble_eq_true rfl) (Nat.le_of_ble_eq_true rfl) dX2_what_50 (fun h hs => by rw [← hT]; exact ⟨_, σ, ⟨(by unfold rWhat; rw [pif_f (fun z => by obtain ⟨z1, z2, z3, z4, z5, z6, z7⟩ := z; first | exact ‹¬ inN _ _› z1 | exact z2 ‹_› | exact z5 ‹_› | (exact absurd ‹_› z4) | omega)]), Or.inl rfl⟩, rfl, hs⟩)
