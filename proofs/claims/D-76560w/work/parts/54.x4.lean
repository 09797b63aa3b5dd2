/-! WALKS (printed by walk.py): holder, ringOf, endOf, owedTo, holds, share, bestOf, byDeed, byTurns -/
set_option maxRecDepth 100000
set_option maxRecDepth 100000 in
theorem ct_X0_holder {l : Launch} {D : va_G} {B : Nat} {Λ : LT} {I : AH} {L : LawT} (σ : MSt)  (o : Int32) (hok : mOK σ L) (hm14 : σ.1 2 ≤ 14) (hbO : byOK σ) : Ct l D ZE B yX0_holder cX0_holder 3 (some .int) 204 4691 0 0 [.ref (Λ.1 0 38), .int o] (XH D Λ I L σ) (RI (sHold (mV σ L) (σ.1 6) o) (XH D Λ I L σ)) := by
  refine Ct.of (nL := 3) (lv := [some (.ref (Λ.1 0 38)), some (.int o), none]) (by decide) (Nat.le_of_ble_eq_true rfl) stZE 1 rfl ?_
  generalize hT : RI (sHold (mV σ L) (σ.1 6) o) (XH D Λ I L σ) = T
  intro zp ze zs zm zb zt zc F hr hnm
  generalize ([.ref (Λ.1 0 38), .int o] : List Value).toArray = za at F ⊢
  have hok2 := hok
  obtain ⟨ho8, hm15, ht99, hby, hlaw⟩ := hok2
  refine g_aload_n F dX0_holder_0 rfl rfl (np := 1) rfl ?_
  refine g_iload_n F dX0_holder_1 rfl rfl (np := 2) rfl ?_
  refine g_runV F (C := RX0) (ci := 0) (T0 := TX0) (N := 38) (rest := []) (ct_X0_roofOf σ o (by first | assumption | omega) (by first | assumption | omega) (by first | assumption | omega)) (lw_V q889 q891 qs28 q100 q892) hcV_X0_roofOf ⟨Nat.le_of_ble_eq_true rfl, Nat.le_of_ble_eq_true rfl⟩ rfl (fun h hs => hs.obj) rfl rfl (Nat.le_of_ble_eq_true rfl) dX0_holder_2 ⟨Nat.le_of_ble_eq_true rfl, Nat.le_of_ble_eq_true rfl⟩ (np := 5) rfl (k_RI ?_)
  refine g_istore_n F (lv' := [some (.ref (Λ.1 0 38)), some (.int o), some (.int (oI (sRoof (mV σ L) (σ.1 6) o)))]) dX0_holder_5 rfl (by decide) rfl rfl (np := 6) rfl ?_
  refine g_iload_n F dX0_holder_6 rfl rfl (np := 7) rfl ?_
  refine g_if_lt F dX0_holder_7 (tp := 22) (by decide) (np := 10) rfl (fun c7 => ?_) (fun c7 => ?_)
  · refine g_bipush F (v := (-2)) dX0_holder_22 (by decide) (np := 24) rfl ?_
    refine g_goto F dX0_holder_24 (np := 36) (by decide) ?_
    have hv : -2 = sHold (mV σ L) (σ.1 6) o := by first | (unfold sHold; rw [(oI_lt (r := sRoof (mV σ L) (σ.1 6) o) (sRoofN_lt _ _ _ (σ.1 2)) (by omega)).mp c7]; done) | (unfold sHold; rw [show sRoof (mV σ L) (σ.1 6) o = some r0 from hr1]; show _ = (if σ.2.1 5 r0 < 0 then (-2 : Int32) else σ.2.1 5 r0); rw [if_pos (Int32.not_le.mp c19)]; done) | (unfold sHold; rw [show sRoof (mV σ L) (σ.1 6) o = some r0 from hr1]; show _ = (if σ.2.1 5 r0 < 0 then (-2 : Int32) else σ.2.1 5 r0); rw [if_neg (Int32.not_lt.mpr c19)])
    exact g_iret F hr rfl (Nat.le_of_ble_eq_true rfl) (Nat.le_of_ble_eq_true rfl) dX0_holder_36 (fun h hs => by rw [← hT]; exact ⟨congrArg (fun z => some (Value.int z)) hv, hs⟩)
  · obtain ⟨r0, hr1, hr2, hr3⟩ := oI_some2 (sRoofN_lt _ _ _ (σ.1 2)) (by omega) c7
    refine WG.eqv (lv' := [some (.ref (Λ.1 0 38)), some (.int o), some (.int (nI r0))]) rfl (congrArg (fun z => ([some (.ref (Λ.1 0 38)), some (.int o), some (.int z)] : List (Option Value))) (show (oI (sRoof (mV σ L) (σ.1 6) o)) = (nI r0) from by exact hr2)) ?_
    refine g_aload_n F dX0_holder_10 rfl rfl (np := 11) rfl ?_
    refine x_get F (k := 1) (v := .ref (Λ.1 0 1)) (by decide) rfl (Or.inl q178) dX0_holder_11 (np := 14) rfl ?_
    refine g_iload_n F dX0_holder_14 rfl rfl (np := 15) rfl ?_
    refine x_aldP F (i := r0) rfl (show r0 < σ.1 2 by omega) (show σ.1 2 ≤ 14 by omega) dX0_holder_15 (np := 16) rfl ?_
    refine x_getP F (k := 1) (i := r0) (v := .int (σ.2.1 5 r0)) (by decide) (show r0 < σ.1 2 by omega) rfl (Or.inr ⟨_, ze335⟩) dX0_holder_16 (np := 19) rfl ?_
    refine g_if_ge F dX0_holder_19 (tp := 27) (by decide) (np := 22) rfl (fun c19 => ?_) (fun c19 => ?_)
    · refine g_aload_n F dX0_holder_27 rfl rfl (np := 28) rfl ?_
      refine x_get F (k := 1) (v := .ref (Λ.1 0 1)) (by decide) rfl (Or.inl q178) dX0_holder_28 (np := 31) rfl ?_
      refine g_iload_n F dX0_holder_31 rfl rfl (np := 32) rfl ?_
      refine x_aldP F (i := r0) rfl (show r0 < σ.1 2 by omega) (show σ.1 2 ≤ 14 by omega) dX0_holder_32 (np := 33) rfl ?_
      refine x_getP F (k := 1) (i := r0) (v := .int (σ.2.1 5 r0)) (by decide) (show r0 < σ.1 2 by omega) rfl (Or.inr ⟨_, ze335⟩) dX0_holder_33 (np := 36) rfl ?_
      have hv : σ.2.1 5 r0 = sHold (mV σ L) (σ.1 6) o := by first | (unfold sHold; rw [(oI_lt (r := sRoof (mV σ L) (σ.1 6) o) (sRoofN_lt _ _ _ (σ.1 2)) (by omega)).mp c7]; done) | (unfold sHold; rw [show sRoof (mV σ L) (σ.1 6) o = some r0 from hr1]; show _ = (if σ.2.1 5 r0 < 0 then (-2 : Int32) else σ.2.1 5 r0); rw [if_pos (Int32.not_le.mp c19)]; done) | (unfold sHold; rw [show sRoof (mV σ L) (σ.1 6) o = some r0 from hr1]; show _ = (if σ.2.1 5 r0 < 0 then (-2 : Int32) else σ.2.1 5 r0); rw [if_neg (Int32.not_lt.mpr c19)])
      exact g_iret F hr rfl (Nat.le_of_ble_eq_true rfl) (Nat.le_of_ble_eq_true rfl) dX0_holder_36 (fun h hs => by rw [← hT]; exact ⟨congrArg (fun z => some (Value.int z)) hv, hs⟩)
    · refine g_bipush F (v := (-2)) dX0_holder_22 (by decide) (np := 24) rfl ?_
      refine g_goto F dX0_holder_24 (np := 36) (by decide) ?_
      have hv : -2 = sHold (mV σ L) (σ.1 6) o := by first | (unfold sHold; rw [(oI_lt (r := sRoof (mV σ L) (σ.1 6) o) (sRoofN_lt _ _ _ (σ.1 2)) (by omega)).mp c7]; done) | (unfold sHold; rw [show sRoof (mV σ L) (σ.1 6) o = some r0 from hr1]; show _ = (if σ.2.1 5 r0 < 0 then (-2 : Int32) else σ.2.1 5 r0); rw [if_pos (Int32.not_le.mp c19)]; done) | (unfold sHold; rw [show sRoof (mV σ L) (σ.1 6) o = some r0 from hr1]; show _ = (if σ.2.1 5 r0 < 0 then (-2 : Int32) else σ.2.1 5 r0); rw [if_neg (Int32.not_lt.mpr c19)])
      exact g_iret F hr rfl (Nat.le_of_ble_eq_true rfl) (Nat.le_of_ble_eq_true rfl) dX0_holder_36 (fun h hs => by rw [← hT]; exact ⟨congrArg (fun z => some (Value.int z)) hv, hs⟩)

set_option maxRecDepth 100000 in
theorem ct_X0_ringOf {l : Launch} {D : va_G} {B : Nat} {Λ : LT} {I : AH} {L : LawT} (σ : MSt)  (o : Int32) (hok : mOK σ L) (hm14 : σ.1 2 ≤ 14) (hbO : byOK σ) : Ct l D ZE B yX0_ringOf cX0_ringOf 4 (some .int) 205 4713 0 0 [.ref (Λ.1 0 38), .int o] (XH D Λ I L σ) (RI (sRing (mV σ L) (σ.1 6) o (σ.1 0) 1 (sHold (mV σ L) (σ.1 6) o)) (XH D Λ I L σ)) := by
  refine Ct.of (nL := 4) (lv := [some (.ref (Λ.1 0 38)), some (.int o), none, none]) (by decide) (Nat.le_of_ble_eq_true rfl) stZE 2 rfl ?_
  generalize hT : RI (sRing (mV σ L) (σ.1 6) o (σ.1 0) 1 (sHold (mV σ L) (σ.1 6) o)) (XH D Λ I L σ) = T
  intro zp ze zs zm zb zt zc F hr hnm
  generalize ([.ref (Λ.1 0 38), .int o] : List Value).toArray = za at F ⊢
  have hok2 := hok
  obtain ⟨ho8, hm15, ht99, hby, hlaw⟩ := hok2
  refine g_iconst F (v := (nI 1)) dX0_ringOf_0 (by decide) (np := 1) rfl ?_
  refine g_istore_n F (lv' := [some (.ref (Λ.1 0 38)), some (.int o), some (.int (nI 1)), none]) dX0_ringOf_1 rfl (by decide) rfl rfl (np := 2) rfl ?_
  refine g_aload_n F dX0_ringOf_2 rfl rfl (np := 3) rfl ?_
  refine g_iload_n F dX0_ringOf_3 rfl rfl (np := 4) rfl ?_
  refine g_runV F (C := RX0) (ci := 0) (T0 := TX0) (N := 38) (rest := []) (ct_X0_holder σ o (by first | assumption | omega) (by first | assumption | omega) (by first | assumption | omega)) (lw_V q958 q960 qs37 q100 q961) hcV_X0_holder ⟨Nat.le_of_ble_eq_true rfl, Nat.le_of_ble_eq_true rfl⟩ rfl (fun h hs => hs.obj) rfl rfl (Nat.le_of_ble_eq_true rfl) dX0_ringOf_4 ⟨Nat.le_of_ble_eq_true rfl, Nat.le_of_ble_eq_true rfl⟩ (np := 7) rfl (k_RI ?_)
  refine g_istore_n F (lv' := [some (.ref (Λ.1 0 38)), some (.int o), some (.int (nI 1)), some (.int (sHold (mV σ L) (σ.1 6) o))]) dX0_ringOf_7 rfl (by decide) rfl rfl (np := 8) rfl ?_
  have L8 : ∀ (zn : Nat) (k : Nat) (q : Int32), (sRing (mV σ L) (σ.1 6) o (σ.1 0 + 1 - k) k q = sRing (mV σ L) (σ.1 6) o (σ.1 0) 1 (sHold (mV σ L) (σ.1 6) o)) → (1 ≤ k ∧ k ≤ σ.1 0 + 1) → (q < 0 ↔ q = -2) → σ.1 0 + 1 - k < zn → WG zp l ze ({ frames := 205, cells := 0, slots := 0, locals := 4713 } : Room) zs zm za zb zt zc D B 4 (MQ zb (QT D B T) za zs 0 0 (zA B)) (XH D Λ I L σ) 0 0 8 [some (.ref (Λ.1 0 38)), some (.int o), some (.int (nI k)), some (.int q)] [] := by
    intro zn
    induction zn with
    | zero => intro k q h1 h2 h3 hm; exact absurd hm (Nat.not_lt_zero _)
    | succ zn ih8 =>
      intro k q h1 h2 h3 hm
      refine g_iload_n F dX0_ringOf_8 rfl rfl (np := 9) rfl ?_
      refine g_if_lt F dX0_ringOf_9 (tp := 39) (by decide) (np := 12) rfl (fun c9 => ?_) (fun c9 => ?_)
      · refine g_bipush F (v := (-2)) dX0_ringOf_39 (by decide) (np := 41) rfl ?_
        have hv : -2 = sRing (mV σ L) (σ.1 6) o (σ.1 0) 1 (sHold (mV σ L) (σ.1 6) o) := by first | (rw [← h1, show σ.1 0 + 1 - k = 0 by omega]; rfl) | (rw [← h1]; rcases Nat.eq_zero_or_pos (σ.1 0 + 1 - k) with z | z; rw [z]; rfl; obtain ⟨m, hm⟩ : ∃ m, σ.1 0 + 1 - k = m + 1 := ⟨σ.1 0 + 1 - k - 1, by omega⟩; rw [hm, sRing_s, if_pos (h3.mp c9)])
        exact g_iret F hr rfl (Nat.le_of_ble_eq_true rfl) (Nat.le_of_ble_eq_true rfl) dX0_ringOf_41 (fun h hs => by rw [← hT]; exact ⟨congrArg (fun z => some (Value.int z)) hv, hs⟩)
      · refine g_iload_n F dX0_ringOf_12 rfl rfl (np := 13) rfl ?_
        refine g_aload_n F dX0_ringOf_13 rfl rfl (np := 14) rfl ?_
        refine x_get F (k := 2) (v := .int (nI (σ.1 0))) (by decide) rfl (Or.inl q179) dX0_ringOf_14 (np := 17) rfl ?_
        refine g_icmp_gtN F (by omega) (by omega) dX0_ringOf_17 (tp := 39) (by decide) (np := 20) rfl (fun c17 => ?_) (fun c17 => ?_)
        · refine g_bipush F (v := (-2)) dX0_ringOf_39 (by decide) (np := 41) rfl ?_
          have hv : -2 = sRing (mV σ L) (σ.1 6) o (σ.1 0) 1 (sHold (mV σ L) (σ.1 6) o) := by first | (rw [← h1, show σ.1 0 + 1 - k = 0 by omega]; rfl) | (rw [← h1]; rcases Nat.eq_zero_or_pos (σ.1 0 + 1 - k) with z | z; rw [z]; rfl; obtain ⟨m, hm⟩ : ∃ m, σ.1 0 + 1 - k = m + 1 := ⟨σ.1 0 + 1 - k - 1, by omega⟩; rw [hm, sRing_s, if_pos (h3.mp c9)])
          exact g_iret F hr rfl (Nat.le_of_ble_eq_true rfl) (Nat.le_of_ble_eq_true rfl) dX0_ringOf_41 (fun h hs => by rw [← hT]; exact ⟨congrArg (fun z => some (Value.int z)) hv, hs⟩)
        · refine g_iload_n F dX0_ringOf_20 rfl rfl (np := 21) rfl ?_
          refine g_iload_n F dX0_ringOf_21 rfl rfl (np := 22) rfl ?_
          refine g_icmp_ne F dX0_ringOf_22 (tp := 27) (by decide) (np := 25) rfl (fun c22 => ?_) (fun c22 => ?_)
          · refine g_iinc F (v := (nI (k + 1))) (lv' := [some (.ref (Λ.1 0 38)), some (.int o), some (.int (nI (k + 1))), some (.int q)]) dX0_ringOf_27 rfl (nI_add _ _) (by decide) rfl rfl (np := 30) rfl ?_
            refine g_aload_n F dX0_ringOf_30 rfl rfl (np := 31) rfl ?_
            refine g_iload_n F dX0_ringOf_31 rfl rfl (np := 32) rfl ?_
            refine g_runV F (C := RX0) (ci := 0) (T0 := TX0) (N := 38) (rest := []) (ct_X0_holder σ q (by first | assumption | omega) (by first | assumption | omega) (by first | assumption | omega)) (lw_V q958 q960 qs37 q100 q961) hcV_X0_holder ⟨Nat.le_of_ble_eq_true rfl, Nat.le_of_ble_eq_true rfl⟩ rfl (fun h hs => hs.obj) rfl rfl (Nat.le_of_ble_eq_true rfl) dX0_ringOf_32 ⟨Nat.le_of_ble_eq_true rfl, Nat.le_of_ble_eq_true rfl⟩ (np := 35) rfl (k_RI ?_)
            refine g_istore_n F (lv' := [some (.ref (Λ.1 0 38)), some (.int o), some (.int (nI (k + 1))), some (.int (sHold (mV σ L) (σ.1 6) q))]) dX0_ringOf_35 rfl (by decide) rfl rfl (np := 36) rfl ?_
            refine g_goto F dX0_ringOf_36 (np := 8) (by decide) ?_
            exact ih8 (k + 1) (sHold (mV σ L) (σ.1 6) q) (by rw [← h1, show σ.1 0 + 1 - k = (σ.1 0 + 1 - (k + 1)) + 1 by omega, sRing_s, if_neg (fun z => c9 (h3.mpr z)), if_neg c22]) (by omega) (by exact sHold_neg _ _ _) (by omega)
          · refine g_iload_n F dX0_ringOf_25 rfl rfl (np := 26) rfl ?_
            have hv : nI (k) = sRing (mV σ L) (σ.1 6) o (σ.1 0) 1 (sHold (mV σ L) (σ.1 6) o) := by rw [← h1, show σ.1 0 + 1 - k = (σ.1 0 + 1 - (k + 1)) + 1 by omega, sRing_s, if_neg (fun z => c9 (h3.mpr z)), if_pos c22]
            exact g_iret F hr rfl (Nat.le_of_ble_eq_true rfl) (Nat.le_of_ble_eq_true rfl) dX0_ringOf_26 (fun h hs => by rw [← hT]; exact ⟨congrArg (fun z => some (Value.int z)) hv, hs⟩)
  exact L8 _ 1 (sHold (mV σ L) (σ.1 6) o) (by rfl) (by omega) (by exact sHold_neg _ _ _) (Nat.lt_succ_self _)

set_option maxRecDepth 100000 in
theorem ct_X0_endOf {l : Launch} {D : va_G} {B : Nat} {Λ : LT} {I : AH} {L : LawT} (σ : MSt)  (o : Int32) (hok : mOK σ L) (hm14 : σ.1 2 ≤ 14) (hbO : byOK σ) : Ct l D ZE B yX0_endOf cX0_endOf 4 (some .int) 205 4713 0 0 [.ref (Λ.1 0 38), .int o] (XH D Λ I L σ) (RI (sEnd (mV σ L) (σ.1 6) (σ.1 0 + 1) o) (XH D Λ I L σ)) := by
  refine Ct.of (nL := 4) (lv := [some (.ref (Λ.1 0 38)), some (.int o), none, none]) (by decide) (Nat.le_of_ble_eq_true rfl) stZE 2 rfl ?_
  generalize hT : RI (sEnd (mV σ L) (σ.1 6) (σ.1 0 + 1) o) (XH D Λ I L σ) = T
  intro zp ze zs zm zb zt zc F hr hnm
  generalize ([.ref (Λ.1 0 38), .int o] : List Value).toArray = za at F ⊢
  have hok2 := hok
  obtain ⟨ho8, hm15, ht99, hby, hlaw⟩ := hok2
  refine g_iload_n F dX0_endOf_0 rfl rfl (np := 1) rfl ?_
  refine g_istore_n F (lv' := [some (.ref (Λ.1 0 38)), some (.int o), some (.int o), none]) dX0_endOf_1 rfl (by decide) rfl rfl (np := 2) rfl ?_
  refine g_iconst F (v := (nI 0)) dX0_endOf_2 (by decide) (np := 3) rfl ?_
  refine g_istore_n F (lv' := [some (.ref (Λ.1 0 38)), some (.int o), some (.int o), some (.int (nI 0))]) dX0_endOf_3 rfl (by decide) rfl rfl (np := 4) rfl ?_
  have L4 : ∀ (zn : Nat) (q : Int32) (k : Nat), (sEnd (mV σ L) (σ.1 6) (σ.1 0 + 1 - k) q = sEnd (mV σ L) (σ.1 6) (σ.1 0 + 1) o) → (k ≤ σ.1 0 + 1) → σ.1 0 + 1 - k < zn → WG zp l ze ({ frames := 205, cells := 0, slots := 0, locals := 4713 } : Room) zs zm za zb zt zc D B 4 (MQ zb (QT D B T) za zs 0 0 (zA B)) (XH D Λ I L σ) 0 0 4 [some (.ref (Λ.1 0 38)), some (.int o), some (.int q), some (.int (nI k))] [] := by
    intro zn
    induction zn with
    | zero => intro q k h1 h2 hm; exact absurd hm (Nat.not_lt_zero _)
    | succ zn ih4 =>
      intro q k h1 h2 hm
      refine g_iload_n F dX0_endOf_4 rfl rfl (np := 5) rfl ?_
      refine g_aload_n F dX0_endOf_5 rfl rfl (np := 6) rfl ?_
      refine x_get F (k := 2) (v := .int (nI (σ.1 0))) (by decide) rfl (Or.inl q179) dX0_endOf_6 (np := 9) rfl ?_
      refine g_icmp_gtN F (by omega) (by omega) dX0_endOf_9 (tp := 34) (by decide) (np := 12) rfl (fun c9 => ?_) (fun c9 => ?_)
      · refine g_bipush F (v := (-2)) dX0_endOf_34 (by decide) (np := 36) rfl ?_
        have hv : -2 = sEnd (mV σ L) (σ.1 6) (σ.1 0 + 1) o := by rw [← h1, show σ.1 0 + 1 - k = 0 by omega]; rfl
        exact g_iret F hr rfl (Nat.le_of_ble_eq_true rfl) (Nat.le_of_ble_eq_true rfl) dX0_endOf_36 (fun h hs => by rw [← hT]; exact ⟨congrArg (fun z => some (Value.int z)) hv, hs⟩)
      · refine g_aload_n F dX0_endOf_12 rfl rfl (np := 13) rfl ?_
        refine g_iload_n F dX0_endOf_13 rfl rfl (np := 14) rfl ?_
        refine g_runV F (C := RX0) (ci := 0) (T0 := TX0) (N := 38) (rest := []) (ct_X0_holder σ q (by first | assumption | omega) (by first | assumption | omega) (by first | assumption | omega)) (lw_V q958 q960 qs37 q100 q961) hcV_X0_holder ⟨Nat.le_of_ble_eq_true rfl, Nat.le_of_ble_eq_true rfl⟩ rfl (fun h hs => hs.obj) rfl rfl (Nat.le_of_ble_eq_true rfl) dX0_endOf_14 ⟨Nat.le_of_ble_eq_true rfl, Nat.le_of_ble_eq_true rfl⟩ (np := 17) rfl (k_RI ?_)
        refine g_if_ge F dX0_endOf_17 (tp := 22) (by decide) (np := 20) rfl (fun c17 => ?_) (fun c17 => ?_)
        · refine g_aload_n F dX0_endOf_22 rfl rfl (np := 23) rfl ?_
          refine g_iload_n F dX0_endOf_23 rfl rfl (np := 24) rfl ?_
          refine g_runV F (C := RX0) (ci := 0) (T0 := TX0) (N := 38) (rest := []) (ct_X0_holder σ q (by first | assumption | omega) (by first | assumption | omega) (by first | assumption | omega)) (lw_V q958 q960 qs37 q100 q961) hcV_X0_holder ⟨Nat.le_of_ble_eq_true rfl, Nat.le_of_ble_eq_true rfl⟩ rfl (fun h hs => hs.obj) rfl rfl (Nat.le_of_ble_eq_true rfl) dX0_endOf_24 ⟨Nat.le_of_ble_eq_true rfl, Nat.le_of_ble_eq_true rfl⟩ (np := 27) rfl (k_RI ?_)
          refine g_istore_n F (lv' := [some (.ref (Λ.1 0 38)), some (.int o), some (.int (sHold (mV σ L) (σ.1 6) q)), some (.int (nI k))]) dX0_endOf_27 rfl (by decide) rfl rfl (np := 28) rfl ?_
          refine g_iinc F (v := (nI (k + 1))) (lv' := [some (.ref (Λ.1 0 38)), some (.int o), some (.int (sHold (mV σ L) (σ.1 6) q)), some (.int (nI (k + 1)))]) dX0_endOf_28 rfl (nI_add _ _) (by decide) rfl rfl (np := 31) rfl ?_
          refine g_goto F dX0_endOf_31 (np := 4) (by decide) ?_
          exact ih4 (sHold (mV σ L) (σ.1 6) q) (k + 1) (by rw [← h1, show σ.1 0 + 1 - k = (σ.1 0 + 1 - (k + 1)) + 1 by omega]; rw [sEnd, if_neg (fun z => Int32.not_lt.mpr c17 ((sHold_neg _ _ _).mpr z))]) (by omega) (by omega)
        · refine g_iload_n F dX0_endOf_20 rfl rfl (np := 21) rfl ?_
          have hv : q = sEnd (mV σ L) (σ.1 6) (σ.1 0 + 1) o := by rw [← h1, show σ.1 0 + 1 - k = (σ.1 0 + 1 - (k + 1)) + 1 by omega]; rw [sEnd, if_pos ((sHold_neg _ _ _).mp (Int32.not_le.mp c17))]
          exact g_iret F hr rfl (Nat.le_of_ble_eq_true rfl) (Nat.le_of_ble_eq_true rfl) dX0_endOf_21 (fun h hs => by rw [← hT]; exact ⟨congrArg (fun z => some (Value.int z)) hv, hs⟩)
  exact L4 _ o 0 (by rfl) (by omega) (Nat.lt_succ_self _)

set_option maxRecDepth 100000 in
theorem ct_X0_owedTo {l : Launch} {D : va_G} {B : Nat} {Λ : LT} {I : AH} {L : LawT} (σ : MSt)  (o : Int32) (hm14 : σ.1 2 ≤ 14) : Ct l D ZE B yX0_owedTo cX0_owedTo 4 (some .int) 1 21 0 0 [.ref (Λ.1 0 38), .int o] (XH D Λ I L σ) (RI (sOwed (mP σ) (σ.1 6) o (σ.1 2)) (XH D Λ I L σ)) := by
  refine Ct.of (nL := 4) (lv := [some (.ref (Λ.1 0 38)), some (.int o), none, none]) (by decide) (Nat.le_of_ble_eq_true rfl) stZE 2 rfl ?_
  generalize hT : RI (sOwed (mP σ) (σ.1 6) o (σ.1 2)) (XH D Λ I L σ) = T
  intro zp ze zs zm zb zt zc F hr hnm
  generalize ([.ref (Λ.1 0 38), .int o] : List Value).toArray = za at F ⊢
  refine g_iconst F (v := (nI 0)) dX0_owedTo_0 (by decide) (np := 1) rfl ?_
  refine g_istore_n F (lv' := [some (.ref (Λ.1 0 38)), some (.int o), some (.int (nI 0)), none]) dX0_owedTo_1 rfl (by decide) rfl rfl (np := 2) rfl ?_
  refine g_iconst F (v := (nI 0)) dX0_owedTo_2 (by decide) (np := 3) rfl ?_
  refine g_istore_n F (lv' := [some (.ref (Λ.1 0 38)), some (.int o), some (.int (nI 0)), some (.int (nI 0))]) dX0_owedTo_3 rfl (by decide) rfl rfl (np := 4) rfl ?_
  have L4 : ∀ (zn : Nat) (a : Int32) (p : Nat), (a = sOwed (mP σ) (σ.1 6) o p) → (p ≤ σ.1 2) → σ.1 2 - p < zn → WG zp l ze ({ frames := 1, cells := 0, slots := 0, locals := 21 } : Room) zs zm za zb zt zc D B 4 (MQ zb (QT D B T) za zs 0 0 (zA B)) (XH D Λ I L σ) 0 0 4 [some (.ref (Λ.1 0 38)), some (.int o), some (.int a), some (.int (nI p))] [] := by
    intro zn
    induction zn with
    | zero => intro a p h1 h2 hm; exact absurd hm (Nat.not_lt_zero _)
    | succ zn ih4 =>
      intro a p h1 h2 hm
      refine g_iload_n F dX0_owedTo_4 rfl rfl (np := 5) rfl ?_
      refine g_aload_n F dX0_owedTo_5 rfl rfl (np := 6) rfl ?_
      refine x_get F (k := 3) (v := .int (nI (σ.1 2))) (by decide) rfl (Or.inl q180) dX0_owedTo_6 (np := 9) rfl ?_
      refine g_icmp_geN F (by omega) (by omega) dX0_owedTo_9 (tp := 90) (by decide) (np := 12) rfl (fun c9 => ?_) (fun c9 => ?_)
      · refine g_iload_n F dX0_owedTo_90 rfl rfl (np := 91) rfl ?_
        have hv : a = sOwed (mP σ) (σ.1 6) o (σ.1 2) := by rw [h1, show p = σ.1 2 by omega]
        exact g_iret F hr rfl (Nat.le_of_ble_eq_true rfl) (Nat.le_of_ble_eq_true rfl) dX0_owedTo_91 (fun h hs => by rw [← hT]; exact ⟨congrArg (fun z => some (Value.int z)) hv, hs⟩)
      · refine g_aload_n F dX0_owedTo_12 rfl rfl (np := 13) rfl ?_
        refine x_get F (k := 1) (v := .ref (Λ.1 0 1)) (by decide) rfl (Or.inl q178) dX0_owedTo_13 (np := 16) rfl ?_
        refine g_iload_n F dX0_owedTo_16 rfl rfl (np := 17) rfl ?_
        refine x_aldP F (i := p) rfl (show p < σ.1 2 by omega) (show σ.1 2 ≤ 14 by omega) dX0_owedTo_17 (np := 18) rfl ?_
        refine g_aload_n F dX0_owedTo_18 rfl rfl (np := 19) rfl ?_
        refine x_get F (k := 4) (v := .int (nI (σ.1 6))) (by decide) rfl (Or.inl q181) dX0_owedTo_19 (np := 22) rfl ?_
        refine g_runV F (C := RX4) (ci := 4) (T0 := TX4) (N := 7) (rest := []) (ct_X4_isOpen σ p (σ.1 6) (by first | assumption | omega)) (lw_V q820 q821 q822 q104 q823) hcV_X4_isOpen ⟨Nat.le_of_ble_eq_true rfl, Nat.le_of_ble_eq_true rfl⟩ rfl (fun h hs => ⟨_, hs.prm (show p < σ.1 2 by omega)⟩) rfl rfl (Nat.le_of_ble_eq_true rfl) dX0_owedTo_22 ⟨Nat.le_of_ble_eq_true rfl, Nat.le_of_ble_eq_true rfl⟩ (np := 25) rfl (k_RI ?_)
        refine g_if_eqB F dX0_owedTo_25 (tp := 84) (by decide) (np := 28) rfl (fun c25 => ?_) (fun c25 => ?_)
        · refine g_iinc F (v := (nI (p + 1))) (lv' := [some (.ref (Λ.1 0 38)), some (.int o), some (.int a), some (.int (nI (p + 1)))]) dX0_owedTo_84 rfl (nI_add _ _) (by decide) rfl rfl (np := 87) rfl ?_
          refine g_goto F dX0_owedTo_87 (np := 4) (by decide) ?_
          exact ih4 a (p + 1) (by first | (unfold sOwed; rw [pif_f ‹¬ sOpen _ _ _›]; exact h1) | (unfold sOwed; rw [pif_t ‹sOpen _ _ _›, ← h1]; simp only [mP_0, mP_1, mP_2]; simp only [*, if_true, if_false, ite_true, ite_false, nI_0])) (by first | assumption | omega) (by omega)
        · refine g_iload_n F dX0_owedTo_28 rfl rfl (np := 29) rfl ?_
          refine g_aload_n F dX0_owedTo_29 rfl rfl (np := 30) rfl ?_
          refine x_get F (k := 1) (v := .ref (Λ.1 0 1)) (by decide) rfl (Or.inl q178) dX0_owedTo_30 (np := 33) rfl ?_
          refine g_iload_n F dX0_owedTo_33 rfl rfl (np := 34) rfl ?_
          refine x_aldP F (i := p) rfl (show p < σ.1 2 by omega) (show σ.1 2 ≤ 14 by omega) dX0_owedTo_34 (np := 35) rfl ?_
          refine x_getP F (k := 1) (i := p) (v := .int (σ.2.1 5 p)) (by decide) (show p < σ.1 2 by omega) rfl (Or.inr ⟨_, ze335⟩) dX0_owedTo_35 (np := 38) rfl ?_
          refine g_iload_n F dX0_owedTo_38 rfl rfl (np := 39) rfl ?_
          refine g_icmp_ne F dX0_owedTo_39 (tp := 54) (by decide) (np := 42) rfl (fun c39 => ?_) (fun c39 => ?_)
          · refine g_iconst F (v := (nI 0)) dX0_owedTo_54 (by decide) (np := 55) rfl ?_
            refine g_aload_n F dX0_owedTo_55 rfl rfl (np := 56) rfl ?_
            refine x_get F (k := 1) (v := .ref (Λ.1 0 1)) (by decide) rfl (Or.inl q178) dX0_owedTo_56 (np := 59) rfl ?_
            refine g_iload_n F dX0_owedTo_59 rfl rfl (np := 60) rfl ?_
            refine x_aldP F (i := p) rfl (show p < σ.1 2 by omega) (show σ.1 2 ≤ 14 by omega) dX0_owedTo_60 (np := 61) rfl ?_
            refine x_getP F (k := 0) (i := p) (v := .int (σ.2.1 4 p)) (by decide) (show p < σ.1 2 by omega) rfl (Or.inr ⟨_, ze333⟩) dX0_owedTo_61 (np := 64) rfl ?_
            refine g_iload_n F dX0_owedTo_64 rfl rfl (np := 65) rfl ?_
            refine g_icmp_ne F dX0_owedTo_65 (tp := 80) (by decide) (np := 68) rfl (fun c65 => ?_) (fun c65 => ?_)
            · refine g_iconst F (v := (nI 0)) dX0_owedTo_80 (by decide) (np := 81) rfl ?_
              refine g_isub F dX0_owedTo_81 (np := 82) rfl ?_
              refine g_iadd F dX0_owedTo_82 (np := 83) rfl ?_
              refine g_istore_n F (lv' := [some (.ref (Λ.1 0 38)), some (.int o), some (.int (a + ((nI (0)) - (nI (0))))), some (.int (nI p))]) dX0_owedTo_83 rfl (by decide) rfl rfl (np := 84) rfl ?_
              refine g_iinc F (v := (nI (p + 1))) (lv' := [some (.ref (Λ.1 0 38)), some (.int o), some (.int (a + ((nI (0)) - (nI (0))))), some (.int (nI (p + 1)))]) dX0_owedTo_84 rfl (nI_add _ _) (by decide) rfl rfl (np := 87) rfl ?_
              refine g_goto F dX0_owedTo_87 (np := 4) (by decide) ?_
              exact ih4 (a + ((nI (0)) - (nI (0)))) (p + 1) (by first | (unfold sOwed; rw [pif_f ‹¬ sOpen _ _ _›]; exact h1) | (unfold sOwed; rw [pif_t ‹sOpen _ _ _›, ← h1]; simp only [mP_0, mP_1, mP_2]; simp only [*, if_true, if_false, ite_true, ite_false, nI_0])) (by first | assumption | omega) (by omega)
            · refine g_aload_n F dX0_owedTo_68 rfl rfl (np := 69) rfl ?_
              refine x_get F (k := 1) (v := .ref (Λ.1 0 1)) (by decide) rfl (Or.inl q178) dX0_owedTo_69 (np := 72) rfl ?_
              refine g_iload_n F dX0_owedTo_72 rfl rfl (np := 73) rfl ?_
              refine x_aldP F (i := p) rfl (show p < σ.1 2 by omega) (show σ.1 2 ≤ 14 by omega) dX0_owedTo_73 (np := 74) rfl ?_
              refine x_getP F (k := 2) (i := p) (v := .int (σ.2.1 3 p)) (by decide) (show p < σ.1 2 by omega) rfl (Or.inr ⟨_, ze337⟩) dX0_owedTo_74 (np := 77) rfl ?_
              refine g_goto F dX0_owedTo_77 (np := 81) (by decide) ?_
              refine g_isub F dX0_owedTo_81 (np := 82) rfl ?_
              refine g_iadd F dX0_owedTo_82 (np := 83) rfl ?_
              refine g_istore_n F (lv' := [some (.ref (Λ.1 0 38)), some (.int o), some (.int (a + ((nI (0)) - (σ.2.1 3 p)))), some (.int (nI p))]) dX0_owedTo_83 rfl (by decide) rfl rfl (np := 84) rfl ?_
              refine g_iinc F (v := (nI (p + 1))) (lv' := [some (.ref (Λ.1 0 38)), some (.int o), some (.int (a + ((nI (0)) - (σ.2.1 3 p)))), some (.int (nI (p + 1)))]) dX0_owedTo_84 rfl (nI_add _ _) (by decide) rfl rfl (np := 87) rfl ?_
              refine g_goto F dX0_owedTo_87 (np := 4) (by decide) ?_
              exact ih4 (a + ((nI (0)) - (σ.2.1 3 p))) (p + 1) (by first | (unfold sOwed; rw [pif_f ‹¬ sOpen _ _ _›]; exact h1) | (unfold sOwed; rw [pif_t ‹sOpen _ _ _›, ← h1]; simp only [mP_0, mP_1, mP_2]; simp only [*, if_true, if_false, ite_true, ite_false, nI_0])) (by first | assumption | omega) (by omega)
          · refine g_aload_n F dX0_owedTo_42 rfl rfl (np := 43) rfl ?_
            refine x_get F (k := 1) (v := .ref (Λ.1 0 1)) (by decide) rfl (Or.inl q178) dX0_owedTo_43 (np := 46) rfl ?_
            refine g_iload_n F dX0_owedTo_46 rfl rfl (np := 47) rfl ?_
            refine x_aldP F (i := p) rfl (show p < σ.1 2 by omega) (show σ.1 2 ≤ 14 by omega) dX0_owedTo_47 (np := 48) rfl ?_
            refine x_getP F (k := 2) (i := p) (v := .int (σ.2.1 3 p)) (by decide) (show p < σ.1 2 by omega) rfl (Or.inr ⟨_, ze337⟩) dX0_owedTo_48 (np := 51) rfl ?_
            refine g_goto F dX0_owedTo_51 (np := 55) (by decide) ?_
            refine g_aload_n F dX0_owedTo_55 rfl rfl (np := 56) rfl ?_
            refine x_get F (k := 1) (v := .ref (Λ.1 0 1)) (by decide) rfl (Or.inl q178) dX0_owedTo_56 (np := 59) rfl ?_
            refine g_iload_n F dX0_owedTo_59 rfl rfl (np := 60) rfl ?_
            refine x_aldP F (i := p) rfl (show p < σ.1 2 by omega) (show σ.1 2 ≤ 14 by omega) dX0_owedTo_60 (np := 61) rfl ?_
            refine x_getP F (k := 0) (i := p) (v := .int (σ.2.1 4 p)) (by decide) (show p < σ.1 2 by omega) rfl (Or.inr ⟨_, ze333⟩) dX0_owedTo_61 (np := 64) rfl ?_
            refine g_iload_n F dX0_owedTo_64 rfl rfl (np := 65) rfl ?_
            refine g_icmp_ne F dX0_owedTo_65 (tp := 80) (by decide) (np := 68) rfl (fun c65 => ?_) (fun c65 => ?_)
            · refine g_iconst F (v := (nI 0)) dX0_owedTo_80 (by decide) (np := 81) rfl ?_
              refine g_isub F dX0_owedTo_81 (np := 82) rfl ?_
              refine g_iadd F dX0_owedTo_82 (np := 83) rfl ?_
              refine g_istore_n F (lv' := [some (.ref (Λ.1 0 38)), some (.int o), some (.int (a + ((σ.2.1 3 p) - (nI (0))))), some (.int (nI p))]) dX0_owedTo_83 rfl (by decide) rfl rfl (np := 84) rfl ?_
              refine g_iinc F (v := (nI (p + 1))) (lv' := [some (.ref (Λ.1 0 38)), some (.int o), some (.int (a + ((σ.2.1 3 p) - (nI (0))))), some (.int (nI (p + 1)))]) dX0_owedTo_84 rfl (nI_add _ _) (by decide) rfl rfl (np := 87) rfl ?_
              refine g_goto F dX0_owedTo_87 (np := 4) (by decide) ?_
              exact ih4 (a + ((σ.2.1 3 p) - (nI (0)))) (p + 1) (by first | (unfold sOwed; rw [pif_f ‹¬ sOpen _ _ _›]; exact h1) | (unfold sOwed; rw [pif_t ‹sOpen _ _ _›, ← h1]; simp only [mP_0, mP_1, mP_2]; simp only [*, if_true, if_false, ite_true, ite_false, nI_0])) (by first | assumption | omega) (by omega)
            · refine g_aload_n F dX0_owedTo_68 rfl rfl (np := 69) rfl ?_
              refine x_get F (k := 1) (v := .ref (Λ.1 0 1)) (by decide) rfl (Or.inl q178) dX0_owedTo_69 (np := 72) rfl ?_
              refine g_iload_n F dX0_owedTo_72 rfl rfl (np := 73) rfl ?_
              refine x_aldP F (i := p) rfl (show p < σ.1 2 by omega) (show σ.1 2 ≤ 14 by omega) dX0_owedTo_73 (np := 74) rfl ?_
              refine x_getP F (k := 2) (i := p) (v := .int (σ.2.1 3 p)) (by decide) (show p < σ.1 2 by omega) rfl (Or.inr ⟨_, ze337⟩) dX0_owedTo_74 (np := 77) rfl ?_
              refine g_goto F dX0_owedTo_77 (np := 81) (by decide) ?_
              refine g_isub F dX0_owedTo_81 (np := 82) rfl ?_
              refine g_iadd F dX0_owedTo_82 (np := 83) rfl ?_
              refine g_istore_n F (lv' := [some (.ref (Λ.1 0 38)), some (.int o), some (.int (a + ((σ.2.1 3 p) - (σ.2.1 3 p)))), some (.int (nI p))]) dX0_owedTo_83 rfl (by decide) rfl rfl (np := 84) rfl ?_
              refine g_iinc F (v := (nI (p + 1))) (lv' := [some (.ref (Λ.1 0 38)), some (.int o), some (.int (a + ((σ.2.1 3 p) - (σ.2.1 3 p)))), some (.int (nI (p + 1)))]) dX0_owedTo_84 rfl (nI_add _ _) (by decide) rfl rfl (np := 87) rfl ?_
              refine g_goto F dX0_owedTo_87 (np := 4) (by decide) ?_
              exact ih4 (a + ((σ.2.1 3 p) - (σ.2.1 3 p))) (p + 1) (by first | (unfold sOwed; rw [pif_f ‹¬ sOpen _ _ _›]; exact h1) | (unfold sOwed; rw [pif_t ‹sOpen _ _ _›, ← h1]; simp only [mP_0, mP_1, mP_2]; simp only [*, if_true, if_false, ite_true, ite_false, nI_0])) (by first | assumption | omega) (by omega)
  exact L4 _ (nI (0)) 0 (by rfl) (by omega) (Nat.lt_succ_self _)

set_option maxRecDepth 100000 in
theorem ct_X0_holds {l : Launch} {D : va_G} {B : Nat} {Λ : LT} {I : AH} {L : LawT} (σ : MSt)  (o : Int32) (w : Int32) (hok : mOK σ L) (hm14 : σ.1 2 ≤ 14) (hbO : byOK σ) : Ct l D ZE B yX0_holds cX0_holds 3 (some .int) 206 4736 0 0 [.ref (Λ.1 0 38), .int o, .int w] (XH D Λ I L σ) (RI (rHolds (mV σ L) (σ.1 6) (σ.1 0) o w) (XH D Λ I L σ)) := by
  refine Ct.of (nL := 3) (lv := [some (.ref (Λ.1 0 38)), some (.int o), some (.int w)]) (by decide) (Nat.le_of_ble_eq_true rfl) stZE 0 rfl ?_
  generalize hT : RI (rHolds (mV σ L) (σ.1 6) (σ.1 0) o w) (XH D Λ I L σ) = T
  intro zp ze zs zm zb zt zc F hr hnm
  generalize ([.ref (Λ.1 0 38), .int o, .int w] : List Value).toArray = za at F ⊢
  have hok2 := hok
  obtain ⟨ho8, hm15, ht99, hby, hlaw⟩ := hok2
  refine g_aload_n F dX0_holds_0 rfl rfl (np := 1) rfl ?_
  refine g_iload_n F dX0_holds_1 rfl rfl (np := 2) rfl ?_
  refine g_runV F (C := RX0) (ci := 0) (T0 := TX0) (N := 38) (rest := []) (ct_X0_isOwner σ o (by first | assumption | omega)) (lw_V q319 q321 qs1 q100 q322) hcV_X0_isOwner ⟨Nat.le_of_ble_eq_true rfl, Nat.le_of_ble_eq_true rfl⟩ rfl (fun h hs => hs.obj) rfl rfl (Nat.le_of_ble_eq_true rfl) dX0_holds_2 ⟨Nat.le_of_ble_eq_true rfl, Nat.le_of_ble_eq_true rfl⟩ (np := 5) rfl (k_RI ?_)
  refine g_if_neB F dX0_holds_5 (tp := 11) (by decide) (np := 8) rfl (fun c5 => ?_) (fun c5 => ?_)
  · refine g_iload_n F dX0_holds_11 rfl rfl (np := 12) rfl ?_
    by_cases k12_0 : w = 0
    · refine g_tabIn F (x := w) (v := 0) k12_0 (lo := 0) dX0_holds_12 (j := 0) (by decide) (by decide) (by decide) rfl (np := 44) (by decide) ?_
      refine g_aload_n F dX0_holds_44 rfl rfl (np := 45) rfl ?_
      refine g_iload_n F dX0_holds_45 rfl rfl (np := 46) rfl ?_
      refine g_runV F (C := RX0) (ci := 0) (T0 := TX0) (N := 38) (rest := []) (ct_X0_holder σ o (by first | assumption | omega) (by first | assumption | omega) (by first | assumption | omega)) (lw_V q958 q960 qs37 q100 q961) hcV_X0_holder ⟨Nat.le_of_ble_eq_true rfl, Nat.le_of_ble_eq_true rfl⟩ rfl (fun h hs => hs.obj) rfl rfl (Nat.le_of_ble_eq_true rfl) dX0_holds_46 ⟨Nat.le_of_ble_eq_true rfl, Nat.le_of_ble_eq_true rfl⟩ (np := 49) rfl (k_RI ?_)
      have hv : sHold (mV σ L) (σ.1 6) o = rHolds (mV σ L) (σ.1 6) (σ.1 0) o w := by unfold rHolds; rw [pif_t ⟨c5, by rw [k12_0]; exact ⟨0, by decide, rfl⟩⟩, if_pos k12_0]
      exact g_iret F hr rfl (Nat.le_of_ble_eq_true rfl) (Nat.le_of_ble_eq_true rfl) dX0_holds_49 (fun h hs => by rw [← hT]; exact ⟨congrArg (fun z => some (Value.int z)) hv, hs⟩)
    by_cases k12_1 : w = 1
    · refine g_tabIn F (x := w) (v := 1) k12_1 (lo := 0) dX0_holds_12 (j := 1) (by decide) (by decide) (by decide) rfl (np := 50) (by decide) ?_
      refine g_aload_n F dX0_holds_50 rfl rfl (np := 51) rfl ?_
      refine g_iload_n F dX0_holds_51 rfl rfl (np := 52) rfl ?_
      refine g_runV F (C := RX0) (ci := 0) (T0 := TX0) (N := 38) (rest := []) (ct_X0_ringOf σ o (by first | assumption | omega) (by first | assumption | omega) (by first | assumption | omega)) (lw_V q962 q964 qs38 q100 q965) hcV_X0_ringOf ⟨Nat.le_of_ble_eq_true rfl, Nat.le_of_ble_eq_true rfl⟩ rfl (fun h hs => hs.obj) rfl rfl (Nat.le_of_ble_eq_true rfl) dX0_holds_52 ⟨Nat.le_of_ble_eq_true rfl, Nat.le_of_ble_eq_true rfl⟩ (np := 55) rfl (k_RI ?_)
      have hv : sRing (mV σ L) (σ.1 6) o (σ.1 0) 1 (sHold (mV σ L) (σ.1 6) o) = rHolds (mV σ L) (σ.1 6) (σ.1 0) o w := by unfold rHolds; rw [pif_t ⟨c5, by rw [k12_1]; exact ⟨1, by decide, rfl⟩⟩, if_neg k12_0, if_pos (show w = nI 1 from k12_1)]
      exact g_iret F hr rfl (Nat.le_of_ble_eq_true rfl) (Nat.le_of_ble_eq_true rfl) dX0_holds_55 (fun h hs => by rw [← hT]; exact ⟨congrArg (fun z => some (Value.int z)) hv, hs⟩)
    by_cases k12_2 : w = 2
    · refine g_tabIn F (x := w) (v := 2) k12_2 (lo := 0) dX0_holds_12 (j := 2) (by decide) (by decide) (by decide) rfl (np := 56) (by decide) ?_
      refine g_aload_n F dX0_holds_56 rfl rfl (np := 57) rfl ?_
      refine g_iload_n F dX0_holds_57 rfl rfl (np := 58) rfl ?_
      refine g_runV F (C := RX0) (ci := 0) (T0 := TX0) (N := 38) (rest := []) (ct_X0_endOf σ o (by first | assumption | omega) (by first | assumption | omega) (by first | assumption | omega)) (lw_V q966 q968 qs39 q100 q969) hcV_X0_endOf ⟨Nat.le_of_ble_eq_true rfl, Nat.le_of_ble_eq_true rfl⟩ rfl (fun h hs => hs.obj) rfl rfl (Nat.le_of_ble_eq_true rfl) dX0_holds_58 ⟨Nat.le_of_ble_eq_true rfl, Nat.le_of_ble_eq_true rfl⟩ (np := 61) rfl (k_RI ?_)
      have hv : sEnd (mV σ L) (σ.1 6) (σ.1 0 + 1) o = rHolds (mV σ L) (σ.1 6) (σ.1 0) o w := by unfold rHolds; rw [pif_t ⟨c5, by rw [k12_2]; exact ⟨2, by decide, rfl⟩⟩, if_neg k12_0, if_neg (show ¬ w = nI 1 from k12_1), if_pos (show w = nI 2 from k12_2)]
      exact g_iret F hr rfl (Nat.le_of_ble_eq_true rfl) (Nat.le_of_ble_eq_true rfl) dX0_holds_61 (fun h hs => by rw [← hT]; exact ⟨congrArg (fun z => some (Value.int z)) hv, hs⟩)
    by_cases k12_3 : w = 3
    · refine g_tabIn F (x := w) (v := 3) k12_3 (lo := 0) dX0_holds_12 (j := 3) (by decide) (by decide) (by decide) rfl (np := 62) (by decide) ?_
      refine g_aload_n F dX0_holds_62 rfl rfl (np := 63) rfl ?_
      refine g_iload_n F dX0_holds_63 rfl rfl (np := 64) rfl ?_
      refine g_runV F (C := RX0) (ci := 0) (T0 := TX0) (N := 38) (rest := []) (ct_X0_owedTo σ o (by first | assumption | omega)) (lw_V q970 q972 qs40 q100 q973) hcV_X0_owedTo ⟨Nat.le_of_ble_eq_true rfl, Nat.le_of_ble_eq_true rfl⟩ rfl (fun h hs => hs.obj) rfl rfl (Nat.le_of_ble_eq_true rfl) dX0_holds_64 ⟨Nat.le_of_ble_eq_true rfl, Nat.le_of_ble_eq_true rfl⟩ (np := 67) rfl (k_RI ?_)
      have hv : sOwed (mP σ) (σ.1 6) o (σ.1 2) = rHolds (mV σ L) (σ.1 6) (σ.1 0) o w := by unfold rHolds; rw [pif_t ⟨c5, by rw [k12_3]; exact ⟨3, by decide, rfl⟩⟩, if_neg k12_0, if_neg (show ¬ w = nI 1 from k12_1), if_neg (show ¬ w = nI 2 from k12_2)]; rfl
      exact g_iret F hr rfl (Nat.le_of_ble_eq_true rfl) (Nat.le_of_ble_eq_true rfl) dX0_holds_67 (fun h hs => by rw [← hT]; exact ⟨congrArg (fun z => some (Value.int z)) hv, hs⟩)
    refine g_tabOut F (x := w) dX0_holds_12 (by
      have e0 : ¬ (w).toInt = 0 := fun q => k12_0 (Int32.toInt_inj.mp (q.trans (by decide)))
      have e1 : ¬ (w).toInt = 1 := fun q => k12_1 (Int32.toInt_inj.mp (q.trans (by decide)))
      have e2 : ¬ (w).toInt = 2 := fun q => k12_2 (Int32.toInt_inj.mp (q.trans (by decide)))
      have e3 : ¬ (w).toInt = 3 := fun q => k12_3 (Int32.toInt_inj.mp (q.trans (by decide)))
      omega) (np := 68) (by decide) ?_
    refine g_ldc F q558 dX0_holds_68 (np := 70) rfl ?_
    have hv : -2000000000 = rHolds (mV σ L) (σ.1 6) (σ.1 0) o w := by unfold rHolds; rw [pif_f (fun z => by obtain ⟨j, hj, e⟩ := z.2; rcases (show j = 0 ∨ j = 1 ∨ j = 2 ∨ j = 3 by omega) with rfl | rfl | rfl | rfl; exact k12_0 e; exact k12_1 e; exact k12_2 e; exact k12_3 e)]
    exact g_iret F hr rfl (Nat.le_of_ble_eq_true rfl) (Nat.le_of_ble_eq_true rfl) dX0_holds_70 (fun h hs => by rw [← hT]; exact ⟨congrArg (fun z => some (Value.int z)) hv, hs⟩)
  · refine g_ldc F q558 dX0_holds_8 (np := 10) rfl ?_
    have hv : -2000000000 = rHolds (mV σ L) (σ.1 6) (σ.1 0) o w := by unfold rHolds; rw [pif_f (fun z => c5 z.1)]
    exact g_iret F hr rfl (Nat.le_of_ble_eq_true rfl) (Nat.le_of_ble_eq_true rfl) dX0_holds_10 (fun h hs => by rw [← hT]; exact ⟨congrArg (fun z => some (Value.int z)) hv, hs⟩)

set_option maxRecDepth 100000 in
theorem ct_X0_share {l : Launch} {D : va_G} {B : Nat} {Λ : LT} {I : AH} {L : LawT} (σ : MSt)  (o : Int32) (x : Int32) (hok : mOK σ L) (hm14 : σ.1 2 ≤ 14) (hbO : byOK σ) : Ct l D ZE B yX0_share cX0_share 6 (some .int) 205 4715 0 0 [.ref (Λ.1 0 38), .int o, .int x] (XH D Λ I L σ) (RI (rShare (mV σ L) (σ.1 6) (σ.1 0) o x) (XH D Λ I L σ)) := by
  refine Ct.of (nL := 6) (lv := [some (.ref (Λ.1 0 38)), some (.int o), some (.int x), none, none, none]) (by decide) (Nat.le_of_ble_eq_true rfl) stZE 3 rfl ?_
  generalize hT : RI (rShare (mV σ L) (σ.1 6) (σ.1 0) o x) (XH D Λ I L σ) = T
  intro zp ze zs zm zb zt zc F hr hnm
  generalize ([.ref (Λ.1 0 38), .int o, .int x] : List Value).toArray = za at F ⊢
  have hok2 := hok
  obtain ⟨ho8, hm15, ht99, hby, hlaw⟩ := hok2
  refine g_aload_n F dX0_share_0 rfl rfl (np := 1) rfl ?_
  refine g_iload_n F dX0_share_1 rfl rfl (np := 2) rfl ?_
  refine g_runV F (C := RX0) (ci := 0) (T0 := TX0) (N := 38) (rest := []) (ct_X0_isOwner σ o (by first | assumption | omega)) (lw_V q319 q321 qs1 q100 q322) hcV_X0_isOwner ⟨Nat.le_of_ble_eq_true rfl, Nat.le_of_ble_eq_true rfl⟩ rfl (fun h hs => hs.obj) rfl rfl (Nat.le_of_ble_eq_true rfl) dX0_share_2 ⟨Nat.le_of_ble_eq_true rfl, Nat.le_of_ble_eq_true rfl⟩ (np := 5) rfl (k_RI ?_)
  refine g_if_eqB F dX0_share_5 (tp := 19) (by decide) (np := 8) rfl (fun c5 => ?_) (fun c5 => ?_)
  · refine g_iconst F (v := (-1)) dX0_share_19 (by decide) (np := 20) rfl ?_
    have hv : -1 = rShare (mV σ L) (σ.1 6) (σ.1 0) o x := by first | (unfold rShare; rw [pif_f (fun z => c5 z.1)]; done) | (unfold rShare; rw [pif_f (fun z => c16 ((btw_0 (n := 10000) (by decide) (by decide)).mpr z.2))]; done)
    exact g_iret F hr rfl (Nat.le_of_ble_eq_true rfl) (Nat.le_of_ble_eq_true rfl) dX0_share_20 (fun h hs => by rw [← hT]; exact ⟨congrArg (fun z => some (Value.int z)) hv, hs⟩)
  · refine g_iload_n F dX0_share_8 rfl rfl (np := 9) rfl ?_
    refine g_iconst F (v := (nI 0)) dX0_share_9 (by decide) (np := 10) rfl ?_
    refine g_sipush F (v := (nI 9999)) dX0_share_10 (by decide) (np := 13) rfl ?_
    refine g_runS F (rest := []) (ct_X0_in x (nI (0)) (nI (9999)) ) (lw_S q298 q299 q100 q300) hcS_X0_in ⟨Nat.le_of_ble_eq_true rfl, Nat.le_of_ble_eq_true rfl⟩ rfl rfl (Nat.le_of_ble_eq_true rfl) dX0_share_13 ⟨Nat.le_of_ble_eq_true rfl, Nat.le_of_ble_eq_true rfl⟩ (np := 16) rfl (k_RI ?_)
    refine g_if_neB F dX0_share_16 (tp := 21) (by decide) (np := 19) rfl (fun c16 => ?_) (fun c16 => ?_)
    · refine g_aload_n F dX0_share_21 rfl rfl (np := 22) rfl ?_
      refine g_aload_n F dX0_share_22 rfl rfl (np := 23) rfl ?_
      refine x_get F (k := 4) (v := .int (nI (σ.1 6))) (by decide) rfl (Or.inl q181) dX0_share_23 (np := 26) rfl ?_
      refine g_runV F (C := RX0) (ci := 0) (T0 := TX0) (N := 38) (rest := []) (ct_X0_allHigh σ (σ.1 6) (by first | assumption | omega) (by first | assumption | omega) (by first | assumption | omega)) (lw_V q873 q875 qs26 q100 q876) hcV_X0_allHigh ⟨Nat.le_of_ble_eq_true rfl, Nat.le_of_ble_eq_true rfl⟩ rfl (fun h hs => hs.obj) rfl rfl (Nat.le_of_ble_eq_true rfl) dX0_share_26 ⟨Nat.le_of_ble_eq_true rfl, Nat.le_of_ble_eq_true rfl⟩ (np := 29) rfl (k_RI ?_)
      refine g_istore_n F (lv' := [some (.ref (Λ.1 0 38)), some (.int o), some (.int x), some (.int (sAll (mV σ L) (σ.1 6) (σ.1 0))), none, none]) dX0_share_29 rfl (by decide) rfl rfl (np := 30) rfl ?_
      refine g_iload_n F dX0_share_30 rfl rfl (np := 31) rfl ?_
      refine g_if_ne F dX0_share_31 (tp := 36) (by decide) (np := 34) rfl (fun c31 => ?_) (fun c31 => ?_)
      · refine g_iload_n F dX0_share_36 rfl rfl (np := 37) rfl ?_
        refine g_istore F (lv' := [some (.ref (Λ.1 0 38)), some (.int o), some (.int x), some (.int (sAll (mV σ L) (σ.1 6) (σ.1 0))), some (.int x), none]) dX0_share_37 (by decide) rfl rfl (np := 39) rfl ?_
        refine g_iconst F (v := (nI 0)) dX0_share_39 (by decide) (np := 40) rfl ?_
        refine g_istore F (lv' := [some (.ref (Λ.1 0 38)), some (.int o), some (.int x), some (.int (sAll (mV σ L) (σ.1 6) (σ.1 0))), some (.int x), some (.int (nI 0))]) dX0_share_40 (by decide) rfl rfl (np := 42) rfl ?_
        have L42 : ∀ (zn : Nat) (a : Int32) (k : Nat), (a = sRest (mV σ L) (σ.1 6) x (sAll (mV σ L) (σ.1 6) (σ.1 0)) k) → (k ≤ σ.1 0) → σ.1 0 - k < zn → WG zp l ze ({ frames := 205, cells := 0, slots := 0, locals := 4715 } : Room) zs zm za zb zt zc D B 6 (MQ zb (QT D B T) za zs 0 0 (zA B)) (XH D Λ I L σ) 0 0 42 [some (.ref (Λ.1 0 38)), some (.int o), some (.int x), some (.int (sAll (mV σ L) (σ.1 6) (σ.1 0))), some (.int a), some (.int (nI k))] [] := by
          intro zn
          induction zn with
          | zero => intro a k h1 h2 hm; exact absurd hm (Nat.not_lt_zero _)
          | succ zn ih42 =>
            intro a k h1 h2 hm
            refine g_iload F dX0_share_42 rfl (np := 44) rfl ?_
            refine g_aload_n F dX0_share_44 rfl rfl (np := 45) rfl ?_
            refine x_get F (k := 2) (v := .int (nI (σ.1 0))) (by decide) rfl (Or.inl q179) dX0_share_45 (np := 48) rfl ?_
            refine g_icmp_geN F (by omega) (by omega) dX0_share_48 (tp := 76) (by decide) (np := 51) rfl (fun c48 => ?_) (fun c48 => ?_)
            · refine g_iload_n F dX0_share_76 rfl rfl (np := 77) rfl ?_
              refine g_aload_n F dX0_share_77 rfl rfl (np := 78) rfl ?_
              refine g_iload_n F dX0_share_78 rfl rfl (np := 79) rfl ?_
              refine g_aload_n F dX0_share_79 rfl rfl (np := 80) rfl ?_
              refine x_get F (k := 4) (v := .int (nI (σ.1 6))) (by decide) rfl (Or.inl q181) dX0_share_80 (np := 83) rfl ?_
              refine g_runV F (C := RX0) (ci := 0) (T0 := TX0) (N := 38) (rest := [.int x]) (ct_X0_highOf σ o (σ.1 6) (by first | assumption | omega) (by first | assumption | omega) (by first | assumption | omega)) (lw_V q877 q879 qs27 q100 q880) hcV_X0_highOf ⟨Nat.le_of_ble_eq_true rfl, Nat.le_of_ble_eq_true rfl⟩ rfl (fun h hs => hs.obj) rfl rfl (Nat.le_of_ble_eq_true rfl) dX0_share_83 ⟨Nat.le_of_ble_eq_true rfl, Nat.le_of_ble_eq_true rfl⟩ (np := 86) rfl (k_RI ?_)
              refine g_imul F dX0_share_86 (np := 87) rfl ?_
              refine g_iload_n F dX0_share_87 rfl rfl (np := 88) rfl ?_
              refine g_idiv F dX0_share_88 (by exact c31) (np := 89) rfl ?_
              refine g_iload_n F dX0_share_89 rfl rfl (np := 90) rfl ?_
              refine g_aload_n F dX0_share_90 rfl rfl (np := 91) rfl ?_
              refine g_runV F (C := RX0) (ci := 0) (T0 := TX0) (N := 38) (rest := [.int o, .int ((x * (sHigh (mV σ L) (σ.1 6) o)) / (sAll (mV σ L) (σ.1 6) (σ.1 0)))]) (ct_X0_tallest σ (by first | assumption | omega) (by first | assumption | omega) (by first | assumption | omega)) (lw_V q901 q903 qs29 q100 q904) hcV_X0_tallest ⟨Nat.le_of_ble_eq_true rfl, Nat.le_of_ble_eq_true rfl⟩ rfl (fun h hs => hs.obj) rfl rfl (Nat.le_of_ble_eq_true rfl) dX0_share_91 ⟨Nat.le_of_ble_eq_true rfl, Nat.le_of_ble_eq_true rfl⟩ (np := 94) rfl (k_RI ?_)
              refine g_icmp_ne F dX0_share_94 (tp := 102) (by decide) (np := 97) rfl (fun c94 => ?_) (fun c94 => ?_)
              · refine g_iconst F (v := (nI 0)) dX0_share_102 (by decide) (np := 103) rfl ?_
                refine g_iadd F dX0_share_103 (np := 104) rfl ?_
                have hv : ((x * (sHigh (mV σ L) (σ.1 6) o)) / (sAll (mV σ L) (σ.1 6) (σ.1 0))) + (nI (0)) = rShare (mV σ L) (σ.1 6) (σ.1 0) o x := by unfold rShare; rw [pif_t ⟨c5, (btw_0 (n := 10000) (by decide) (by decide)).mp c16⟩, if_neg c31]; first | (rw [if_pos c94.symm, h1, show k = σ.1 0 by omega]; done) | (rw [if_neg (fun z => c94 z.symm)]; done)
                exact g_iret F hr rfl (Nat.le_of_ble_eq_true rfl) (Nat.le_of_ble_eq_true rfl) dX0_share_104 (fun h hs => by rw [← hT]; exact ⟨congrArg (fun z => some (Value.int z)) hv, hs⟩)
              · refine g_iload F dX0_share_97 rfl (np := 99) rfl ?_
                refine g_goto F dX0_share_99 (np := 103) (by decide) ?_
                refine g_iadd F dX0_share_103 (np := 104) rfl ?_
                have hv : ((x * (sHigh (mV σ L) (σ.1 6) o)) / (sAll (mV σ L) (σ.1 6) (σ.1 0))) + a = rShare (mV σ L) (σ.1 6) (σ.1 0) o x := by unfold rShare; rw [pif_t ⟨c5, (btw_0 (n := 10000) (by decide) (by decide)).mp c16⟩, if_neg c31]; first | (rw [if_pos c94.symm, h1, show k = σ.1 0 by omega]; done) | (rw [if_neg (fun z => c94 z.symm)]; done)
                exact g_iret F hr rfl (Nat.le_of_ble_eq_true rfl) (Nat.le_of_ble_eq_true rfl) dX0_share_104 (fun h hs => by rw [← hT]; exact ⟨congrArg (fun z => some (Value.int z)) hv, hs⟩)
            · refine g_iload F dX0_share_51 rfl (np := 53) rfl ?_
              refine g_iload_n F dX0_share_53 rfl rfl (np := 54) rfl ?_
              refine g_aload_n F dX0_share_54 rfl rfl (np := 55) rfl ?_
              refine g_iload F dX0_share_55 rfl (np := 57) rfl ?_
              refine g_aload_n F dX0_share_57 rfl rfl (np := 58) rfl ?_
              refine x_get F (k := 4) (v := .int (nI (σ.1 6))) (by decide) rfl (Or.inl q181) dX0_share_58 (np := 61) rfl ?_
              refine g_runV F (C := RX0) (ci := 0) (T0 := TX0) (N := 38) (rest := [.int x, .int a]) (ct_X0_highOf σ (nI (k)) (σ.1 6) (by first | assumption | omega) (by first | assumption | omega) (by first | assumption | omega)) (lw_V q877 q879 qs27 q100 q880) hcV_X0_highOf ⟨Nat.le_of_ble_eq_true rfl, Nat.le_of_ble_eq_true rfl⟩ rfl (fun h hs => hs.obj) rfl rfl (Nat.le_of_ble_eq_true rfl) dX0_share_61 ⟨Nat.le_of_ble_eq_true rfl, Nat.le_of_ble_eq_true rfl⟩ (np := 64) rfl (k_RI ?_)
              refine g_imul F dX0_share_64 (np := 65) rfl ?_
              refine g_iload_n F dX0_share_65 rfl rfl (np := 66) rfl ?_
              refine g_idiv F dX0_share_66 (by exact c31) (np := 67) rfl ?_
              refine g_isub F dX0_share_67 (np := 68) rfl ?_
              refine g_istore F (lv' := [some (.ref (Λ.1 0 38)), some (.int o), some (.int x), some (.int (sAll (mV σ L) (σ.1 6) (σ.1 0))), some (.int (a - ((x * (sHigh (mV σ L) (σ.1 6) (nI (k)))) / (sAll (mV σ L) (σ.1 6) (σ.1 0))))), some (.int (nI k))]) dX0_share_68 (by decide) rfl rfl (np := 70) rfl ?_
              refine g_iinc F (v := (nI (k + 1))) (lv' := [some (.ref (Λ.1 0 38)), some (.int o), some (.int x), some (.int (sAll (mV σ L) (σ.1 6) (σ.1 0))), some (.int (a - ((x * (sHigh (mV σ L) (σ.1 6) (nI (k)))) / (sAll (mV σ L) (σ.1 6) (σ.1 0))))), some (.int (nI (k + 1)))]) dX0_share_70 rfl (nI_add _ _) (by decide) rfl rfl (np := 73) rfl ?_
              refine g_goto F dX0_share_73 (np := 42) (by decide) ?_
              exact ih42 (a - ((x * (sHigh (mV σ L) (σ.1 6) (nI (k)))) / (sAll (mV σ L) (σ.1 6) (σ.1 0)))) (k + 1) (by rw [h1]; rfl) (by first | assumption | omega) (by omega)
        exact L42 _ x 0 (by rfl) (by omega) (Nat.lt_succ_self _)
      · refine g_iconst F (v := (nI 0)) dX0_share_34 (by decide) (np := 35) rfl ?_
        have hv : nI (0) = rShare (mV σ L) (σ.1 6) (σ.1 0) o x := by unfold rShare; rw [pif_t ⟨c5, (btw_0 (n := 10000) (by decide) (by decide)).mp c16⟩, if_pos c31]
        exact g_iret F hr rfl (Nat.le_of_ble_eq_true rfl) (Nat.le_of_ble_eq_true rfl) dX0_share_35 (fun h hs => by rw [← hT]; exact ⟨congrArg (fun z => some (Value.int z)) hv, hs⟩)
    · refine g_iconst F (v := (-1)) dX0_share_19 (by decide) (np := 20) rfl ?_
      have hv : -1 = rShare (mV σ L) (σ.1 6) (σ.1 0) o x := by first | (unfold rShare; rw [pif_f (fun z => c5 z.1)]; done) | (unfold rShare; rw [pif_f (fun z => c16 ((btw_0 (n := 10000) (by decide) (by decide)).mpr z.2))]; done)
      exact g_iret F hr rfl (Nat.le_of_ble_eq_true rfl) (Nat.le_of_ble_eq_true rfl) dX0_share_20 (fun h hs => by rw [← hT]; exact ⟨congrArg (fun z => some (Value.int z)) hv, hs⟩)

set_option maxRecDepth 100000 in
theorem ct_X0_bestOf_0_0 {l : Launch} {D : va_G} {B : Nat} {Λ : LT} {I : AH} {L : LawT} (σ : MSt)   (hok : mOK σ L) (hm14 : σ.1 2 ≤ 14) (hbO : byOK σ) : Ct l D ZE B yX0_bestOf cX0_bestOf 7 (some .int) 204 4692 0 0 [.ref (Λ.1 0 38), .int (nI 0), .int (nI 0)] (XH D Λ I L σ) (RI (turnS L (σ.2.1 50 1) (σ.2.1 50 2) 0 1 σ) (XH D Λ I L σ)) := by
  refine Ct.of (nL := 7) (lv := [some (.ref (Λ.1 0 38)), some (.int (nI 0)), some (.int (nI 0)), none, none, none, none]) (by decide) (Nat.le_of_ble_eq_true rfl) stZE 4 rfl ?_
  generalize hT : RI (turnS L (σ.2.1 50 1) (σ.2.1 50 2) 0 1 σ) (XH D Λ I L σ) = T
  intro zp ze zs zm zb zt zc F hr hnm
  generalize ([.ref (Λ.1 0 38), .int (nI 0), .int (nI 0)] : List Value).toArray = za at F ⊢
  have hok2 := hok
  obtain ⟨ho8, hm15, ht99, hby, hlaw⟩ := hok2
  refine g_iload_n F dX0_bestOf_0 rfl rfl (np := 1) rfl ?_
  refine g_if_neN F (by decide) dX0_bestOf_1 (tp := 30) (by decide) (np := 4) rfl (fun c1 => ?_) (fun c1 => ?_)
  · exact absurd c1 (by decide)
  · refine g_aload_n F dX0_bestOf_4 rfl rfl (np := 5) rfl ?_
    refine g_aload_n F dX0_bestOf_5 rfl rfl (np := 6) rfl ?_
    refine x_get F (k := 16) (v := .int (σ.2.1 50 1)) (by decide) rfl (Or.inl q195) dX0_bestOf_6 (np := 9) rfl ?_
    refine g_aload_n F dX0_bestOf_9 rfl rfl (np := 10) rfl ?_
    refine x_get F (k := 4) (v := .int (nI (σ.1 6))) (by decide) rfl (Or.inl q181) dX0_bestOf_10 (np := 13) rfl ?_
    refine g_runV F (C := RX0) (ci := 0) (T0 := TX0) (N := 38) (rest := []) (ct_X0_highOf σ (σ.2.1 50 1) (σ.1 6) (by first | assumption | omega) (by first | assumption | omega) (by first | assumption | omega)) (lw_V q877 q879 qs27 q100 q880) hcV_X0_highOf ⟨Nat.le_of_ble_eq_true rfl, Nat.le_of_ble_eq_true rfl⟩ rfl (fun h hs => hs.obj) rfl rfl (Nat.le_of_ble_eq_true rfl) dX0_bestOf_13 ⟨Nat.le_of_ble_eq_true rfl, Nat.le_of_ble_eq_true rfl⟩ (np := 16) rfl (k_RI ?_)
    refine g_aload_n F dX0_bestOf_16 rfl rfl (np := 17) rfl ?_
    refine g_aload_n F dX0_bestOf_17 rfl rfl (np := 18) rfl ?_
    refine x_get F (k := 17) (v := .int (σ.2.1 50 2)) (by decide) rfl (Or.inl q196) dX0_bestOf_18 (np := 21) rfl ?_
    refine g_aload_n F dX0_bestOf_21 rfl rfl (np := 22) rfl ?_
    refine x_get F (k := 4) (v := .int (nI (σ.1 6))) (by decide) rfl (Or.inl q181) dX0_bestOf_22 (np := 25) rfl ?_
    refine g_runV F (C := RX0) (ci := 0) (T0 := TX0) (N := 38) (rest := [.int (sHigh (mV σ L) (σ.1 6) (σ.2.1 50 1))]) (ct_X0_highOf σ (σ.2.1 50 2) (σ.1 6) (by first | assumption | omega) (by first | assumption | omega) (by first | assumption | omega)) (lw_V q877 q879 qs27 q100 q880) hcV_X0_highOf ⟨Nat.le_of_ble_eq_true rfl, Nat.le_of_ble_eq_true rfl⟩ rfl (fun h hs => hs.obj) rfl rfl (Nat.le_of_ble_eq_true rfl) dX0_bestOf_25 ⟨Nat.le_of_ble_eq_true rfl, Nat.le_of_ble_eq_true rfl⟩ (np := 28) rfl (k_RI ?_)
    refine g_isub F dX0_bestOf_28 (np := 29) rfl ?_
    have hv : (sHigh (mV σ L) (σ.1 6) (σ.2.1 50 1)) - (sHigh (mV σ L) (σ.1 6) (σ.2.1 50 2)) = turnS L (σ.2.1 50 1) (σ.2.1 50 2) 0 1 σ := by rfl
    exact g_iret F hr rfl (Nat.le_of_ble_eq_true rfl) (Nat.le_of_ble_eq_true rfl) dX0_bestOf_29 (fun h hs => by rw [← hT]; exact ⟨congrArg (fun z => some (Value.int z)) hv, hs⟩)

set_option maxRecDepth 100000 in
theorem ct_X0_bestOf_0_1 {l : Launch} {D : va_G} {B : Nat} {Λ : LT} {I : AH} {L : LawT} (σ : MSt)   (hok : mOK σ L) (hm14 : σ.1 2 ≤ 14) (hbO : byOK σ) : Ct l D ZE B yX0_bestOf cX0_bestOf 7 (some .int) 204 4692 0 0 [.ref (Λ.1 0 38), .int (nI 0), .int (nI 1)] (XH D Λ I L σ) (RI (turnS L (σ.2.1 50 1) (σ.2.1 50 2) 0 0 σ) (XH D Λ I L σ)) := by
  refine Ct.of (nL := 7) (lv := [some (.ref (Λ.1 0 38)), some (.int (nI 0)), some (.int (nI 1)), none, none, none, none]) (by decide) (Nat.le_of_ble_eq_true rfl) stZE 4 rfl ?_
  generalize hT : RI (turnS L (σ.2.1 50 1) (σ.2.1 50 2) 0 0 σ) (XH D Λ I L σ) = T
  intro zp ze zs zm zb zt zc F hr hnm
  generalize ([.ref (Λ.1 0 38), .int (nI 0), .int (nI 1)] : List Value).toArray = za at F ⊢
  have hok2 := hok
  obtain ⟨ho8, hm15, ht99, hby, hlaw⟩ := hok2
  refine g_iload_n F dX0_bestOf_0 rfl rfl (np := 1) rfl ?_
  refine g_if_neN F (by decide) dX0_bestOf_1 (tp := 30) (by decide) (np := 4) rfl (fun c1 => ?_) (fun c1 => ?_)
  · exact absurd c1 (by decide)
  · refine g_aload_n F dX0_bestOf_4 rfl rfl (np := 5) rfl ?_
    refine g_aload_n F dX0_bestOf_5 rfl rfl (np := 6) rfl ?_
    refine x_get F (k := 16) (v := .int (σ.2.1 50 1)) (by decide) rfl (Or.inl q195) dX0_bestOf_6 (np := 9) rfl ?_
    refine g_aload_n F dX0_bestOf_9 rfl rfl (np := 10) rfl ?_
    refine x_get F (k := 4) (v := .int (nI (σ.1 6))) (by decide) rfl (Or.inl q181) dX0_bestOf_10 (np := 13) rfl ?_
    refine g_runV F (C := RX0) (ci := 0) (T0 := TX0) (N := 38) (rest := []) (ct_X0_highOf σ (σ.2.1 50 1) (σ.1 6) (by first | assumption | omega) (by first | assumption | omega) (by first | assumption | omega)) (lw_V q877 q879 qs27 q100 q880) hcV_X0_highOf ⟨Nat.le_of_ble_eq_true rfl, Nat.le_of_ble_eq_true rfl⟩ rfl (fun h hs => hs.obj) rfl rfl (Nat.le_of_ble_eq_true rfl) dX0_bestOf_13 ⟨Nat.le_of_ble_eq_true rfl, Nat.le_of_ble_eq_true rfl⟩ (np := 16) rfl (k_RI ?_)
    refine g_aload_n F dX0_bestOf_16 rfl rfl (np := 17) rfl ?_
    refine g_aload_n F dX0_bestOf_17 rfl rfl (np := 18) rfl ?_
    refine x_get F (k := 17) (v := .int (σ.2.1 50 2)) (by decide) rfl (Or.inl q196) dX0_bestOf_18 (np := 21) rfl ?_
    refine g_aload_n F dX0_bestOf_21 rfl rfl (np := 22) rfl ?_
    refine x_get F (k := 4) (v := .int (nI (σ.1 6))) (by decide) rfl (Or.inl q181) dX0_bestOf_22 (np := 25) rfl ?_
    refine g_runV F (C := RX0) (ci := 0) (T0 := TX0) (N := 38) (rest := [.int (sHigh (mV σ L) (σ.1 6) (σ.2.1 50 1))]) (ct_X0_highOf σ (σ.2.1 50 2) (σ.1 6) (by first | assumption | omega) (by first | assumption | omega) (by first | assumption | omega)) (lw_V q877 q879 qs27 q100 q880) hcV_X0_highOf ⟨Nat.le_of_ble_eq_true rfl, Nat.le_of_ble_eq_true rfl⟩ rfl (fun h hs => hs.obj) rfl rfl (Nat.le_of_ble_eq_true rfl) dX0_bestOf_25 ⟨Nat.le_of_ble_eq_true rfl, Nat.le_of_ble_eq_true rfl⟩ (np := 28) rfl (k_RI ?_)
    refine g_isub F dX0_bestOf_28 (np := 29) rfl ?_
    have hv : (sHigh (mV σ L) (σ.1 6) (σ.2.1 50 1)) - (sHigh (mV σ L) (σ.1 6) (σ.2.1 50 2)) = turnS L (σ.2.1 50 1) (σ.2.1 50 2) 0 0 σ := by rfl
    exact g_iret F hr rfl (Nat.le_of_ble_eq_true rfl) (Nat.le_of_ble_eq_true rfl) dX0_bestOf_29 (fun h hs => by rw [← hT]; exact ⟨congrArg (fun z => some (Value.int z)) hv, hs⟩)

set_option maxRecDepth 100000 in
theorem ct_X0_byDeed_1_0 {l : Launch} {D : va_G} {B : Nat} {Λ : LT} {I : AH} {L : LawT} (σ : MSt)  (p : Nat) (hok : mOK σ L) (hm14 : σ.1 2 ≤ 14) (hbO : byOK σ) (hp : p < σ.1 2) (ho : sOpen (mP σ) (σ.1 6) p) : Ct l D ZE B yX0_byDeed cX0_byDeed 5 (some .int) 205 4718 0 0 [.ref (Λ.1 0 38), .int (nI p), .int (nI 1), .int (nI 0)] (XH D Λ I L σ) (RI (turnS L (σ.2.1 50 1) (σ.2.1 50 2) 0 0 (dnP σ p)) (XH D Λ I L σ)) := by
  refine Ct.of (nL := 5) (lv := [some (.ref (Λ.1 0 38)), some (.int (nI p)), some (.int (nI 1)), some (.int (nI 0)), none]) (by decide) (Nat.le_of_ble_eq_true rfl) stZE 1 rfl ?_
  generalize hT : RI (turnS L (σ.2.1 50 1) (σ.2.1 50 2) 0 0 (dnP σ p)) (XH D Λ I L σ) = T
  intro zp ze zs zm zb zt zc F hr hnm
  generalize ([.ref (Λ.1 0 38), .int (nI p), .int (nI 1), .int (nI 0)] : List Value).toArray = za at F ⊢
  have hok2 := hok
  obtain ⟨ho8, hm15, ht99, hby, hlaw⟩ := hok2
  refine g_aload_n F dX0_byDeed_0 rfl rfl (np := 1) rfl ?_
  refine x_get F (k := 1) (v := .ref (Λ.1 0 1)) (by decide) rfl (Or.inl q178) dX0_byDeed_1 (np := 4) rfl ?_
  refine g_iload_n F dX0_byDeed_4 rfl rfl (np := 5) rfl ?_
  refine x_aldP F (i := p) rfl (show p < σ.1 2 by omega) (show σ.1 2 ≤ 14 by omega) dX0_byDeed_5 (np := 6) rfl ?_
  refine g_iconst F (v := (nI 1)) dX0_byDeed_6 (by decide) (np := 7) rfl ?_
  refine x_putP F (j := 6) (q := p) (by decide) (by decide) (show σ.1 2 ≤ 15 by omega) (show p < σ.1 2 by omega) (Or.inr ⟨_, ze345⟩) rfl rfl dX0_byDeed_7 (np := 10) rfl ?_
  refine WG.weak (S' := XH D Λ I L (dnP σ p)) (fun h hs => by rw [show (dnP σ p) = (sA σ 3 (60 + p) (nI (1))) from by rfl]; exact hs) ?_
  refine g_aload_n F dX0_byDeed_10 rfl rfl (np := 11) rfl ?_
  refine g_iload_n F dX0_byDeed_11 rfl rfl (np := 12) rfl ?_
  refine g_iconst F (v := (nI 1)) dX0_byDeed_12 (by decide) (np := 13) rfl ?_
  refine g_isubN F (by omega) dX0_byDeed_13 (np := 14) rfl ?_
  refine WG.eqv (st' := [.int (nI 0), .ref (Λ.1 0 38)]) (congrArg (fun z => ([.int z, .ref (Λ.1 0 38)] : List Value)) (show (nI (1 - 1)) = (nI 0) from by rfl)) rfl ?_
  refine g_iload_n F dX0_byDeed_14 rfl rfl (np := 15) rfl ?_
  refine g_if_neN F (by decide) dX0_byDeed_15 (tp := 22) (by decide) (np := 18) rfl (fun c15 => ?_) (fun c15 => ?_)
  · exact absurd c15 (by decide)
  · refine g_iconst F (v := (nI 1)) dX0_byDeed_18 (by decide) (np := 19) rfl ?_
    refine g_goto F dX0_byDeed_19 (np := 23) (by decide) ?_
    refine g_runV F (C := RX0) (ci := 0) (T0 := TX0) (N := 38) (rest := []) (ct_X0_bestOf_0_1 (dnP σ p) (by exact hok.sA3 _ _) (by exact hm14) (by exact hbO.same rfl rfl rfl)) (lw_V q1010 q1012 qs45 q100 q1013) hcV_X0_bestOf ⟨Nat.le_of_ble_eq_true rfl, Nat.le_of_ble_eq_true rfl⟩ rfl (fun h hs => hs.obj) rfl rfl (Nat.le_of_ble_eq_true rfl) dX0_byDeed_23 ⟨Nat.le_of_ble_eq_true rfl, Nat.le_of_ble_eq_true rfl⟩ (np := 26) rfl (k_RI ?_)
    refine g_istore F (lv' := [some (.ref (Λ.1 0 38)), some (.int (nI p)), some (.int (nI 1)), some (.int (nI 0)), some (.int (turnS L ((dnP σ p).2.1 50 1) ((dnP σ p).2.1 50 2) 0 0 (dnP σ p)))]) dX0_byDeed_26 (by decide) rfl rfl (np := 28) rfl ?_
    refine g_aload_n F dX0_byDeed_28 rfl rfl (np := 29) rfl ?_
    refine x_get F (k := 1) (v := .ref (Λ.1 0 1)) (by decide) rfl (Or.inl q178) dX0_byDeed_29 (np := 32) rfl ?_
    refine g_iload_n F dX0_byDeed_32 rfl rfl (np := 33) rfl ?_
    refine x_aldP F (i := p) rfl (show p < σ.1 2 by omega) (show σ.1 2 ≤ 14 by omega) dX0_byDeed_33 (np := 34) rfl ?_
    refine g_iconst F (v := (nI 0)) dX0_byDeed_34 (by decide) (np := 35) rfl ?_
    refine x_putP F (j := 6) (q := p) (by decide) (by decide) (show σ.1 2 ≤ 15 by omega) (show p < σ.1 2 by omega) (Or.inr ⟨_, ze345⟩) rfl rfl dX0_byDeed_35 (np := 38) rfl ?_
    refine WG.weak (S' := XH D Λ I L σ) (fun h hs => by rw [show σ = (sA ((dnP σ p)) 3 (60 + p) (nI (0))) from by exact (dn_back ho).symm]; exact hs) ?_
    refine g_iload F dX0_byDeed_38 rfl (np := 40) rfl ?_
    have hv : turnS L ((dnP σ p).2.1 50 1) ((dnP σ p).2.1 50 2) 0 0 (dnP σ p) = turnS L (σ.2.1 50 1) (σ.2.1 50 2) 0 0 (dnP σ p) := by rfl
    exact g_iret F hr rfl (Nat.le_of_ble_eq_true rfl) (Nat.le_of_ble_eq_true rfl) dX0_byDeed_40 (fun h hs => by rw [← hT]; exact ⟨congrArg (fun z => some (Value.int z)) hv, hs⟩)

set_option maxRecDepth 100000 in
theorem ct_X0_byDeed_1_1 {l : Launch} {D : va_G} {B : Nat} {Λ : LT} {I : AH} {L : LawT} (σ : MSt)  (p : Nat) (hok : mOK σ L) (hm14 : σ.1 2 ≤ 14) (hbO : byOK σ) (hp : p < σ.1 2) (ho : sOpen (mP σ) (σ.1 6) p) : Ct l D ZE B yX0_byDeed cX0_byDeed 5 (some .int) 205 4718 0 0 [.ref (Λ.1 0 38), .int (nI p), .int (nI 1), .int (nI 1)] (XH D Λ I L σ) (RI (turnS L (σ.2.1 50 1) (σ.2.1 50 2) 0 1 (dnP σ p)) (XH D Λ I L σ)) := by
  refine Ct.of (nL := 5) (lv := [some (.ref (Λ.1 0 38)), some (.int (nI p)), some (.int (nI 1)), some (.int (nI 1)), none]) (by decide) (Nat.le_of_ble_eq_true rfl) stZE 1 rfl ?_
  generalize hT : RI (turnS L (σ.2.1 50 1) (σ.2.1 50 2) 0 1 (dnP σ p)) (XH D Λ I L σ) = T
  intro zp ze zs zm zb zt zc F hr hnm
  generalize ([.ref (Λ.1 0 38), .int (nI p), .int (nI 1), .int (nI 1)] : List Value).toArray = za at F ⊢
  have hok2 := hok
  obtain ⟨ho8, hm15, ht99, hby, hlaw⟩ := hok2
  refine g_aload_n F dX0_byDeed_0 rfl rfl (np := 1) rfl ?_
  refine x_get F (k := 1) (v := .ref (Λ.1 0 1)) (by decide) rfl (Or.inl q178) dX0_byDeed_1 (np := 4) rfl ?_
  refine g_iload_n F dX0_byDeed_4 rfl rfl (np := 5) rfl ?_
  refine x_aldP F (i := p) rfl (show p < σ.1 2 by omega) (show σ.1 2 ≤ 14 by omega) dX0_byDeed_5 (np := 6) rfl ?_
  refine g_iconst F (v := (nI 1)) dX0_byDeed_6 (by decide) (np := 7) rfl ?_
  refine x_putP F (j := 6) (q := p) (by decide) (by decide) (show σ.1 2 ≤ 15 by omega) (show p < σ.1 2 by omega) (Or.inr ⟨_, ze345⟩) rfl rfl dX0_byDeed_7 (np := 10) rfl ?_
  refine WG.weak (S' := XH D Λ I L (dnP σ p)) (fun h hs => by rw [show (dnP σ p) = (sA σ 3 (60 + p) (nI (1))) from by rfl]; exact hs) ?_
  refine g_aload_n F dX0_byDeed_10 rfl rfl (np := 11) rfl ?_
  refine g_iload_n F dX0_byDeed_11 rfl rfl (np := 12) rfl ?_
  refine g_iconst F (v := (nI 1)) dX0_byDeed_12 (by decide) (np := 13) rfl ?_
  refine g_isubN F (by omega) dX0_byDeed_13 (np := 14) rfl ?_
  refine WG.eqv (st' := [.int (nI 0), .ref (Λ.1 0 38)]) (congrArg (fun z => ([.int z, .ref (Λ.1 0 38)] : List Value)) (show (nI (1 - 1)) = (nI 0) from by rfl)) rfl ?_
  refine g_iload_n F dX0_byDeed_14 rfl rfl (np := 15) rfl ?_
  refine g_if_neN F (by decide) dX0_byDeed_15 (tp := 22) (by decide) (np := 18) rfl (fun c15 => ?_) (fun c15 => ?_)
  · refine g_iconst F (v := (nI 0)) dX0_byDeed_22 (by decide) (np := 23) rfl ?_
    refine g_runV F (C := RX0) (ci := 0) (T0 := TX0) (N := 38) (rest := []) (ct_X0_bestOf_0_0 (dnP σ p) (by exact hok.sA3 _ _) (by exact hm14) (by exact hbO.same rfl rfl rfl)) (lw_V q1010 q1012 qs45 q100 q1013) hcV_X0_bestOf ⟨Nat.le_of_ble_eq_true rfl, Nat.le_of_ble_eq_true rfl⟩ rfl (fun h hs => hs.obj) rfl rfl (Nat.le_of_ble_eq_true rfl) dX0_byDeed_23 ⟨Nat.le_of_ble_eq_true rfl, Nat.le_of_ble_eq_true rfl⟩ (np := 26) rfl (k_RI ?_)
    refine g_istore F (lv' := [some (.ref (Λ.1 0 38)), some (.int (nI p)), some (.int (nI 1)), some (.int (nI 1)), some (.int (turnS L ((dnP σ p).2.1 50 1) ((dnP σ p).2.1 50 2) 0 1 (dnP σ p)))]) dX0_byDeed_26 (by decide) rfl rfl (np := 28) rfl ?_
    refine g_aload_n F dX0_byDeed_28 rfl rfl (np := 29) rfl ?_
    refine x_get F (k := 1) (v := .ref (Λ.1 0 1)) (by decide) rfl (Or.inl q178) dX0_byDeed_29 (np := 32) rfl ?_
    refine g_iload_n F dX0_byDeed_32 rfl rfl (np := 33) rfl ?_
    refine x_aldP F (i := p) rfl (show p < σ.1 2 by omega) (show σ.1 2 ≤ 14 by omega) dX0_byDeed_33 (np := 34) rfl ?_
    refine g_iconst F (v := (nI 0)) dX0_byDeed_34 (by decide) (np := 35) rfl ?_
    refine x_putP F (j := 6) (q := p) (by decide) (by decide) (show σ.1 2 ≤ 15 by omega) (show p < σ.1 2 by omega) (Or.inr ⟨_, ze345⟩) rfl rfl dX0_byDeed_35 (np := 38) rfl ?_
    refine WG.weak (S' := XH D Λ I L σ) (fun h hs => by rw [show σ = (sA ((dnP σ p)) 3 (60 + p) (nI (0))) from by exact (dn_back ho).symm]; exact hs) ?_
    refine g_iload F dX0_byDeed_38 rfl (np := 40) rfl ?_
    have hv : turnS L ((dnP σ p).2.1 50 1) ((dnP σ p).2.1 50 2) 0 1 (dnP σ p) = turnS L (σ.2.1 50 1) (σ.2.1 50 2) 0 1 (dnP σ p) := by rfl
    exact g_iret F hr rfl (Nat.le_of_ble_eq_true rfl) (Nat.le_of_ble_eq_true rfl) dX0_byDeed_40 (fun h hs => by rw [← hT]; exact ⟨congrArg (fun z => some (Value.int z)) hv, hs⟩)
  · exact absurd c15 (by decide)

set_option maxRecDepth 100000 in
theorem ct_X0_bestOf_1_0 {l : Launch} {D : va_G} {B : Nat} {Λ : LT} {I : AH} {L : LawT} (σ : MSt)   (hok : mOK σ L) (hm14 : σ.1 2 ≤ 14) (hbO : byOK σ) : Ct l D ZE B yX0_bestOf cX0_bestOf 7 (some .int) 206 4742 0 0 [.ref (Λ.1 0 38), .int (nI 1), .int (nI 0)] (XH D Λ I L σ) (RI (turnS L (σ.2.1 50 1) (σ.2.1 50 2) 1 1 σ) (XH D Λ I L σ)) := by
  refine Ct.of (nL := 7) (lv := [some (.ref (Λ.1 0 38)), some (.int (nI 1)), some (.int (nI 0)), none, none, none, none]) (by decide) (Nat.le_of_ble_eq_true rfl) stZE 4 rfl ?_
  generalize hT : RI (turnS L (σ.2.1 50 1) (σ.2.1 50 2) 1 1 σ) (XH D Λ I L σ) = T
  intro zp ze zs zm zb zt zc F hr hnm
  generalize ([.ref (Λ.1 0 38), .int (nI 1), .int (nI 0)] : List Value).toArray = za at F ⊢
  have hok2 := hok
  obtain ⟨ho8, hm15, ht99, hby, hlaw⟩ := hok2
  refine g_iload_n F dX0_bestOf_0 rfl rfl (np := 1) rfl ?_
  refine g_if_neN F (by decide) dX0_bestOf_1 (tp := 30) (by decide) (np := 4) rfl (fun c1 => ?_) (fun c1 => ?_)
  · refine g_aload_n F dX0_bestOf_30 rfl rfl (np := 31) rfl ?_
    refine g_iload_n F dX0_bestOf_31 rfl rfl (np := 32) rfl ?_
    refine g_iconst F (v := (nI 1)) dX0_bestOf_32 (by decide) (np := 33) rfl ?_
    refine g_isubN F (by omega) dX0_bestOf_33 (np := 34) rfl ?_
    refine WG.eqv (st' := [.int (nI 0), .ref (Λ.1 0 38)]) (congrArg (fun z => ([.int z, .ref (Λ.1 0 38)] : List Value)) (show (nI (1 - 1)) = (nI 0) from by rfl)) rfl ?_
    refine g_iload_n F dX0_bestOf_34 rfl rfl (np := 35) rfl ?_
    refine g_if_neN F (by decide) dX0_bestOf_35 (tp := 42) (by decide) (np := 38) rfl (fun c35 => ?_) (fun c35 => ?_)
    · exact absurd c35 (by decide)
    · refine g_iconst F (v := (nI 1)) dX0_bestOf_38 (by decide) (np := 39) rfl ?_
      refine g_goto F dX0_bestOf_39 (np := 43) (by decide) ?_
      refine g_runV F (C := RX0) (ci := 0) (T0 := TX0) (N := 38) (rest := []) (ct_X0_bestOf_0_1 σ (by exact hok) (by exact hm14) (by exact hbO)) (lw_V q1010 q1012 qs45 q100 q1013) hcV_X0_bestOf ⟨Nat.le_of_ble_eq_true rfl, Nat.le_of_ble_eq_true rfl⟩ rfl (fun h hs => hs.obj) rfl rfl (Nat.le_of_ble_eq_true rfl) dX0_bestOf_43 ⟨Nat.le_of_ble_eq_true rfl, Nat.le_of_ble_eq_true rfl⟩ (np := 46) rfl (k_RI ?_)
      refine g_istore_n F (lv' := [some (.ref (Λ.1 0 38)), some (.int (nI 1)), some (.int (nI 0)), some (.int (turnS L (σ.2.1 50 1) (σ.2.1 50 2) 0 0 σ)), none, none, none]) dX0_bestOf_46 rfl (by decide) rfl rfl (np := 47) rfl ?_
      refine g_aload_n F dX0_bestOf_47 rfl rfl (np := 48) rfl ?_
      refine g_iload_n F dX0_bestOf_48 rfl rfl (np := 49) rfl ?_
      refine g_if_eqN F (by decide) dX0_bestOf_49 (tp := 59) (by decide) (np := 52) rfl (fun c49 => ?_) (fun c49 => ?_)
      · refine g_aload_n F dX0_bestOf_59 rfl rfl (np := 60) rfl ?_
        refine x_get F (k := 16) (v := .int (σ.2.1 50 1)) (by decide) rfl (Or.inl q195) dX0_bestOf_60 (np := 63) rfl ?_
        refine g_runV F (C := RX0) (ci := 0) (T0 := TX0) (N := 38) (rest := []) (ct_X0_mayDo σ (σ.2.1 50 1) (by first | assumption | omega)) (lw_V q929 q931 qs33 q100 q932) hcV_X0_mayDo ⟨Nat.le_of_ble_eq_true rfl, Nat.le_of_ble_eq_true rfl⟩ rfl (fun h hs => hs.obj) rfl rfl (Nat.le_of_ble_eq_true rfl) dX0_bestOf_63 ⟨Nat.le_of_ble_eq_true rfl, Nat.le_of_ble_eq_true rfl⟩ (np := 66) rfl (k_RI ?_)
        refine g_istore F (lv' := [some (.ref (Λ.1 0 38)), some (.int (nI 1)), some (.int (nI 0)), some (.int (turnS L (σ.2.1 50 1) (σ.2.1 50 2) 0 0 σ)), some (.int (sMay (mP σ) (σ.1 6) (σ.2.1 50 1) (σ.1 2))), none, none]) dX0_bestOf_66 (by decide) rfl rfl (np := 68) rfl ?_
        refine g_iconst F (v := (nI 0)) dX0_bestOf_68 (by decide) (np := 69) rfl ?_
        refine g_istore F (lv' := [some (.ref (Λ.1 0 38)), some (.int (nI 1)), some (.int (nI 0)), some (.int (turnS L (σ.2.1 50 1) (σ.2.1 50 2) 0 0 σ)), some (.int (sMay (mP σ) (σ.1 6) (σ.2.1 50 1) (σ.1 2))), some (.int (nI 0)), none]) dX0_bestOf_69 (by decide) rfl rfl (np := 71) rfl ?_
        have L71 : ∀ (zn : Nat) (b : Int32) (p : Nat), (b = turnB (turnS L (σ.2.1 50 1) (σ.2.1 50 2) 0 0) jmin (σ.2.1 50 1) σ p) → (p ≤ σ.1 2) → σ.1 2 - p < zn → WG zp l ze ({ frames := 206, cells := 0, slots := 0, locals := 4742 } : Room) zs zm za zb zt zc D B 7 (MQ zb (QT D B T) za zs 0 0 (zA B)) (XH D Λ I L σ) 0 0 71 [some (.ref (Λ.1 0 38)), some (.int (nI 1)), some (.int (nI 0)), some (.int b), some (.int (sMay (mP σ) (σ.1 6) (σ.2.1 50 1) (σ.1 2))), some (.int (nI p)), none] [] := by
          intro zn
          induction zn with
          | zero => intro b p h1 h2 hm; exact absurd hm (Nat.not_lt_zero _)
          | succ zn ih71 =>
            intro b p h1 h2 hm
            refine g_iload F dX0_bestOf_71 rfl (np := 73) rfl ?_
            refine g_aload_n F dX0_bestOf_73 rfl rfl (np := 74) rfl ?_
            refine x_get F (k := 3) (v := .int (nI (σ.1 2))) (by decide) rfl (Or.inl q180) dX0_bestOf_74 (np := 77) rfl ?_
            refine g_icmp_geN F (by omega) (by omega) dX0_bestOf_77 (tp := 131) (by decide) (np := 80) rfl (fun c77 => ?_) (fun c77 => ?_)
            · refine g_iload_n F dX0_bestOf_131 rfl rfl (np := 132) rfl ?_
              have hv : b = turnS L (σ.2.1 50 1) (σ.2.1 50 2) 1 1 σ := by rw [h1, show p = σ.1 2 by omega]; rfl
              exact g_iret F hr rfl (Nat.le_of_ble_eq_true rfl) (Nat.le_of_ble_eq_true rfl) dX0_bestOf_132 (fun h hs => by rw [← hT]; exact ⟨congrArg (fun z => some (Value.int z)) hv, hs⟩)
            · refine g_iload F dX0_bestOf_80 rfl (np := 82) rfl ?_
              refine g_iload F dX0_bestOf_82 rfl (np := 84) rfl ?_
              refine g_runS F (rest := []) (ct_X0_has (sMay (mP σ) (σ.1 6) (σ.2.1 50 1) (σ.1 2)) p ) (lw_S q937 q938 q100 q939) hcS_X0_has ⟨Nat.le_of_ble_eq_true rfl, Nat.le_of_ble_eq_true rfl⟩ rfl rfl (Nat.le_of_ble_eq_true rfl) dX0_bestOf_84 ⟨Nat.le_of_ble_eq_true rfl, Nat.le_of_ble_eq_true rfl⟩ (np := 87) rfl (k_RI ?_)
              refine g_if_neB F dX0_bestOf_87 (tp := 93) (by decide) (np := 90) rfl (fun c87 => ?_) (fun c87 => ?_)
              · have hmy : mayP σ (σ.2.1 50 1) p := (bit_may (by omega) (by omega)).mp c87
                refine g_aload_n F dX0_bestOf_93 rfl rfl (np := 94) rfl ?_
                refine g_iload F dX0_bestOf_94 rfl (np := 96) rfl ?_
                refine g_iload_n F dX0_bestOf_96 rfl rfl (np := 97) rfl ?_
                refine g_iload_n F dX0_bestOf_97 rfl rfl (np := 98) rfl ?_
                refine g_runV F (C := RX0) (ci := 0) (T0 := TX0) (N := 38) (rest := []) (ct_X0_byDeed_1_0 σ p (by exact hok) (by exact hm14) (by exact hbO) (by omega) (by exact hmy.2.1)) (lw_V q1014 q1016 qs46 q100 q1017) hcV_X0_byDeed ⟨Nat.le_of_ble_eq_true rfl, Nat.le_of_ble_eq_true rfl⟩ rfl (fun h hs => hs.obj) rfl rfl (Nat.le_of_ble_eq_true rfl) dX0_bestOf_98 ⟨Nat.le_of_ble_eq_true rfl, Nat.le_of_ble_eq_true rfl⟩ (np := 101) rfl (k_RI ?_)
                refine g_istore F (lv' := [some (.ref (Λ.1 0 38)), some (.int (nI 1)), some (.int (nI 0)), some (.int b), some (.int (sMay (mP σ) (σ.1 6) (σ.2.1 50 1) (σ.1 2))), some (.int (nI p)), some (.int (turnS L (σ.2.1 50 1) (σ.2.1 50 2) 0 0 (dnP σ p)))]) dX0_bestOf_101 (by decide) rfl rfl (np := 103) rfl ?_
                refine g_iload_n F dX0_bestOf_103 rfl rfl (np := 104) rfl ?_
                refine g_if_eqN F (by decide) dX0_bestOf_104 (tp := 116) (by decide) (np := 107) rfl (fun c104 => ?_) (fun c104 => ?_)
                · refine g_iload F dX0_bestOf_116 rfl (np := 118) rfl ?_
                  refine g_iload_n F dX0_bestOf_118 rfl rfl (np := 119) rfl ?_
                  refine g_icmp_ge F dX0_bestOf_119 (tp := 125) (by decide) (np := 122) rfl (fun c119 => ?_) (fun c119 => ?_)
                  · refine g_iinc F (v := (nI (p + 1))) (lv' := [some (.ref (Λ.1 0 38)), some (.int (nI 1)), some (.int (nI 0)), some (.int b), some (.int (sMay (mP σ) (σ.1 6) (σ.2.1 50 1) (σ.1 2))), some (.int (nI (p + 1))), some (.int (turnS L (σ.2.1 50 1) (σ.2.1 50 2) 0 0 (dnP σ p)))]) dX0_bestOf_125 rfl (nI_add _ _) (by decide) rfl rfl (np := 128) rfl ?_
                    refine g_goto F dX0_bestOf_128 (np := 71) (by decide) ?_
                    refine WG.dropL (i := 6) (lv' := [some (.ref (Λ.1 0 38)), some (.int (nI 1)), some (.int (nI 0)), some (.int b), some (.int (sMay (mP σ) (σ.1 6) (σ.2.1 50 1) (σ.1 2))), some (.int (nI (p + 1))), none]) rfl ?_
                    exact ih71 b (p + 1) (by unfold turnB; first | (rw [pif_f (fun z => c87 ((bit_may (by omega) (by omega)).mpr z))]; exact h1) | (rw [pif_t hmy, ← h1]; unfold jmin; first | (rw [if_neg (Int32.not_lt.mpr c119)]; done) | (rw [if_pos (Int32.not_le.mp c119)]; done))) (by first | assumption | omega) (by omega)
                  · refine g_iload F dX0_bestOf_122 rfl (np := 124) rfl ?_
                    refine g_istore_n F (lv' := [some (.ref (Λ.1 0 38)), some (.int (nI 1)), some (.int (nI 0)), some (.int (turnS L (σ.2.1 50 1) (σ.2.1 50 2) 0 0 (dnP σ p))), some (.int (sMay (mP σ) (σ.1 6) (σ.2.1 50 1) (σ.1 2))), some (.int (nI p)), some (.int (turnS L (σ.2.1 50 1) (σ.2.1 50 2) 0 0 (dnP σ p)))]) dX0_bestOf_124 rfl (by decide) rfl rfl (np := 125) rfl ?_
                    refine g_iinc F (v := (nI (p + 1))) (lv' := [some (.ref (Λ.1 0 38)), some (.int (nI 1)), some (.int (nI 0)), some (.int (turnS L (σ.2.1 50 1) (σ.2.1 50 2) 0 0 (dnP σ p))), some (.int (sMay (mP σ) (σ.1 6) (σ.2.1 50 1) (σ.1 2))), some (.int (nI (p + 1))), some (.int (turnS L (σ.2.1 50 1) (σ.2.1 50 2) 0 0 (dnP σ p)))]) dX0_bestOf_125 rfl (nI_add _ _) (by decide) rfl rfl (np := 128) rfl ?_
                    refine g_goto F dX0_bestOf_128 (np := 71) (by decide) ?_
                    refine WG.dropL (i := 6) (lv' := [some (.ref (Λ.1 0 38)), some (.int (nI 1)), some (.int (nI 0)), some (.int (turnS L (σ.2.1 50 1) (σ.2.1 50 2) 0 0 (dnP σ p))), some (.int (sMay (mP σ) (σ.1 6) (σ.2.1 50 1) (σ.1 2))), some (.int (nI (p + 1))), none]) rfl ?_
                    exact ih71 (turnS L (σ.2.1 50 1) (σ.2.1 50 2) 0 0 (dnP σ p)) (p + 1) (by unfold turnB; first | (rw [pif_f (fun z => c87 ((bit_may (by omega) (by omega)).mpr z))]; exact h1) | (rw [pif_t hmy, ← h1]; unfold jmin; first | (rw [if_neg (Int32.not_lt.mpr c119)]; done) | (rw [if_pos (Int32.not_le.mp c119)]; done))) (by first | assumption | omega) (by omega)
                · exact absurd c104 (by decide)
              · refine g_goto F dX0_bestOf_90 (np := 125) (by decide) ?_
                refine g_iinc F (v := (nI (p + 1))) (lv' := [some (.ref (Λ.1 0 38)), some (.int (nI 1)), some (.int (nI 0)), some (.int b), some (.int (sMay (mP σ) (σ.1 6) (σ.2.1 50 1) (σ.1 2))), some (.int (nI (p + 1))), none]) dX0_bestOf_125 rfl (nI_add _ _) (by decide) rfl rfl (np := 128) rfl ?_
                refine g_goto F dX0_bestOf_128 (np := 71) (by decide) ?_
                exact ih71 b (p + 1) (by unfold turnB; first | (rw [pif_f (fun z => c87 ((bit_may (by omega) (by omega)).mpr z))]; exact h1) | (rw [pif_t hmy, ← h1]; unfold jmin; first | (rw [if_neg (Int32.not_lt.mpr c119)]; done) | (rw [if_pos (Int32.not_le.mp c119)]; done))) (by first | assumption | omega) (by omega)
        exact L71 _ (turnS L (σ.2.1 50 1) (σ.2.1 50 2) 0 0 σ) 0 (by rfl) (by omega) (Nat.lt_succ_self _)
      · exact absurd c49 (by decide)
  · exact absurd c1 (by decide)

set_option maxRecDepth 100000 in
theorem ct_X0_bestOf_1_1 {l : Launch} {D : va_G} {B : Nat} {Λ : LT} {I : AH} {L : LawT} (σ : MSt)   (hok : mOK σ L) (hm14 : σ.1 2 ≤ 14) (hbO : byOK σ) : Ct l D ZE B yX0_bestOf cX0_bestOf 7 (some .int) 206 4742 0 0 [.ref (Λ.1 0 38), .int (nI 1), .int (nI 1)] (XH D Λ I L σ) (RI (turnS L (σ.2.1 50 1) (σ.2.1 50 2) 1 0 σ) (XH D Λ I L σ)) := by
  refine Ct.of (nL := 7) (lv := [some (.ref (Λ.1 0 38)), some (.int (nI 1)), some (.int (nI 1)), none, none, none, none]) (by decide) (Nat.le_of_ble_eq_true rfl) stZE 4 rfl ?_
  generalize hT : RI (turnS L (σ.2.1 50 1) (σ.2.1 50 2) 1 0 σ) (XH D Λ I L σ) = T
  intro zp ze zs zm zb zt zc F hr hnm
  generalize ([.ref (Λ.1 0 38), .int (nI 1), .int (nI 1)] : List Value).toArray = za at F ⊢
  have hok2 := hok
  obtain ⟨ho8, hm15, ht99, hby, hlaw⟩ := hok2
  refine g_iload_n F dX0_bestOf_0 rfl rfl (np := 1) rfl ?_
  refine g_if_neN F (by decide) dX0_bestOf_1 (tp := 30) (by decide) (np := 4) rfl (fun c1 => ?_) (fun c1 => ?_)
  · refine g_aload_n F dX0_bestOf_30 rfl rfl (np := 31) rfl ?_
    refine g_iload_n F dX0_bestOf_31 rfl rfl (np := 32) rfl ?_
    refine g_iconst F (v := (nI 1)) dX0_bestOf_32 (by decide) (np := 33) rfl ?_
    refine g_isubN F (by omega) dX0_bestOf_33 (np := 34) rfl ?_
    refine WG.eqv (st' := [.int (nI 0), .ref (Λ.1 0 38)]) (congrArg (fun z => ([.int z, .ref (Λ.1 0 38)] : List Value)) (show (nI (1 - 1)) = (nI 0) from by rfl)) rfl ?_
    refine g_iload_n F dX0_bestOf_34 rfl rfl (np := 35) rfl ?_
    refine g_if_neN F (by decide) dX0_bestOf_35 (tp := 42) (by decide) (np := 38) rfl (fun c35 => ?_) (fun c35 => ?_)
    · refine g_iconst F (v := (nI 0)) dX0_bestOf_42 (by decide) (np := 43) rfl ?_
      refine g_runV F (C := RX0) (ci := 0) (T0 := TX0) (N := 38) (rest := []) (ct_X0_bestOf_0_0 σ (by exact hok) (by exact hm14) (by exact hbO)) (lw_V q1010 q1012 qs45 q100 q1013) hcV_X0_bestOf ⟨Nat.le_of_ble_eq_true rfl, Nat.le_of_ble_eq_true rfl⟩ rfl (fun h hs => hs.obj) rfl rfl (Nat.le_of_ble_eq_true rfl) dX0_bestOf_43 ⟨Nat.le_of_ble_eq_true rfl, Nat.le_of_ble_eq_true rfl⟩ (np := 46) rfl (k_RI ?_)
      refine g_istore_n F (lv' := [some (.ref (Λ.1 0 38)), some (.int (nI 1)), some (.int (nI 1)), some (.int (turnS L (σ.2.1 50 1) (σ.2.1 50 2) 0 1 σ)), none, none, none]) dX0_bestOf_46 rfl (by decide) rfl rfl (np := 47) rfl ?_
      refine g_aload_n F dX0_bestOf_47 rfl rfl (np := 48) rfl ?_
      refine g_iload_n F dX0_bestOf_48 rfl rfl (np := 49) rfl ?_
      refine g_if_eqN F (by decide) dX0_bestOf_49 (tp := 59) (by decide) (np := 52) rfl (fun c49 => ?_) (fun c49 => ?_)
      · exact absurd c49 (by decide)
      · refine g_aload_n F dX0_bestOf_52 rfl rfl (np := 53) rfl ?_
        refine x_get F (k := 17) (v := .int (σ.2.1 50 2)) (by decide) rfl (Or.inl q196) dX0_bestOf_53 (np := 56) rfl ?_
        refine g_goto F dX0_bestOf_56 (np := 63) (by decide) ?_
        refine g_runV F (C := RX0) (ci := 0) (T0 := TX0) (N := 38) (rest := []) (ct_X0_mayDo σ (σ.2.1 50 2) (by first | assumption | omega)) (lw_V q929 q931 qs33 q100 q932) hcV_X0_mayDo ⟨Nat.le_of_ble_eq_true rfl, Nat.le_of_ble_eq_true rfl⟩ rfl (fun h hs => hs.obj) rfl rfl (Nat.le_of_ble_eq_true rfl) dX0_bestOf_63 ⟨Nat.le_of_ble_eq_true rfl, Nat.le_of_ble_eq_true rfl⟩ (np := 66) rfl (k_RI ?_)
        refine g_istore F (lv' := [some (.ref (Λ.1 0 38)), some (.int (nI 1)), some (.int (nI 1)), some (.int (turnS L (σ.2.1 50 1) (σ.2.1 50 2) 0 1 σ)), some (.int (sMay (mP σ) (σ.1 6) (σ.2.1 50 2) (σ.1 2))), none, none]) dX0_bestOf_66 (by decide) rfl rfl (np := 68) rfl ?_
        refine g_iconst F (v := (nI 0)) dX0_bestOf_68 (by decide) (np := 69) rfl ?_
        refine g_istore F (lv' := [some (.ref (Λ.1 0 38)), some (.int (nI 1)), some (.int (nI 1)), some (.int (turnS L (σ.2.1 50 1) (σ.2.1 50 2) 0 1 σ)), some (.int (sMay (mP σ) (σ.1 6) (σ.2.1 50 2) (σ.1 2))), some (.int (nI 0)), none]) dX0_bestOf_69 (by decide) rfl rfl (np := 71) rfl ?_
        have L71 : ∀ (zn : Nat) (b : Int32) (p : Nat), (b = turnB (turnS L (σ.2.1 50 1) (σ.2.1 50 2) 0 1) jmax (σ.2.1 50 2) σ p) → (p ≤ σ.1 2) → σ.1 2 - p < zn → WG zp l ze ({ frames := 206, cells := 0, slots := 0, locals := 4742 } : Room) zs zm za zb zt zc D B 7 (MQ zb (QT D B T) za zs 0 0 (zA B)) (XH D Λ I L σ) 0 0 71 [some (.ref (Λ.1 0 38)), some (.int (nI 1)), some (.int (nI 1)), some (.int b), some (.int (sMay (mP σ) (σ.1 6) (σ.2.1 50 2) (σ.1 2))), some (.int (nI p)), none] [] := by
          intro zn
          induction zn with
          | zero => intro b p h1 h2 hm; exact absurd hm (Nat.not_lt_zero _)
          | succ zn ih71 =>
            intro b p h1 h2 hm
            refine g_iload F dX0_bestOf_71 rfl (np := 73) rfl ?_
            refine g_aload_n F dX0_bestOf_73 rfl rfl (np := 74) rfl ?_
            refine x_get F (k := 3) (v := .int (nI (σ.1 2))) (by decide) rfl (Or.inl q180) dX0_bestOf_74 (np := 77) rfl ?_
            refine g_icmp_geN F (by omega) (by omega) dX0_bestOf_77 (tp := 131) (by decide) (np := 80) rfl (fun c77 => ?_) (fun c77 => ?_)
            · refine g_iload_n F dX0_bestOf_131 rfl rfl (np := 132) rfl ?_
              have hv : b = turnS L (σ.2.1 50 1) (σ.2.1 50 2) 1 0 σ := by rw [h1, show p = σ.1 2 by omega]; rfl
              exact g_iret F hr rfl (Nat.le_of_ble_eq_true rfl) (Nat.le_of_ble_eq_true rfl) dX0_bestOf_132 (fun h hs => by rw [← hT]; exact ⟨congrArg (fun z => some (Value.int z)) hv, hs⟩)
            · refine g_iload F dX0_bestOf_80 rfl (np := 82) rfl ?_
              refine g_iload F dX0_bestOf_82 rfl (np := 84) rfl ?_
              refine g_runS F (rest := []) (ct_X0_has (sMay (mP σ) (σ.1 6) (σ.2.1 50 2) (σ.1 2)) p ) (lw_S q937 q938 q100 q939) hcS_X0_has ⟨Nat.le_of_ble_eq_true rfl, Nat.le_of_ble_eq_true rfl⟩ rfl rfl (Nat.le_of_ble_eq_true rfl) dX0_bestOf_84 ⟨Nat.le_of_ble_eq_true rfl, Nat.le_of_ble_eq_true rfl⟩ (np := 87) rfl (k_RI ?_)
              refine g_if_neB F dX0_bestOf_87 (tp := 93) (by decide) (np := 90) rfl (fun c87 => ?_) (fun c87 => ?_)
              · have hmy : mayP σ (σ.2.1 50 2) p := (bit_may (by omega) (by omega)).mp c87
                refine g_aload_n F dX0_bestOf_93 rfl rfl (np := 94) rfl ?_
                refine g_iload F dX0_bestOf_94 rfl (np := 96) rfl ?_
                refine g_iload_n F dX0_bestOf_96 rfl rfl (np := 97) rfl ?_
                refine g_iload_n F dX0_bestOf_97 rfl rfl (np := 98) rfl ?_
                refine g_runV F (C := RX0) (ci := 0) (T0 := TX0) (N := 38) (rest := []) (ct_X0_byDeed_1_1 σ p (by exact hok) (by exact hm14) (by exact hbO) (by omega) (by exact hmy.2.1)) (lw_V q1014 q1016 qs46 q100 q1017) hcV_X0_byDeed ⟨Nat.le_of_ble_eq_true rfl, Nat.le_of_ble_eq_true rfl⟩ rfl (fun h hs => hs.obj) rfl rfl (Nat.le_of_ble_eq_true rfl) dX0_bestOf_98 ⟨Nat.le_of_ble_eq_true rfl, Nat.le_of_ble_eq_true rfl⟩ (np := 101) rfl (k_RI ?_)
                refine g_istore F (lv' := [some (.ref (Λ.1 0 38)), some (.int (nI 1)), some (.int (nI 1)), some (.int b), some (.int (sMay (mP σ) (σ.1 6) (σ.2.1 50 2) (σ.1 2))), some (.int (nI p)), some (.int (turnS L (σ.2.1 50 1) (σ.2.1 50 2) 0 1 (dnP σ p)))]) dX0_bestOf_101 (by decide) rfl rfl (np := 103) rfl ?_
                refine g_iload_n F dX0_bestOf_103 rfl rfl (np := 104) rfl ?_
                refine g_if_eqN F (by decide) dX0_bestOf_104 (tp := 116) (by decide) (np := 107) rfl (fun c104 => ?_) (fun c104 => ?_)
                · exact absurd c104 (by decide)
                · refine g_iload F dX0_bestOf_107 rfl (np := 109) rfl ?_
                  refine g_iload_n F dX0_bestOf_109 rfl rfl (np := 110) rfl ?_
                  refine g_icmp_le F dX0_bestOf_110 (tp := 125) (by decide) (np := 113) rfl (fun c110 => ?_) (fun c110 => ?_)
                  · refine g_iinc F (v := (nI (p + 1))) (lv' := [some (.ref (Λ.1 0 38)), some (.int (nI 1)), some (.int (nI 1)), some (.int b), some (.int (sMay (mP σ) (σ.1 6) (σ.2.1 50 2) (σ.1 2))), some (.int (nI (p + 1))), some (.int (turnS L (σ.2.1 50 1) (σ.2.1 50 2) 0 1 (dnP σ p)))]) dX0_bestOf_125 rfl (nI_add _ _) (by decide) rfl rfl (np := 128) rfl ?_
                    refine g_goto F dX0_bestOf_128 (np := 71) (by decide) ?_
                    refine WG.dropL (i := 6) (lv' := [some (.ref (Λ.1 0 38)), some (.int (nI 1)), some (.int (nI 1)), some (.int b), some (.int (sMay (mP σ) (σ.1 6) (σ.2.1 50 2) (σ.1 2))), some (.int (nI (p + 1))), none]) rfl ?_
                    exact ih71 b (p + 1) (by unfold turnB; first | (rw [pif_f (fun z => c87 ((bit_may (by omega) (by omega)).mpr z))]; exact h1) | (rw [pif_t hmy, ← h1]; unfold jmax; first | (rw [if_neg (Int32.not_lt.mpr c110)]; done) | (rw [if_pos (Int32.not_le.mp c110)]; done))) (by first | assumption | omega) (by omega)
                  · refine g_goto F dX0_bestOf_113 (np := 122) (by decide) ?_
                    refine g_iload F dX0_bestOf_122 rfl (np := 124) rfl ?_
                    refine g_istore_n F (lv' := [some (.ref (Λ.1 0 38)), some (.int (nI 1)), some (.int (nI 1)), some (.int (turnS L (σ.2.1 50 1) (σ.2.1 50 2) 0 1 (dnP σ p))), some (.int (sMay (mP σ) (σ.1 6) (σ.2.1 50 2) (σ.1 2))), some (.int (nI p)), some (.int (turnS L (σ.2.1 50 1) (σ.2.1 50 2) 0 1 (dnP σ p)))]) dX0_bestOf_124 rfl (by decide) rfl rfl (np := 125) rfl ?_
                    refine g_iinc F (v := (nI (p + 1))) (lv' := [some (.ref (Λ.1 0 38)), some (.int (nI 1)), some (.int (nI 1)), some (.int (turnS L (σ.2.1 50 1) (σ.2.1 50 2) 0 1 (dnP σ p))), some (.int (sMay (mP σ) (σ.1 6) (σ.2.1 50 2) (σ.1 2))), some (.int (nI (p + 1))), some (.int (turnS L (σ.2.1 50 1) (σ.2.1 50 2) 0 1 (dnP σ p)))]) dX0_bestOf_125 rfl (nI_add _ _) (by decide) rfl rfl (np := 128) rfl ?_
                    refine g_goto F dX0_bestOf_128 (np := 71) (by decide) ?_
                    refine WG.dropL (i := 6) (lv' := [some (.ref (Λ.1 0 38)), some (.int (nI 1)), some (.int (nI 1)), some (.int (turnS L (σ.2.1 50 1) (σ.2.1 50 2) 0 1 (dnP σ p))), some (.int (sMay (mP σ) (σ.1 6) (σ.2.1 50 2) (σ.1 2))), some (.int (nI (p + 1))), none]) rfl ?_
                    exact ih71 (turnS L (σ.2.1 50 1) (σ.2.1 50 2) 0 1 (dnP σ p)) (p + 1) (by unfold turnB; first | (rw [pif_f (fun z => c87 ((bit_may (by omega) (by omega)).mpr z))]; exact h1) | (rw [pif_t hmy, ← h1]; unfold jmax; first | (rw [if_neg (Int32.not_lt.mpr c110)]; done) | (rw [if_pos (Int32.not_le.mp c110)]; done))) (by first | assumption | omega) (by omega)
              · refine g_goto F dX0_bestOf_90 (np := 125) (by decide) ?_
                refine g_iinc F (v := (nI (p + 1))) (lv' := [some (.ref (Λ.1 0 38)), some (.int (nI 1)), some (.int (nI 1)), some (.int b), some (.int (sMay (mP σ) (σ.1 6) (σ.2.1 50 2) (σ.1 2))), some (.int (nI (p + 1))), none]) dX0_bestOf_125 rfl (nI_add _ _) (by decide) rfl rfl (np := 128) rfl ?_
                refine g_goto F dX0_bestOf_128 (np := 71) (by decide) ?_
                exact ih71 b (p + 1) (by unfold turnB; first | (rw [pif_f (fun z => c87 ((bit_may (by omega) (by omega)).mpr z))]; exact h1) | (rw [pif_t hmy, ← h1]; unfold jmax; first | (rw [if_neg (Int32.not_lt.mpr c110)]; done) | (rw [if_pos (Int32.not_le.mp c110)]; done))) (by first | assumption | omega) (by omega)
        exact L71 _ (turnS L (σ.2.1 50 1) (σ.2.1 50 2) 0 1 σ) 0 (by rfl) (by omega) (Nat.lt_succ_self _)
    · exact absurd c35 (by decide)
  · exact absurd c1 (by decide)

set_option maxRecDepth 100000 in
theorem ct_X0_byDeed_2_0 {l : Launch} {D : va_G} {B : Nat} {Λ : LT} {I : AH} {L : LawT} (σ : MSt)  (p : Nat) (hok : mOK σ L) (hm14 : σ.1 2 ≤ 14) (hbO : byOK σ) (hp : p < σ.1 2) (ho : sOpen (mP σ) (σ.1 6) p) : Ct l D ZE B yX0_byDeed cX0_byDeed 5 (some .int) 207 4768 0 0 [.ref (Λ.1 0 38), .int (nI p), .int (nI 2), .int (nI 0)] (XH D Λ I L σ) (RI (turnS L (σ.2.1 50 1) (σ.2.1 50 2) 1 0 (dnP σ p)) (XH D Λ I L σ)) := by
  refine Ct.of (nL := 5) (lv := [some (.ref (Λ.1 0 38)), some (.int (nI p)), some (.int (nI 2)), some (.int (nI 0)), none]) (by decide) (Nat.le_of_ble_eq_true rfl) stZE 1 rfl ?_
  generalize hT : RI (turnS L (σ.2.1 50 1) (σ.2.1 50 2) 1 0 (dnP σ p)) (XH D Λ I L σ) = T
  intro zp ze zs zm zb zt zc F hr hnm
  generalize ([.ref (Λ.1 0 38), .int (nI p), .int (nI 2), .int (nI 0)] : List Value).toArray = za at F ⊢
  have hok2 := hok
  obtain ⟨ho8, hm15, ht99, hby, hlaw⟩ := hok2
  refine g_aload_n F dX0_byDeed_0 rfl rfl (np := 1) rfl ?_
  refine x_get F (k := 1) (v := .ref (Λ.1 0 1)) (by decide) rfl (Or.inl q178) dX0_byDeed_1 (np := 4) rfl ?_
  refine g_iload_n F dX0_byDeed_4 rfl rfl (np := 5) rfl ?_
  refine x_aldP F (i := p) rfl (show p < σ.1 2 by omega) (show σ.1 2 ≤ 14 by omega) dX0_byDeed_5 (np := 6) rfl ?_
  refine g_iconst F (v := (nI 1)) dX0_byDeed_6 (by decide) (np := 7) rfl ?_
  refine x_putP F (j := 6) (q := p) (by decide) (by decide) (show σ.1 2 ≤ 15 by omega) (show p < σ.1 2 by omega) (Or.inr ⟨_, ze345⟩) rfl rfl dX0_byDeed_7 (np := 10) rfl ?_
  refine WG.weak (S' := XH D Λ I L (dnP σ p)) (fun h hs => by rw [show (dnP σ p) = (sA σ 3 (60 + p) (nI (1))) from by rfl]; exact hs) ?_
  refine g_aload_n F dX0_byDeed_10 rfl rfl (np := 11) rfl ?_
  refine g_iload_n F dX0_byDeed_11 rfl rfl (np := 12) rfl ?_
  refine g_iconst F (v := (nI 1)) dX0_byDeed_12 (by decide) (np := 13) rfl ?_
  refine g_isubN F (by omega) dX0_byDeed_13 (np := 14) rfl ?_
  refine WG.eqv (st' := [.int (nI 1), .ref (Λ.1 0 38)]) (congrArg (fun z => ([.int z, .ref (Λ.1 0 38)] : List Value)) (show (nI (2 - 1)) = (nI 1) from by rfl)) rfl ?_
  refine g_iload_n F dX0_byDeed_14 rfl rfl (np := 15) rfl ?_
  refine g_if_neN F (by decide) dX0_byDeed_15 (tp := 22) (by decide) (np := 18) rfl (fun c15 => ?_) (fun c15 => ?_)
  · exact absurd c15 (by decide)
  · refine g_iconst F (v := (nI 1)) dX0_byDeed_18 (by decide) (np := 19) rfl ?_
    refine g_goto F dX0_byDeed_19 (np := 23) (by decide) ?_
    refine g_runV F (C := RX0) (ci := 0) (T0 := TX0) (N := 38) (rest := []) (ct_X0_bestOf_1_1 (dnP σ p) (by exact hok.sA3 _ _) (by exact hm14) (by exact hbO.same rfl rfl rfl)) (lw_V q1010 q1012 qs45 q100 q1013) hcV_X0_bestOf ⟨Nat.le_of_ble_eq_true rfl, Nat.le_of_ble_eq_true rfl⟩ rfl (fun h hs => hs.obj) rfl rfl (Nat.le_of_ble_eq_true rfl) dX0_byDeed_23 ⟨Nat.le_of_ble_eq_true rfl, Nat.le_of_ble_eq_true rfl⟩ (np := 26) rfl (k_RI ?_)
    refine g_istore F (lv' := [some (.ref (Λ.1 0 38)), some (.int (nI p)), some (.int (nI 2)), some (.int (nI 0)), some (.int (turnS L ((dnP σ p).2.1 50 1) ((dnP σ p).2.1 50 2) 1 0 (dnP σ p)))]) dX0_byDeed_26 (by decide) rfl rfl (np := 28) rfl ?_
    refine g_aload_n F dX0_byDeed_28 rfl rfl (np := 29) rfl ?_
    refine x_get F (k := 1) (v := .ref (Λ.1 0 1)) (by decide) rfl (Or.inl q178) dX0_byDeed_29 (np := 32) rfl ?_
    refine g_iload_n F dX0_byDeed_32 rfl rfl (np := 33) rfl ?_
    refine x_aldP F (i := p) rfl (show p < σ.1 2 by omega) (show σ.1 2 ≤ 14 by omega) dX0_byDeed_33 (np := 34) rfl ?_
    refine g_iconst F (v := (nI 0)) dX0_byDeed_34 (by decide) (np := 35) rfl ?_
    refine x_putP F (j := 6) (q := p) (by decide) (by decide) (show σ.1 2 ≤ 15 by omega) (show p < σ.1 2 by omega) (Or.inr ⟨_, ze345⟩) rfl rfl dX0_byDeed_35 (np := 38) rfl ?_
    refine WG.weak (S' := XH D Λ I L σ) (fun h hs => by rw [show σ = (sA ((dnP σ p)) 3 (60 + p) (nI (0))) from by exact (dn_back ho).symm]; exact hs) ?_
    refine g_iload F dX0_byDeed_38 rfl (np := 40) rfl ?_
    have hv : turnS L ((dnP σ p).2.1 50 1) ((dnP σ p).2.1 50 2) 1 0 (dnP σ p) = turnS L (σ.2.1 50 1) (σ.2.1 50 2) 1 0 (dnP σ p) := by rfl
    exact g_iret F hr rfl (Nat.le_of_ble_eq_true rfl) (Nat.le_of_ble_eq_true rfl) dX0_byDeed_40 (fun h hs => by rw [← hT]; exact ⟨congrArg (fun z => some (Value.int z)) hv, hs⟩)

set_option maxRecDepth 100000 in
theorem ct_X0_byDeed_2_1 {l : Launch} {D : va_G} {B : Nat} {Λ : LT} {I : AH} {L : LawT} (σ : MSt)  (p : Nat) (hok : mOK σ L) (hm14 : σ.1 2 ≤ 14) (hbO : byOK σ) (hp : p < σ.1 2) (ho : sOpen (mP σ) (σ.1 6) p) : Ct l D ZE B yX0_byDeed cX0_byDeed 5 (some .int) 207 4768 0 0 [.ref (Λ.1 0 38), .int (nI p), .int (nI 2), .int (nI 1)] (XH D Λ I L σ) (RI (turnS L (σ.2.1 50 1) (σ.2.1 50 2) 1 1 (dnP σ p)) (XH D Λ I L σ)) := by
  refine Ct.of (nL := 5) (lv := [some (.ref (Λ.1 0 38)), some (.int (nI p)), some (.int (nI 2)), some (.int (nI 1)), none]) (by decide) (Nat.le_of_ble_eq_true rfl) stZE 1 rfl ?_
  generalize hT : RI (turnS L (σ.2.1 50 1) (σ.2.1 50 2) 1 1 (dnP σ p)) (XH D Λ I L σ) = T
  intro zp ze zs zm zb zt zc F hr hnm
  generalize ([.ref (Λ.1 0 38), .int (nI p), .int (nI 2), .int (nI 1)] : List Value).toArray = za at F ⊢
  have hok2 := hok
  obtain ⟨ho8, hm15, ht99, hby, hlaw⟩ := hok2
  refine g_aload_n F dX0_byDeed_0 rfl rfl (np := 1) rfl ?_
  refine x_get F (k := 1) (v := .ref (Λ.1 0 1)) (by decide) rfl (Or.inl q178) dX0_byDeed_1 (np := 4) rfl ?_
  refine g_iload_n F dX0_byDeed_4 rfl rfl (np := 5) rfl ?_
  refine x_aldP F (i := p) rfl (show p < σ.1 2 by omega) (show σ.1 2 ≤ 14 by omega) dX0_byDeed_5 (np := 6) rfl ?_
  refine g_iconst F (v := (nI 1)) dX0_byDeed_6 (by decide) (np := 7) rfl ?_
  refine x_putP F (j := 6) (q := p) (by decide) (by decide) (show σ.1 2 ≤ 15 by omega) (show p < σ.1 2 by omega) (Or.inr ⟨_, ze345⟩) rfl rfl dX0_byDeed_7 (np := 10) rfl ?_
  refine WG.weak (S' := XH D Λ I L (dnP σ p)) (fun h hs => by rw [show (dnP σ p) = (sA σ 3 (60 + p) (nI (1))) from by rfl]; exact hs) ?_
  refine g_aload_n F dX0_byDeed_10 rfl rfl (np := 11) rfl ?_
  refine g_iload_n F dX0_byDeed_11 rfl rfl (np := 12) rfl ?_
  refine g_iconst F (v := (nI 1)) dX0_byDeed_12 (by decide) (np := 13) rfl ?_
  refine g_isubN F (by omega) dX0_byDeed_13 (np := 14) rfl ?_
  refine WG.eqv (st' := [.int (nI 1), .ref (Λ.1 0 38)]) (congrArg (fun z => ([.int z, .ref (Λ.1 0 38)] : List Value)) (show (nI (2 - 1)) = (nI 1) from by rfl)) rfl ?_
  refine g_iload_n F dX0_byDeed_14 rfl rfl (np := 15) rfl ?_
  refine g_if_neN F (by decide) dX0_byDeed_15 (tp := 22) (by decide) (np := 18) rfl (fun c15 => ?_) (fun c15 => ?_)
  · refine g_iconst F (v := (nI 0)) dX0_byDeed_22 (by decide) (np := 23) rfl ?_
    refine g_runV F (C := RX0) (ci := 0) (T0 := TX0) (N := 38) (rest := []) (ct_X0_bestOf_1_0 (dnP σ p) (by exact hok.sA3 _ _) (by exact hm14) (by exact hbO.same rfl rfl rfl)) (lw_V q1010 q1012 qs45 q100 q1013) hcV_X0_bestOf ⟨Nat.le_of_ble_eq_true rfl, Nat.le_of_ble_eq_true rfl⟩ rfl (fun h hs => hs.obj) rfl rfl (Nat.le_of_ble_eq_true rfl) dX0_byDeed_23 ⟨Nat.le_of_ble_eq_true rfl, Nat.le_of_ble_eq_true rfl⟩ (np := 26) rfl (k_RI ?_)
    refine g_istore F (lv' := [some (.ref (Λ.1 0 38)), some (.int (nI p)), some (.int (nI 2)), some (.int (nI 1)), some (.int (turnS L ((dnP σ p).2.1 50 1) ((dnP σ p).2.1 50 2) 1 1 (dnP σ p)))]) dX0_byDeed_26 (by decide) rfl rfl (np := 28) rfl ?_
    refine g_aload_n F dX0_byDeed_28 rfl rfl (np := 29) rfl ?_
    refine x_get F (k := 1) (v := .ref (Λ.1 0 1)) (by decide) rfl (Or.inl q178) dX0_byDeed_29 (np := 32) rfl ?_
    refine g_iload_n F dX0_byDeed_32 rfl rfl (np := 33) rfl ?_
    refine x_aldP F (i := p) rfl (show p < σ.1 2 by omega) (show σ.1 2 ≤ 14 by omega) dX0_byDeed_33 (np := 34) rfl ?_
    refine g_iconst F (v := (nI 0)) dX0_byDeed_34 (by decide) (np := 35) rfl ?_
    refine x_putP F (j := 6) (q := p) (by decide) (by decide) (show σ.1 2 ≤ 15 by omega) (show p < σ.1 2 by omega) (Or.inr ⟨_, ze345⟩) rfl rfl dX0_byDeed_35 (np := 38) rfl ?_
    refine WG.weak (S' := XH D Λ I L σ) (fun h hs => by rw [show σ = (sA ((dnP σ p)) 3 (60 + p) (nI (0))) from by exact (dn_back ho).symm]; exact hs) ?_
    refine g_iload F dX0_byDeed_38 rfl (np := 40) rfl ?_
    have hv : turnS L ((dnP σ p).2.1 50 1) ((dnP σ p).2.1 50 2) 1 1 (dnP σ p) = turnS L (σ.2.1 50 1) (σ.2.1 50 2) 1 1 (dnP σ p) := by rfl
    exact g_iret F hr rfl (Nat.le_of_ble_eq_true rfl) (Nat.le_of_ble_eq_true rfl) dX0_byDeed_40 (fun h hs => by rw [← hT]; exact ⟨congrArg (fun z => some (Value.int z)) hv, hs⟩)
  · exact absurd c15 (by decide)

set_option maxRecDepth 100000 in
theorem ct_X0_bestOf_2_0 {l : Launch} {D : va_G} {B : Nat} {Λ : LT} {I : AH} {L : LawT} (σ : MSt)   (hok : mOK σ L) (hm14 : σ.1 2 ≤ 14) (hbO : byOK σ) : Ct l D ZE B yX0_bestOf cX0_bestOf 7 (some .int) 208 4792 0 0 [.ref (Λ.1 0 38), .int (nI 2), .int (nI 0)] (XH D Λ I L σ) (RI (turnS L (σ.2.1 50 1) (σ.2.1 50 2) 2 1 σ) (XH D Λ I L σ)) := by
  refine Ct.of (nL := 7) (lv := [some (.ref (Λ.1 0 38)), some (.int (nI 2)), some (.int (nI 0)), none, none, none, none]) (by decide) (Nat.le_of_ble_eq_true rfl) stZE 4 rfl ?_
  generalize hT : RI (turnS L (σ.2.1 50 1) (σ.2.1 50 2) 2 1 σ) (XH D Λ I L σ) = T
  intro zp ze zs zm zb zt zc F hr hnm
  generalize ([.ref (Λ.1 0 38), .int (nI 2), .int (nI 0)] : List Value).toArray = za at F ⊢
  have hok2 := hok
  obtain ⟨ho8, hm15, ht99, hby, hlaw⟩ := hok2
  refine g_iload_n F dX0_bestOf_0 rfl rfl (np := 1) rfl ?_
  refine g_if_neN F (by decide) dX0_bestOf_1 (tp := 30) (by decide) (np := 4) rfl (fun c1 => ?_) (fun c1 => ?_)
  · refine g_aload_n F dX0_bestOf_30 rfl rfl (np := 31) rfl ?_
    refine g_iload_n F dX0_bestOf_31 rfl rfl (np := 32) rfl ?_
    refine g_iconst F (v := (nI 1)) dX0_bestOf_32 (by decide) (np := 33) rfl ?_
    refine g_isubN F (by omega) dX0_bestOf_33 (np := 34) rfl ?_
    refine WG.eqv (st' := [.int (nI 1), .ref (Λ.1 0 38)]) (congrArg (fun z => ([.int z, .ref (Λ.1 0 38)] : List Value)) (show (nI (2 - 1)) = (nI 1) from by rfl)) rfl ?_
    refine g_iload_n F dX0_bestOf_34 rfl rfl (np := 35) rfl ?_
    refine g_if_neN F (by decide) dX0_bestOf_35 (tp := 42) (by decide) (np := 38) rfl (fun c35 => ?_) (fun c35 => ?_)
    · exact absurd c35 (by decide)
    · refine g_iconst F (v := (nI 1)) dX0_bestOf_38 (by decide) (np := 39) rfl ?_
      refine g_goto F dX0_bestOf_39 (np := 43) (by decide) ?_
      refine g_runV F (C := RX0) (ci := 0) (T0 := TX0) (N := 38) (rest := []) (ct_X0_bestOf_1_1 σ (by exact hok) (by exact hm14) (by exact hbO)) (lw_V q1010 q1012 qs45 q100 q1013) hcV_X0_bestOf ⟨Nat.le_of_ble_eq_true rfl, Nat.le_of_ble_eq_true rfl⟩ rfl (fun h hs => hs.obj) rfl rfl (Nat.le_of_ble_eq_true rfl) dX0_bestOf_43 ⟨Nat.le_of_ble_eq_true rfl, Nat.le_of_ble_eq_true rfl⟩ (np := 46) rfl (k_RI ?_)
      refine g_istore_n F (lv' := [some (.ref (Λ.1 0 38)), some (.int (nI 2)), some (.int (nI 0)), some (.int (turnS L (σ.2.1 50 1) (σ.2.1 50 2) 1 0 σ)), none, none, none]) dX0_bestOf_46 rfl (by decide) rfl rfl (np := 47) rfl ?_
      refine g_aload_n F dX0_bestOf_47 rfl rfl (np := 48) rfl ?_
      refine g_iload_n F dX0_bestOf_48 rfl rfl (np := 49) rfl ?_
      refine g_if_eqN F (by decide) dX0_bestOf_49 (tp := 59) (by decide) (np := 52) rfl (fun c49 => ?_) (fun c49 => ?_)
      · refine g_aload_n F dX0_bestOf_59 rfl rfl (np := 60) rfl ?_
        refine x_get F (k := 16) (v := .int (σ.2.1 50 1)) (by decide) rfl (Or.inl q195) dX0_bestOf_60 (np := 63) rfl ?_
        refine g_runV F (C := RX0) (ci := 0) (T0 := TX0) (N := 38) (rest := []) (ct_X0_mayDo σ (σ.2.1 50 1) (by first | assumption | omega)) (lw_V q929 q931 qs33 q100 q932) hcV_X0_mayDo ⟨Nat.le_of_ble_eq_true rfl, Nat.le_of_ble_eq_true rfl⟩ rfl (fun h hs => hs.obj) rfl rfl (Nat.le_of_ble_eq_true rfl) dX0_bestOf_63 ⟨Nat.le_of_ble_eq_true rfl, Nat.le_of_ble_eq_true rfl⟩ (np := 66) rfl (k_RI ?_)
        refine g_istore F (lv' := [some (.ref (Λ.1 0 38)), some (.int (nI 2)), some (.int (nI 0)), some (.int (turnS L (σ.2.1 50 1) (σ.2.1 50 2) 1 0 σ)), some (.int (sMay (mP σ) (σ.1 6) (σ.2.1 50 1) (σ.1 2))), none, none]) dX0_bestOf_66 (by decide) rfl rfl (np := 68) rfl ?_
        refine g_iconst F (v := (nI 0)) dX0_bestOf_68 (by decide) (np := 69) rfl ?_
        refine g_istore F (lv' := [some (.ref (Λ.1 0 38)), some (.int (nI 2)), some (.int (nI 0)), some (.int (turnS L (σ.2.1 50 1) (σ.2.1 50 2) 1 0 σ)), some (.int (sMay (mP σ) (σ.1 6) (σ.2.1 50 1) (σ.1 2))), some (.int (nI 0)), none]) dX0_bestOf_69 (by decide) rfl rfl (np := 71) rfl ?_
        have L71 : ∀ (zn : Nat) (b : Int32) (p : Nat), (b = turnB (turnS L (σ.2.1 50 1) (σ.2.1 50 2) 1 0) jmin (σ.2.1 50 1) σ p) → (p ≤ σ.1 2) → σ.1 2 - p < zn → WG zp l ze ({ frames := 208, cells := 0, slots := 0, locals := 4792 } : Room) zs zm za zb zt zc D B 7 (MQ zb (QT D B T) za zs 0 0 (zA B)) (XH D Λ I L σ) 0 0 71 [some (.ref (Λ.1 0 38)), some (.int (nI 2)), some (.int (nI 0)), some (.int b), some (.int (sMay (mP σ) (σ.1 6) (σ.2.1 50 1) (σ.1 2))), some (.int (nI p)), none] [] := by
          intro zn
          induction zn with
          | zero => intro b p h1 h2 hm; exact absurd hm (Nat.not_lt_zero _)
          | succ zn ih71 =>
            intro b p h1 h2 hm
            refine g_iload F dX0_bestOf_71 rfl (np := 73) rfl ?_
            refine g_aload_n F dX0_bestOf_73 rfl rfl (np := 74) rfl ?_
            refine x_get F (k := 3) (v := .int (nI (σ.1 2))) (by decide) rfl (Or.inl q180) dX0_bestOf_74 (np := 77) rfl ?_
            refine g_icmp_geN F (by omega) (by omega) dX0_bestOf_77 (tp := 131) (by decide) (np := 80) rfl (fun c77 => ?_) (fun c77 => ?_)
            · refine g_iload_n F dX0_bestOf_131 rfl rfl (np := 132) rfl ?_
              have hv : b = turnS L (σ.2.1 50 1) (σ.2.1 50 2) 2 1 σ := by rw [h1, show p = σ.1 2 by omega]; rfl
              exact g_iret F hr rfl (Nat.le_of_ble_eq_true rfl) (Nat.le_of_ble_eq_true rfl) dX0_bestOf_132 (fun h hs => by rw [← hT]; exact ⟨congrArg (fun z => some (Value.int z)) hv, hs⟩)
            · refine g_iload F dX0_bestOf_80 rfl (np := 82) rfl ?_
              refine g_iload F dX0_bestOf_82 rfl (np := 84) rfl ?_
              refine g_runS F (rest := []) (ct_X0_has (sMay (mP σ) (σ.1 6) (σ.2.1 50 1) (σ.1 2)) p ) (lw_S q937 q938 q100 q939) hcS_X0_has ⟨Nat.le_of_ble_eq_true rfl, Nat.le_of_ble_eq_true rfl⟩ rfl rfl (Nat.le_of_ble_eq_true rfl) dX0_bestOf_84 ⟨Nat.le_of_ble_eq_true rfl, Nat.le_of_ble_eq_true rfl⟩ (np := 87) rfl (k_RI ?_)
              refine g_if_neB F dX0_bestOf_87 (tp := 93) (by decide) (np := 90) rfl (fun c87 => ?_) (fun c87 => ?_)
              · have hmy : mayP σ (σ.2.1 50 1) p := (bit_may (by omega) (by omega)).mp c87
                refine g_aload_n F dX0_bestOf_93 rfl rfl (np := 94) rfl ?_
                refine g_iload F dX0_bestOf_94 rfl (np := 96) rfl ?_
                refine g_iload_n F dX0_bestOf_96 rfl rfl (np := 97) rfl ?_
                refine g_iload_n F dX0_bestOf_97 rfl rfl (np := 98) rfl ?_
                refine g_runV F (C := RX0) (ci := 0) (T0 := TX0) (N := 38) (rest := []) (ct_X0_byDeed_2_0 σ p (by exact hok) (by exact hm14) (by exact hbO) (by omega) (by exact hmy.2.1)) (lw_V q1014 q1016 qs46 q100 q1017) hcV_X0_byDeed ⟨Nat.le_of_ble_eq_true rfl, Nat.le_of_ble_eq_true rfl⟩ rfl (fun h hs => hs.obj) rfl rfl (Nat.le_of_ble_eq_true rfl) dX0_bestOf_98 ⟨Nat.le_of_ble_eq_true rfl, Nat.le_of_ble_eq_true rfl⟩ (np := 101) rfl (k_RI ?_)
                refine g_istore F (lv' := [some (.ref (Λ.1 0 38)), some (.int (nI 2)), some (.int (nI 0)), some (.int b), some (.int (sMay (mP σ) (σ.1 6) (σ.2.1 50 1) (σ.1 2))), some (.int (nI p)), some (.int (turnS L (σ.2.1 50 1) (σ.2.1 50 2) 1 0 (dnP σ p)))]) dX0_bestOf_101 (by decide) rfl rfl (np := 103) rfl ?_
                refine g_iload_n F dX0_bestOf_103 rfl rfl (np := 104) rfl ?_
                refine g_if_eqN F (by decide) dX0_bestOf_104 (tp := 116) (by decide) (np := 107) rfl (fun c104 => ?_) (fun c104 => ?_)
                · refine g_iload F dX0_bestOf_116 rfl (np := 118) rfl ?_
                  refine g_iload_n F dX0_bestOf_118 rfl rfl (np := 119) rfl ?_
                  refine g_icmp_ge F dX0_bestOf_119 (tp := 125) (by decide) (np := 122) rfl (fun c119 => ?_) (fun c119 => ?_)
                  · refine g_iinc F (v := (nI (p + 1))) (lv' := [some (.ref (Λ.1 0 38)), some (.int (nI 2)), some (.int (nI 0)), some (.int b), some (.int (sMay (mP σ) (σ.1 6) (σ.2.1 50 1) (σ.1 2))), some (.int (nI (p + 1))), some (.int (turnS L (σ.2.1 50 1) (σ.2.1 50 2) 1 0 (dnP σ p)))]) dX0_bestOf_125 rfl (nI_add _ _) (by decide) rfl rfl (np := 128) rfl ?_
                    refine g_goto F dX0_bestOf_128 (np := 71) (by decide) ?_
                    refine WG.dropL (i := 6) (lv' := [some (.ref (Λ.1 0 38)), some (.int (nI 2)), some (.int (nI 0)), some (.int b), some (.int (sMay (mP σ) (σ.1 6) (σ.2.1 50 1) (σ.1 2))), some (.int (nI (p + 1))), none]) rfl ?_
                    exact ih71 b (p + 1) (by unfold turnB; first | (rw [pif_f (fun z => c87 ((bit_may (by omega) (by omega)).mpr z))]; exact h1) | (rw [pif_t hmy, ← h1]; unfold jmin; first | (rw [if_neg (Int32.not_lt.mpr c119)]; done) | (rw [if_pos (Int32.not_le.mp c119)]; done))) (by first | assumption | omega) (by omega)
                  · refine g_iload F dX0_bestOf_122 rfl (np := 124) rfl ?_
                    refine g_istore_n F (lv' := [some (.ref (Λ.1 0 38)), some (.int (nI 2)), some (.int (nI 0)), some (.int (turnS L (σ.2.1 50 1) (σ.2.1 50 2) 1 0 (dnP σ p))), some (.int (sMay (mP σ) (σ.1 6) (σ.2.1 50 1) (σ.1 2))), some (.int (nI p)), some (.int (turnS L (σ.2.1 50 1) (σ.2.1 50 2) 1 0 (dnP σ p)))]) dX0_bestOf_124 rfl (by decide) rfl rfl (np := 125) rfl ?_
                    refine g_iinc F (v := (nI (p + 1))) (lv' := [some (.ref (Λ.1 0 38)), some (.int (nI 2)), some (.int (nI 0)), some (.int (turnS L (σ.2.1 50 1) (σ.2.1 50 2) 1 0 (dnP σ p))), some (.int (sMay (mP σ) (σ.1 6) (σ.2.1 50 1) (σ.1 2))), some (.int (nI (p + 1))), some (.int (turnS L (σ.2.1 50 1) (σ.2.1 50 2) 1 0 (dnP σ p)))]) dX0_bestOf_125 rfl (nI_add _ _) (by decide) rfl rfl (np := 128) rfl ?_
                    refine g_goto F dX0_bestOf_128 (np := 71) (by decide) ?_
                    refine WG.dropL (i := 6) (lv' := [some (.ref (Λ.1 0 38)), some (.int (nI 2)), some (.int (nI 0)), some (.int (turnS L (σ.2.1 50 1) (σ.2.1 50 2) 1 0 (dnP σ p))), some (.int (sMay (mP σ) (σ.1 6) (σ.2.1 50 1) (σ.1 2))), some (.int (nI (p + 1))), none]) rfl ?_
                    exact ih71 (turnS L (σ.2.1 50 1) (σ.2.1 50 2) 1 0 (dnP σ p)) (p + 1) (by unfold turnB; first | (rw [pif_f (fun z => c87 ((bit_may (by omega) (by omega)).mpr z))]; exact h1) | (rw [pif_t hmy, ← h1]; unfold jmin; first | (rw [if_neg (Int32.not_lt.mpr c119)]; done) | (rw [if_pos (Int32.not_le.mp c119)]; done))) (by first | assumption | omega) (by omega)
                · exact absurd c104 (by decide)
              · refine g_goto F dX0_bestOf_90 (np := 125) (by decide) ?_
                refine g_iinc F (v := (nI (p + 1))) (lv' := [some (.ref (Λ.1 0 38)), some (.int (nI 2)), some (.int (nI 0)), some (.int b), some (.int (sMay (mP σ) (σ.1 6) (σ.2.1 50 1) (σ.1 2))), some (.int (nI (p + 1))), none]) dX0_bestOf_125 rfl (nI_add _ _) (by decide) rfl rfl (np := 128) rfl ?_
                refine g_goto F dX0_bestOf_128 (np := 71) (by decide) ?_
                exact ih71 b (p + 1) (by unfold turnB; first | (rw [pif_f (fun z => c87 ((bit_may (by omega) (by omega)).mpr z))]; exact h1) | (rw [pif_t hmy, ← h1]; unfold jmin; first | (rw [if_neg (Int32.not_lt.mpr c119)]; done) | (rw [if_pos (Int32.not_le.mp c119)]; done))) (by first | assumption | omega) (by omega)
        exact L71 _ (turnS L (σ.2.1 50 1) (σ.2.1 50 2) 1 0 σ) 0 (by rfl) (by omega) (Nat.lt_succ_self _)
      · exact absurd c49 (by decide)
  · exact absurd c1 (by decide)

set_option maxRecDepth 100000 in
theorem ct_X0_bestOf_2_1 {l : Launch} {D : va_G} {B : Nat} {Λ : LT} {I : AH} {L : LawT} (σ : MSt)   (hok : mOK σ L) (hm14 : σ.1 2 ≤ 14) (hbO : byOK σ) : Ct l D ZE B yX0_bestOf cX0_bestOf 7 (some .int) 208 4792 0 0 [.ref (Λ.1 0 38), .int (nI 2), .int (nI 1)] (XH D Λ I L σ) (RI (turnS L (σ.2.1 50 1) (σ.2.1 50 2) 2 0 σ) (XH D Λ I L σ)) := by
  refine Ct.of (nL := 7) (lv := [some (.ref (Λ.1 0 38)), some (.int (nI 2)), some (.int (nI 1)), none, none, none, none]) (by decide) (Nat.le_of_ble_eq_true rfl) stZE 4 rfl ?_
  generalize hT : RI (turnS L (σ.2.1 50 1) (σ.2.1 50 2) 2 0 σ) (XH D Λ I L σ) = T
  intro zp ze zs zm zb zt zc F hr hnm
  generalize ([.ref (Λ.1 0 38), .int (nI 2), .int (nI 1)] : List Value).toArray = za at F ⊢
  have hok2 := hok
  obtain ⟨ho8, hm15, ht99, hby, hlaw⟩ := hok2
  refine g_iload_n F dX0_bestOf_0 rfl rfl (np := 1) rfl ?_
  refine g_if_neN F (by decide) dX0_bestOf_1 (tp := 30) (by decide) (np := 4) rfl (fun c1 => ?_) (fun c1 => ?_)
  · refine g_aload_n F dX0_bestOf_30 rfl rfl (np := 31) rfl ?_
    refine g_iload_n F dX0_bestOf_31 rfl rfl (np := 32) rfl ?_
    refine g_iconst F (v := (nI 1)) dX0_bestOf_32 (by decide) (np := 33) rfl ?_
    refine g_isubN F (by omega) dX0_bestOf_33 (np := 34) rfl ?_
    refine WG.eqv (st' := [.int (nI 1), .ref (Λ.1 0 38)]) (congrArg (fun z => ([.int z, .ref (Λ.1 0 38)] : List Value)) (show (nI (2 - 1)) = (nI 1) from by rfl)) rfl ?_
    refine g_iload_n F dX0_bestOf_34 rfl rfl (np := 35) rfl ?_
    refine g_if_neN F (by decide) dX0_bestOf_35 (tp := 42) (by decide) (np := 38) rfl (fun c35 => ?_) (fun c35 => ?_)
    · refine g_iconst F (v := (nI 0)) dX0_bestOf_42 (by decide) (np := 43) rfl ?_
      refine g_runV F (C := RX0) (ci := 0) (T0 := TX0) (N := 38) (rest := []) (ct_X0_bestOf_1_0 σ (by exact hok) (by exact hm14) (by exact hbO)) (lw_V q1010 q1012 qs45 q100 q1013) hcV_X0_bestOf ⟨Nat.le_of_ble_eq_true rfl, Nat.le_of_ble_eq_true rfl⟩ rfl (fun h hs => hs.obj) rfl rfl (Nat.le_of_ble_eq_true rfl) dX0_bestOf_43 ⟨Nat.le_of_ble_eq_true rfl, Nat.le_of_ble_eq_true rfl⟩ (np := 46) rfl (k_RI ?_)
      refine g_istore_n F (lv' := [some (.ref (Λ.1 0 38)), some (.int (nI 2)), some (.int (nI 1)), some (.int (turnS L (σ.2.1 50 1) (σ.2.1 50 2) 1 1 σ)), none, none, none]) dX0_bestOf_46 rfl (by decide) rfl rfl (np := 47) rfl ?_
      refine g_aload_n F dX0_bestOf_47 rfl rfl (np := 48) rfl ?_
      refine g_iload_n F dX0_bestOf_48 rfl rfl (np := 49) rfl ?_
      refine g_if_eqN F (by decide) dX0_bestOf_49 (tp := 59) (by decide) (np := 52) rfl (fun c49 => ?_) (fun c49 => ?_)
      · exact absurd c49 (by decide)
      · refine g_aload_n F dX0_bestOf_52 rfl rfl (np := 53) rfl ?_
        refine x_get F (k := 17) (v := .int (σ.2.1 50 2)) (by decide) rfl (Or.inl q196) dX0_bestOf_53 (np := 56) rfl ?_
        refine g_goto F dX0_bestOf_56 (np := 63) (by decide) ?_
        refine g_runV F (C := RX0) (ci := 0) (T0 := TX0) (N := 38) (rest := []) (ct_X0_mayDo σ (σ.2.1 50 2) (by first | assumption | omega)) (lw_V q929 q931 qs33 q100 q932) hcV_X0_mayDo ⟨Nat.le_of_ble_eq_true rfl, Nat.le_of_ble_eq_true rfl⟩ rfl (fun h hs => hs.obj) rfl rfl (Nat.le_of_ble_eq_true rfl) dX0_bestOf_63 ⟨Nat.le_of_ble_eq_true rfl, Nat.le_of_ble_eq_true rfl⟩ (np := 66) rfl (k_RI ?_)
        refine g_istore F (lv' := [some (.ref (Λ.1 0 38)), some (.int (nI 2)), some (.int (nI 1)), some (.int (turnS L (σ.2.1 50 1) (σ.2.1 50 2) 1 1 σ)), some (.int (sMay (mP σ) (σ.1 6) (σ.2.1 50 2) (σ.1 2))), none, none]) dX0_bestOf_66 (by decide) rfl rfl (np := 68) rfl ?_
        refine g_iconst F (v := (nI 0)) dX0_bestOf_68 (by decide) (np := 69) rfl ?_
        refine g_istore F (lv' := [some (.ref (Λ.1 0 38)), some (.int (nI 2)), some (.int (nI 1)), some (.int (turnS L (σ.2.1 50 1) (σ.2.1 50 2) 1 1 σ)), some (.int (sMay (mP σ) (σ.1 6) (σ.2.1 50 2) (σ.1 2))), some (.int (nI 0)), none]) dX0_bestOf_69 (by decide) rfl rfl (np := 71) rfl ?_
        have L71 : ∀ (zn : Nat) (b : Int32) (p : Nat), (b = turnB (turnS L (σ.2.1 50 1) (σ.2.1 50 2) 1 1) jmax (σ.2.1 50 2) σ p) → (p ≤ σ.1 2) → σ.1 2 - p < zn → WG zp l ze ({ frames := 208, cells := 0, slots := 0, locals := 4792 } : Room) zs zm za zb zt zc D B 7 (MQ zb (QT D B T) za zs 0 0 (zA B)) (XH D Λ I L σ) 0 0 71 [some (.ref (Λ.1 0 38)), some (.int (nI 2)), some (.int (nI 1)), some (.int b), some (.int (sMay (mP σ) (σ.1 6) (σ.2.1 50 2) (σ.1 2))), some (.int (nI p)), none] [] := by
          intro zn
          induction zn with
          | zero => intro b p h1 h2 hm; exact absurd hm (Nat.not_lt_zero _)
          | succ zn ih71 =>
            intro b p h1 h2 hm
            refine g_iload F dX0_bestOf_71 rfl (np := 73) rfl ?_
            refine g_aload_n F dX0_bestOf_73 rfl rfl (np := 74) rfl ?_
            refine x_get F (k := 3) (v := .int (nI (σ.1 2))) (by decide) rfl (Or.inl q180) dX0_bestOf_74 (np := 77) rfl ?_
            refine g_icmp_geN F (by omega) (by omega) dX0_bestOf_77 (tp := 131) (by decide) (np := 80) rfl (fun c77 => ?_) (fun c77 => ?_)
            · refine g_iload_n F dX0_bestOf_131 rfl rfl (np := 132) rfl ?_
              have hv : b = turnS L (σ.2.1 50 1) (σ.2.1 50 2) 2 0 σ := by rw [h1, show p = σ.1 2 by omega]; rfl
              exact g_iret F hr rfl (Nat.le_of_ble_eq_true rfl) (Nat.le_of_ble_eq_true rfl) dX0_bestOf_132 (fun h hs => by rw [← hT]; exact ⟨congrArg (fun z => some (Value.int z)) hv, hs⟩)
            · refine g_iload F dX0_bestOf_80 rfl (np := 82) rfl ?_
              refine g_iload F dX0_bestOf_82 rfl (np := 84) rfl ?_
              refine g_runS F (rest := []) (ct_X0_has (sMay (mP σ) (σ.1 6) (σ.2.1 50 2) (σ.1 2)) p ) (lw_S q937 q938 q100 q939) hcS_X0_has ⟨Nat.le_of_ble_eq_true rfl, Nat.le_of_ble_eq_true rfl⟩ rfl rfl (Nat.le_of_ble_eq_true rfl) dX0_bestOf_84 ⟨Nat.le_of_ble_eq_true rfl, Nat.le_of_ble_eq_true rfl⟩ (np := 87) rfl (k_RI ?_)
              refine g_if_neB F dX0_bestOf_87 (tp := 93) (by decide) (np := 90) rfl (fun c87 => ?_) (fun c87 => ?_)
              · have hmy : mayP σ (σ.2.1 50 2) p := (bit_may (by omega) (by omega)).mp c87
                refine g_aload_n F dX0_bestOf_93 rfl rfl (np := 94) rfl ?_
                refine g_iload F dX0_bestOf_94 rfl (np := 96) rfl ?_
                refine g_iload_n F dX0_bestOf_96 rfl rfl (np := 97) rfl ?_
                refine g_iload_n F dX0_bestOf_97 rfl rfl (np := 98) rfl ?_
                refine g_runV F (C := RX0) (ci := 0) (T0 := TX0) (N := 38) (rest := []) (ct_X0_byDeed_2_1 σ p (by exact hok) (by exact hm14) (by exact hbO) (by omega) (by exact hmy.2.1)) (lw_V q1014 q1016 qs46 q100 q1017) hcV_X0_byDeed ⟨Nat.le_of_ble_eq_true rfl, Nat.le_of_ble_eq_true rfl⟩ rfl (fun h hs => hs.obj) rfl rfl (Nat.le_of_ble_eq_true rfl) dX0_bestOf_98 ⟨Nat.le_of_ble_eq_true rfl, Nat.le_of_ble_eq_true rfl⟩ (np := 101) rfl (k_RI ?_)
                refine g_istore F (lv' := [some (.ref (Λ.1 0 38)), some (.int (nI 2)), some (.int (nI 1)), some (.int b), some (.int (sMay (mP σ) (σ.1 6) (σ.2.1 50 2) (σ.1 2))), some (.int (nI p)), some (.int (turnS L (σ.2.1 50 1) (σ.2.1 50 2) 1 1 (dnP σ p)))]) dX0_bestOf_101 (by decide) rfl rfl (np := 103) rfl ?_
                refine g_iload_n F dX0_bestOf_103 rfl rfl (np := 104) rfl ?_
                refine g_if_eqN F (by decide) dX0_bestOf_104 (tp := 116) (by decide) (np := 107) rfl (fun c104 => ?_) (fun c104 => ?_)
                · exact absurd c104 (by decide)
                · refine g_iload F dX0_bestOf_107 rfl (np := 109) rfl ?_
                  refine g_iload_n F dX0_bestOf_109 rfl rfl (np := 110) rfl ?_
                  refine g_icmp_le F dX0_bestOf_110 (tp := 125) (by decide) (np := 113) rfl (fun c110 => ?_) (fun c110 => ?_)
                  · refine g_iinc F (v := (nI (p + 1))) (lv' := [some (.ref (Λ.1 0 38)), some (.int (nI 2)), some (.int (nI 1)), some (.int b), some (.int (sMay (mP σ) (σ.1 6) (σ.2.1 50 2) (σ.1 2))), some (.int (nI (p + 1))), some (.int (turnS L (σ.2.1 50 1) (σ.2.1 50 2) 1 1 (dnP σ p)))]) dX0_bestOf_125 rfl (nI_add _ _) (by decide) rfl rfl (np := 128) rfl ?_
                    refine g_goto F dX0_bestOf_128 (np := 71) (by decide) ?_
                    refine WG.dropL (i := 6) (lv' := [some (.ref (Λ.1 0 38)), some (.int (nI 2)), some (.int (nI 1)), some (.int b), some (.int (sMay (mP σ) (σ.1 6) (σ.2.1 50 2) (σ.1 2))), some (.int (nI (p + 1))), none]) rfl ?_
                    exact ih71 b (p + 1) (by unfold turnB; first | (rw [pif_f (fun z => c87 ((bit_may (by omega) (by omega)).mpr z))]; exact h1) | (rw [pif_t hmy, ← h1]; unfold jmax; first | (rw [if_neg (Int32.not_lt.mpr c110)]; done) | (rw [if_pos (Int32.not_le.mp c110)]; done))) (by first | assumption | omega) (by omega)
                  · refine g_goto F dX0_bestOf_113 (np := 122) (by decide) ?_
                    refine g_iload F dX0_bestOf_122 rfl (np := 124) rfl ?_
                    refine g_istore_n F (lv' := [some (.ref (Λ.1 0 38)), some (.int (nI 2)), some (.int (nI 1)), some (.int (turnS L (σ.2.1 50 1) (σ.2.1 50 2) 1 1 (dnP σ p))), some (.int (sMay (mP σ) (σ.1 6) (σ.2.1 50 2) (σ.1 2))), some (.int (nI p)), some (.int (turnS L (σ.2.1 50 1) (σ.2.1 50 2) 1 1 (dnP σ p)))]) dX0_bestOf_124 rfl (by decide) rfl rfl (np := 125) rfl ?_
                    refine g_iinc F (v := (nI (p + 1))) (lv' := [some (.ref (Λ.1 0 38)), some (.int (nI 2)), some (.int (nI 1)), some (.int (turnS L (σ.2.1 50 1) (σ.2.1 50 2) 1 1 (dnP σ p))), some (.int (sMay (mP σ) (σ.1 6) (σ.2.1 50 2) (σ.1 2))), some (.int (nI (p + 1))), some (.int (turnS L (σ.2.1 50 1) (σ.2.1 50 2) 1 1 (dnP σ p)))]) dX0_bestOf_125 rfl (nI_add _ _) (by decide) rfl rfl (np := 128) rfl ?_
                    refine g_goto F dX0_bestOf_128 (np := 71) (by decide) ?_
                    refine WG.dropL (i := 6) (lv' := [some (.ref (Λ.1 0 38)), some (.int (nI 2)), some (.int (nI 1)), some (.int (turnS L (σ.2.1 50 1) (σ.2.1 50 2) 1 1 (dnP σ p))), some (.int (sMay (mP σ) (σ.1 6) (σ.2.1 50 2) (σ.1 2))), some (.int (nI (p + 1))), none]) rfl ?_
                    exact ih71 (turnS L (σ.2.1 50 1) (σ.2.1 50 2) 1 1 (dnP σ p)) (p + 1) (by unfold turnB; first | (rw [pif_f (fun z => c87 ((bit_may (by omega) (by omega)).mpr z))]; exact h1) | (rw [pif_t hmy, ← h1]; unfold jmax; first | (rw [if_neg (Int32.not_lt.mpr c110)]; done) | (rw [if_pos (Int32.not_le.mp c110)]; done))) (by first | assumption | omega) (by omega)
              · refine g_goto F dX0_bestOf_90 (np := 125) (by decide) ?_
                refine g_iinc F (v := (nI (p + 1))) (lv' := [some (.ref (Λ.1 0 38)), some (.int (nI 2)), some (.int (nI 1)), some (.int b), some (.int (sMay (mP σ) (σ.1 6) (σ.2.1 50 2) (σ.1 2))), some (.int (nI (p + 1))), none]) dX0_bestOf_125 rfl (nI_add _ _) (by decide) rfl rfl (np := 128) rfl ?_
                refine g_goto F dX0_bestOf_128 (np := 71) (by decide) ?_
                exact ih71 b (p + 1) (by unfold turnB; first | (rw [pif_f (fun z => c87 ((bit_may (by omega) (by omega)).mpr z))]; exact h1) | (rw [pif_t hmy, ← h1]; unfold jmax; first | (rw [if_neg (Int32.not_lt.mpr c110)]; done) | (rw [if_pos (Int32.not_le.mp c110)]; done))) (by first | assumption | omega) (by omega)
        exact L71 _ (turnS L (σ.2.1 50 1) (σ.2.1 50 2) 1 1 σ) 0 (by rfl) (by omega) (Nat.lt_succ_self _)
    · exact absurd c35 (by decide)
  · exact absurd c1 (by decide)

set_option maxRecDepth 100000 in
theorem ct_X0_byDeed_3_0 {l : Launch} {D : va_G} {B : Nat} {Λ : LT} {I : AH} {L : LawT} (σ : MSt)  (p : Nat) (hok : mOK σ L) (hm14 : σ.1 2 ≤ 14) (hbO : byOK σ) (hp : p < σ.1 2) (ho : sOpen (mP σ) (σ.1 6) p) : Ct l D ZE B yX0_byDeed cX0_byDeed 5 (some .int) 209 4818 0 0 [.ref (Λ.1 0 38), .int (nI p), .int (nI 3), .int (nI 0)] (XH D Λ I L σ) (RI (turnS L (σ.2.1 50 1) (σ.2.1 50 2) 2 0 (dnP σ p)) (XH D Λ I L σ)) := by
  refine Ct.of (nL := 5) (lv := [some (.ref (Λ.1 0 38)), some (.int (nI p)), some (.int (nI 3)), some (.int (nI 0)), none]) (by decide) (Nat.le_of_ble_eq_true rfl) stZE 1 rfl ?_
  generalize hT : RI (turnS L (σ.2.1 50 1) (σ.2.1 50 2) 2 0 (dnP σ p)) (XH D Λ I L σ) = T
  intro zp ze zs zm zb zt zc F hr hnm
  generalize ([.ref (Λ.1 0 38), .int (nI p), .int (nI 3), .int (nI 0)] : List Value).toArray = za at F ⊢
  have hok2 := hok
  obtain ⟨ho8, hm15, ht99, hby, hlaw⟩ := hok2
  refine g_aload_n F dX0_byDeed_0 rfl rfl (np := 1) rfl ?_
  refine x_get F (k := 1) (v := .ref (Λ.1 0 1)) (by decide) rfl (Or.inl q178) dX0_byDeed_1 (np := 4) rfl ?_
  refine g_iload_n F dX0_byDeed_4 rfl rfl (np := 5) rfl ?_
  refine x_aldP F (i := p) rfl (show p < σ.1 2 by omega) (show σ.1 2 ≤ 14 by omega) dX0_byDeed_5 (np := 6) rfl ?_
  refine g_iconst F (v := (nI 1)) dX0_byDeed_6 (by decide) (np := 7) rfl ?_
  refine x_putP F (j := 6) (q := p) (by decide) (by decide) (show σ.1 2 ≤ 15 by omega) (show p < σ.1 2 by omega) (Or.inr ⟨_, ze345⟩) rfl rfl dX0_byDeed_7 (np := 10) rfl ?_
  refine WG.weak (S' := XH D Λ I L (dnP σ p)) (fun h hs => by rw [show (dnP σ p) = (sA σ 3 (60 + p) (nI (1))) from by rfl]; exact hs) ?_
  refine g_aload_n F dX0_byDeed_10 rfl rfl (np := 11) rfl ?_
  refine g_iload_n F dX0_byDeed_11 rfl rfl (np := 12) rfl ?_
  refine g_iconst F (v := (nI 1)) dX0_byDeed_12 (by decide) (np := 13) rfl ?_
  refine g_isubN F (by omega) dX0_byDeed_13 (np := 14) rfl ?_
  refine WG.eqv (st' := [.int (nI 2), .ref (Λ.1 0 38)]) (congrArg (fun z => ([.int z, .ref (Λ.1 0 38)] : List Value)) (show (nI (3 - 1)) = (nI 2) from by rfl)) rfl ?_
  refine g_iload_n F dX0_byDeed_14 rfl rfl (np := 15) rfl ?_
  refine g_if_neN F (by decide) dX0_byDeed_15 (tp := 22) (by decide) (np := 18) rfl (fun c15 => ?_) (fun c15 => ?_)
  · exact absurd c15 (by decide)
  · refine g_iconst F (v := (nI 1)) dX0_byDeed_18 (by decide) (np := 19) rfl ?_
    refine g_goto F dX0_byDeed_19 (np := 23) (by decide) ?_
    refine g_runV F (C := RX0) (ci := 0) (T0 := TX0) (N := 38) (rest := []) (ct_X0_bestOf_2_1 (dnP σ p) (by exact hok.sA3 _ _) (by exact hm14) (by exact hbO.same rfl rfl rfl)) (lw_V q1010 q1012 qs45 q100 q1013) hcV_X0_bestOf ⟨Nat.le_of_ble_eq_true rfl, Nat.le_of_ble_eq_true rfl⟩ rfl (fun h hs => hs.obj) rfl rfl (Nat.le_of_ble_eq_true rfl) dX0_byDeed_23 ⟨Nat.le_of_ble_eq_true rfl, Nat.le_of_ble_eq_true rfl⟩ (np := 26) rfl (k_RI ?_)
    refine g_istore F (lv' := [some (.ref (Λ.1 0 38)), some (.int (nI p)), some (.int (nI 3)), some (.int (nI 0)), some (.int (turnS L ((dnP σ p).2.1 50 1) ((dnP σ p).2.1 50 2) 2 0 (dnP σ p)))]) dX0_byDeed_26 (by decide) rfl rfl (np := 28) rfl ?_
    refine g_aload_n F dX0_byDeed_28 rfl rfl (np := 29) rfl ?_
    refine x_get F (k := 1) (v := .ref (Λ.1 0 1)) (by decide) rfl (Or.inl q178) dX0_byDeed_29 (np := 32) rfl ?_
    refine g_iload_n F dX0_byDeed_32 rfl rfl (np := 33) rfl ?_
    refine x_aldP F (i := p) rfl (show p < σ.1 2 by omega) (show σ.1 2 ≤ 14 by omega) dX0_byDeed_33 (np := 34) rfl ?_
    refine g_iconst F (v := (nI 0)) dX0_byDeed_34 (by decide) (np := 35) rfl ?_
    refine x_putP F (j := 6) (q := p) (by decide) (by decide) (show σ.1 2 ≤ 15 by omega) (show p < σ.1 2 by omega) (Or.inr ⟨_, ze345⟩) rfl rfl dX0_byDeed_35 (np := 38) rfl ?_
    refine WG.weak (S' := XH D Λ I L σ) (fun h hs => by rw [show σ = (sA ((dnP σ p)) 3 (60 + p) (nI (0))) from by exact (dn_back ho).symm]; exact hs) ?_
    refine g_iload F dX0_byDeed_38 rfl (np := 40) rfl ?_
    have hv : turnS L ((dnP σ p).2.1 50 1) ((dnP σ p).2.1 50 2) 2 0 (dnP σ p) = turnS L (σ.2.1 50 1) (σ.2.1 50 2) 2 0 (dnP σ p) := by rfl
    exact g_iret F hr rfl (Nat.le_of_ble_eq_true rfl) (Nat.le_of_ble_eq_true rfl) dX0_byDeed_40 (fun h hs => by rw [← hT]; exact ⟨congrArg (fun z => some (Value.int z)) hv, hs⟩)

set_option maxRecDepth 100000 in
theorem ct_X0_byDeed_3_1 {l : Launch} {D : va_G} {B : Nat} {Λ : LT} {I : AH} {L : LawT} (σ : MSt)  (p : Nat) (hok : mOK σ L) (hm14 : σ.1 2 ≤ 14) (hbO : byOK σ) (hp : p < σ.1 2) (ho : sOpen (mP σ) (σ.1 6) p) : Ct l D ZE B yX0_byDeed cX0_byDeed 5 (some .int) 209 4818 0 0 [.ref (Λ.1 0 38), .int (nI p), .int (nI 3), .int (nI 1)] (XH D Λ I L σ) (RI (turnS L (σ.2.1 50 1) (σ.2.1 50 2) 2 1 (dnP σ p)) (XH D Λ I L σ)) := by
  refine Ct.of (nL := 5) (lv := [some (.ref (Λ.1 0 38)), some (.int (nI p)), some (.int (nI 3)), some (.int (nI 1)), none]) (by decide) (Nat.le_of_ble_eq_true rfl) stZE 1 rfl ?_
  generalize hT : RI (turnS L (σ.2.1 50 1) (σ.2.1 50 2) 2 1 (dnP σ p)) (XH D Λ I L σ) = T
  intro zp ze zs zm zb zt zc F hr hnm
  generalize ([.ref (Λ.1 0 38), .int (nI p), .int (nI 3), .int (nI 1)] : List Value).toArray = za at F ⊢
  have hok2 := hok
  obtain ⟨ho8, hm15, ht99, hby, hlaw⟩ := hok2
  refine g_aload_n F dX0_byDeed_0 rfl rfl (np := 1) rfl ?_
  refine x_get F (k := 1) (v := .ref (Λ.1 0 1)) (by decide) rfl (Or.inl q178) dX0_byDeed_1 (np := 4) rfl ?_
  refine g_iload_n F dX0_byDeed_4 rfl rfl (np := 5) rfl ?_
  refine x_aldP F (i := p) rfl (show p < σ.1 2 by omega) (show σ.1 2 ≤ 14 by omega) dX0_byDeed_5 (np := 6) rfl ?_
  refine g_iconst F (v := (nI 1)) dX0_byDeed_6 (by decide) (np := 7) rfl ?_
  refine x_putP F (j := 6) (q := p) (by decide) (by decide) (show σ.1 2 ≤ 15 by omega) (show p < σ.1 2 by omega) (Or.inr ⟨_, ze345⟩) rfl rfl dX0_byDeed_7 (np := 10) rfl ?_
  refine WG.weak (S' := XH D Λ I L (dnP σ p)) (fun h hs => by rw [show (dnP σ p) = (sA σ 3 (60 + p) (nI (1))) from by rfl]; exact hs) ?_
  refine g_aload_n F dX0_byDeed_10 rfl rfl (np := 11) rfl ?_
  refine g_iload_n F dX0_byDeed_11 rfl rfl (np := 12) rfl ?_
  refine g_iconst F (v := (nI 1)) dX0_byDeed_12 (by decide) (np := 13) rfl ?_
  refine g_isubN F (by omega) dX0_byDeed_13 (np := 14) rfl ?_
  refine WG.eqv (st' := [.int (nI 2), .ref (Λ.1 0 38)]) (congrArg (fun z => ([.int z, .ref (Λ.1 0 38)] : List Value)) (show (nI (3 - 1)) = (nI 2) from by rfl)) rfl ?_
  refine g_iload_n F dX0_byDeed_14 rfl rfl (np := 15) rfl ?_
  refine g_if_neN F (by decide) dX0_byDeed_15 (tp := 22) (by decide) (np := 18) rfl (fun c15 => ?_) (fun c15 => ?_)
  · refine g_iconst F (v := (nI 0)) dX0_byDeed_22 (by decide) (np := 23) rfl ?_
    refine g_runV F (C := RX0) (ci := 0) (T0 := TX0) (N := 38) (rest := []) (ct_X0_bestOf_2_0 (dnP σ p) (by exact hok.sA3 _ _) (by exact hm14) (by exact hbO.same rfl rfl rfl)) (lw_V q1010 q1012 qs45 q100 q1013) hcV_X0_bestOf ⟨Nat.le_of_ble_eq_true rfl, Nat.le_of_ble_eq_true rfl⟩ rfl (fun h hs => hs.obj) rfl rfl (Nat.le_of_ble_eq_true rfl) dX0_byDeed_23 ⟨Nat.le_of_ble_eq_true rfl, Nat.le_of_ble_eq_true rfl⟩ (np := 26) rfl (k_RI ?_)
    refine g_istore F (lv' := [some (.ref (Λ.1 0 38)), some (.int (nI p)), some (.int (nI 3)), some (.int (nI 1)), some (.int (turnS L ((dnP σ p).2.1 50 1) ((dnP σ p).2.1 50 2) 2 1 (dnP σ p)))]) dX0_byDeed_26 (by decide) rfl rfl (np := 28) rfl ?_
    refine g_aload_n F dX0_byDeed_28 rfl rfl (np := 29) rfl ?_
    refine x_get F (k := 1) (v := .ref (Λ.1 0 1)) (by decide) rfl (Or.inl q178) dX0_byDeed_29 (np := 32) rfl ?_
    refine g_iload_n F dX0_byDeed_32 rfl rfl (np := 33) rfl ?_
    refine x_aldP F (i := p) rfl (show p < σ.1 2 by omega) (show σ.1 2 ≤ 14 by omega) dX0_byDeed_33 (np := 34) rfl ?_
    refine g_iconst F (v := (nI 0)) dX0_byDeed_34 (by decide) (np := 35) rfl ?_
    refine x_putP F (j := 6) (q := p) (by decide) (by decide) (show σ.1 2 ≤ 15 by omega) (show p < σ.1 2 by omega) (Or.inr ⟨_, ze345⟩) rfl rfl dX0_byDeed_35 (np := 38) rfl ?_
    refine WG.weak (S' := XH D Λ I L σ) (fun h hs => by rw [show σ = (sA ((dnP σ p)) 3 (60 + p) (nI (0))) from by exact (dn_back ho).symm]; exact hs) ?_
    refine g_iload F dX0_byDeed_38 rfl (np := 40) rfl ?_
    have hv : turnS L ((dnP σ p).2.1 50 1) ((dnP σ p).2.1 50 2) 2 1 (dnP σ p) = turnS L (σ.2.1 50 1) (σ.2.1 50 2) 2 1 (dnP σ p) := by rfl
    exact g_iret F hr rfl (Nat.le_of_ble_eq_true rfl) (Nat.le_of_ble_eq_true rfl) dX0_byDeed_40 (fun h hs => by rw [← hT]; exact ⟨congrArg (fun z => some (Value.int z)) hv, hs⟩)
  · exact absurd c15 (by decide)

set_option maxRecDepth 100000 in
theorem ct_X0_bestOf_3_0 {l : Launch} {D : va_G} {B : Nat} {Λ : LT} {I : AH} {L : LawT} (σ : MSt)   (hok : mOK σ L) (hm14 : σ.1 2 ≤ 14) (hbO : byOK σ) : Ct l D ZE B yX0_bestOf cX0_bestOf 7 (some .int) 210 4842 0 0 [.ref (Λ.1 0 38), .int (nI 3), .int (nI 0)] (XH D Λ I L σ) (RI (turnS L (σ.2.1 50 1) (σ.2.1 50 2) 3 1 σ) (XH D Λ I L σ)) := by
  refine Ct.of (nL := 7) (lv := [some (.ref (Λ.1 0 38)), some (.int (nI 3)), some (.int (nI 0)), none, none, none, none]) (by decide) (Nat.le_of_ble_eq_true rfl) stZE 4 rfl ?_
  generalize hT : RI (turnS L (σ.2.1 50 1) (σ.2.1 50 2) 3 1 σ) (XH D Λ I L σ) = T
  intro zp ze zs zm zb zt zc F hr hnm
  generalize ([.ref (Λ.1 0 38), .int (nI 3), .int (nI 0)] : List Value).toArray = za at F ⊢
  have hok2 := hok
  obtain ⟨ho8, hm15, ht99, hby, hlaw⟩ := hok2
  refine g_iload_n F dX0_bestOf_0 rfl rfl (np := 1) rfl ?_
  refine g_if_neN F (by decide) dX0_bestOf_1 (tp := 30) (by decide) (np := 4) rfl (fun c1 => ?_) (fun c1 => ?_)
  · refine g_aload_n F dX0_bestOf_30 rfl rfl (np := 31) rfl ?_
    refine g_iload_n F dX0_bestOf_31 rfl rfl (np := 32) rfl ?_
    refine g_iconst F (v := (nI 1)) dX0_bestOf_32 (by decide) (np := 33) rfl ?_
    refine g_isubN F (by omega) dX0_bestOf_33 (np := 34) rfl ?_
    refine WG.eqv (st' := [.int (nI 2), .ref (Λ.1 0 38)]) (congrArg (fun z => ([.int z, .ref (Λ.1 0 38)] : List Value)) (show (nI (3 - 1)) = (nI 2) from by rfl)) rfl ?_
    refine g_iload_n F dX0_bestOf_34 rfl rfl (np := 35) rfl ?_
    refine g_if_neN F (by decide) dX0_bestOf_35 (tp := 42) (by decide) (np := 38) rfl (fun c35 => ?_) (fun c35 => ?_)
    · exact absurd c35 (by decide)
    · refine g_iconst F (v := (nI 1)) dX0_bestOf_38 (by decide) (np := 39) rfl ?_
      refine g_goto F dX0_bestOf_39 (np := 43) (by decide) ?_
      refine g_runV F (C := RX0) (ci := 0) (T0 := TX0) (N := 38) (rest := []) (ct_X0_bestOf_2_1 σ (by exact hok) (by exact hm14) (by exact hbO)) (lw_V q1010 q1012 qs45 q100 q1013) hcV_X0_bestOf ⟨Nat.le_of_ble_eq_true rfl, Nat.le_of_ble_eq_true rfl⟩ rfl (fun h hs => hs.obj) rfl rfl (Nat.le_of_ble_eq_true rfl) dX0_bestOf_43 ⟨Nat.le_of_ble_eq_true rfl, Nat.le_of_ble_eq_true rfl⟩ (np := 46) rfl (k_RI ?_)
      refine g_istore_n F (lv' := [some (.ref (Λ.1 0 38)), some (.int (nI 3)), some (.int (nI 0)), some (.int (turnS L (σ.2.1 50 1) (σ.2.1 50 2) 2 0 σ)), none, none, none]) dX0_bestOf_46 rfl (by decide) rfl rfl (np := 47) rfl ?_
      refine g_aload_n F dX0_bestOf_47 rfl rfl (np := 48) rfl ?_
      refine g_iload_n F dX0_bestOf_48 rfl rfl (np := 49) rfl ?_
      refine g_if_eqN F (by decide) dX0_bestOf_49 (tp := 59) (by decide) (np := 52) rfl (fun c49 => ?_) (fun c49 => ?_)
      · refine g_aload_n F dX0_bestOf_59 rfl rfl (np := 60) rfl ?_
        refine x_get F (k := 16) (v := .int (σ.2.1 50 1)) (by decide) rfl (Or.inl q195) dX0_bestOf_60 (np := 63) rfl ?_
        refine g_runV F (C := RX0) (ci := 0) (T0 := TX0) (N := 38) (rest := []) (ct_X0_mayDo σ (σ.2.1 50 1) (by first | assumption | omega)) (lw_V q929 q931 qs33 q100 q932) hcV_X0_mayDo ⟨Nat.le_of_ble_eq_true rfl, Nat.le_of_ble_eq_true rfl⟩ rfl (fun h hs => hs.obj) rfl rfl (Nat.le_of_ble_eq_true rfl) dX0_bestOf_63 ⟨Nat.le_of_ble_eq_true rfl, Nat.le_of_ble_eq_true rfl⟩ (np := 66) rfl (k_RI ?_)
        refine g_istore F (lv' := [some (.ref (Λ.1 0 38)), some (.int (nI 3)), some (.int (nI 0)), some (.int (turnS L (σ.2.1 50 1) (σ.2.1 50 2) 2 0 σ)), some (.int (sMay (mP σ) (σ.1 6) (σ.2.1 50 1) (σ.1 2))), none, none]) dX0_bestOf_66 (by decide) rfl rfl (np := 68) rfl ?_
        refine g_iconst F (v := (nI 0)) dX0_bestOf_68 (by decide) (np := 69) rfl ?_
        refine g_istore F (lv' := [some (.ref (Λ.1 0 38)), some (.int (nI 3)), some (.int (nI 0)), some (.int (turnS L (σ.2.1 50 1) (σ.2.1 50 2) 2 0 σ)), some (.int (sMay (mP σ) (σ.1 6) (σ.2.1 50 1) (σ.1 2))), some (.int (nI 0)), none]) dX0_bestOf_69 (by decide) rfl rfl (np := 71) rfl ?_
        have L71 : ∀ (zn : Nat) (b : Int32) (p : Nat), (b = turnB (turnS L (σ.2.1 50 1) (σ.2.1 50 2) 2 0) jmin (σ.2.1 50 1) σ p) → (p ≤ σ.1 2) → σ.1 2 - p < zn → WG zp l ze ({ frames := 210, cells := 0, slots := 0, locals := 4842 } : Room) zs zm za zb zt zc D B 7 (MQ zb (QT D B T) za zs 0 0 (zA B)) (XH D Λ I L σ) 0 0 71 [some (.ref (Λ.1 0 38)), some (.int (nI 3)), some (.int (nI 0)), some (.int b), some (.int (sMay (mP σ) (σ.1 6) (σ.2.1 50 1) (σ.1 2))), some (.int (nI p)), none] [] := by
          intro zn
          induction zn with
          | zero => intro b p h1 h2 hm; exact absurd hm (Nat.not_lt_zero _)
          | succ zn ih71 =>
            intro b p h1 h2 hm
            refine g_iload F dX0_bestOf_71 rfl (np := 73) rfl ?_
            refine g_aload_n F dX0_bestOf_73 rfl rfl (np := 74) rfl ?_
            refine x_get F (k := 3) (v := .int (nI (σ.1 2))) (by decide) rfl (Or.inl q180) dX0_bestOf_74 (np := 77) rfl ?_
            refine g_icmp_geN F (by omega) (by omega) dX0_bestOf_77 (tp := 131) (by decide) (np := 80) rfl (fun c77 => ?_) (fun c77 => ?_)
            · refine g_iload_n F dX0_bestOf_131 rfl rfl (np := 132) rfl ?_
              have hv : b = turnS L (σ.2.1 50 1) (σ.2.1 50 2) 3 1 σ := by rw [h1, show p = σ.1 2 by omega]; rfl
              exact g_iret F hr rfl (Nat.le_of_ble_eq_true rfl) (Nat.le_of_ble_eq_true rfl) dX0_bestOf_132 (fun h hs => by rw [← hT]; exact ⟨congrArg (fun z => some (Value.int z)) hv, hs⟩)
            · refine g_iload F dX0_bestOf_80 rfl (np := 82) rfl ?_
              refine g_iload F dX0_bestOf_82 rfl (np := 84) rfl ?_
              refine g_runS F (rest := []) (ct_X0_has (sMay (mP σ) (σ.1 6) (σ.2.1 50 1) (σ.1 2)) p ) (lw_S q937 q938 q100 q939) hcS_X0_has ⟨Nat.le_of_ble_eq_true rfl, Nat.le_of_ble_eq_true rfl⟩ rfl rfl (Nat.le_of_ble_eq_true rfl) dX0_bestOf_84 ⟨Nat.le_of_ble_eq_true rfl, Nat.le_of_ble_eq_true rfl⟩ (np := 87) rfl (k_RI ?_)
              refine g_if_neB F dX0_bestOf_87 (tp := 93) (by decide) (np := 90) rfl (fun c87 => ?_) (fun c87 => ?_)
              · have hmy : mayP σ (σ.2.1 50 1) p := (bit_may (by omega) (by omega)).mp c87
                refine g_aload_n F dX0_bestOf_93 rfl rfl (np := 94) rfl ?_
                refine g_iload F dX0_bestOf_94 rfl (np := 96) rfl ?_
                refine g_iload_n F dX0_bestOf_96 rfl rfl (np := 97) rfl ?_
                refine g_iload_n F dX0_bestOf_97 rfl rfl (np := 98) rfl ?_
                refine g_runV F (C := RX0) (ci := 0) (T0 := TX0) (N := 38) (rest := []) (ct_X0_byDeed_3_0 σ p (by exact hok) (by exact hm14) (by exact hbO) (by omega) (by exact hmy.2.1)) (lw_V q1014 q1016 qs46 q100 q1017) hcV_X0_byDeed ⟨Nat.le_of_ble_eq_true rfl, Nat.le_of_ble_eq_true rfl⟩ rfl (fun h hs => hs.obj) rfl rfl (Nat.le_of_ble_eq_true rfl) dX0_bestOf_98 ⟨Nat.le_of_ble_eq_true rfl, Nat.le_of_ble_eq_true rfl⟩ (np := 101) rfl (k_RI ?_)
                refine g_istore F (lv' := [some (.ref (Λ.1 0 38)), some (.int (nI 3)), some (.int (nI 0)), some (.int b), some (.int (sMay (mP σ) (σ.1 6) (σ.2.1 50 1) (σ.1 2))), some (.int (nI p)), some (.int (turnS L (σ.2.1 50 1) (σ.2.1 50 2) 2 0 (dnP σ p)))]) dX0_bestOf_101 (by decide) rfl rfl (np := 103) rfl ?_
                refine g_iload_n F dX0_bestOf_103 rfl rfl (np := 104) rfl ?_
                refine g_if_eqN F (by decide) dX0_bestOf_104 (tp := 116) (by decide) (np := 107) rfl (fun c104 => ?_) (fun c104 => ?_)
                · refine g_iload F dX0_bestOf_116 rfl (np := 118) rfl ?_
                  refine g_iload_n F dX0_bestOf_118 rfl rfl (np := 119) rfl ?_
                  refine g_icmp_ge F dX0_bestOf_119 (tp := 125) (by decide) (np := 122) rfl (fun c119 => ?_) (fun c119 => ?_)
                  · refine g_iinc F (v := (nI (p + 1))) (lv' := [some (.ref (Λ.1 0 38)), some (.int (nI 3)), some (.int (nI 0)), some (.int b), some (.int (sMay (mP σ) (σ.1 6) (σ.2.1 50 1) (σ.1 2))), some (.int (nI (p + 1))), some (.int (turnS L (σ.2.1 50 1) (σ.2.1 50 2) 2 0 (dnP σ p)))]) dX0_bestOf_125 rfl (nI_add _ _) (by decide) rfl rfl (np := 128) rfl ?_
                    refine g_goto F dX0_bestOf_128 (np := 71) (by decide) ?_
                    refine WG.dropL (i := 6) (lv' := [some (.ref (Λ.1 0 38)), some (.int (nI 3)), some (.int (nI 0)), some (.int b), some (.int (sMay (mP σ) (σ.1 6) (σ.2.1 50 1) (σ.1 2))), some (.int (nI (p + 1))), none]) rfl ?_
                    exact ih71 b (p + 1) (by unfold turnB; first | (rw [pif_f (fun z => c87 ((bit_may (by omega) (by omega)).mpr z))]; exact h1) | (rw [pif_t hmy, ← h1]; unfold jmin; first | (rw [if_neg (Int32.not_lt.mpr c119)]; done) | (rw [if_pos (Int32.not_le.mp c119)]; done))) (by first | assumption | omega) (by omega)
                  · refine g_iload F dX0_bestOf_122 rfl (np := 124) rfl ?_
                    refine g_istore_n F (lv' := [some (.ref (Λ.1 0 38)), some (.int (nI 3)), some (.int (nI 0)), some (.int (turnS L (σ.2.1 50 1) (σ.2.1 50 2) 2 0 (dnP σ p))), some (.int (sMay (mP σ) (σ.1 6) (σ.2.1 50 1) (σ.1 2))), some (.int (nI p)), some (.int (turnS L (σ.2.1 50 1) (σ.2.1 50 2) 2 0 (dnP σ p)))]) dX0_bestOf_124 rfl (by decide) rfl rfl (np := 125) rfl ?_
                    refine g_iinc F (v := (nI (p + 1))) (lv' := [some (.ref (Λ.1 0 38)), some (.int (nI 3)), some (.int (nI 0)), some (.int (turnS L (σ.2.1 50 1) (σ.2.1 50 2) 2 0 (dnP σ p))), some (.int (sMay (mP σ) (σ.1 6) (σ.2.1 50 1) (σ.1 2))), some (.int (nI (p + 1))), some (.int (turnS L (σ.2.1 50 1) (σ.2.1 50 2) 2 0 (dnP σ p)))]) dX0_bestOf_125 rfl (nI_add _ _) (by decide) rfl rfl (np := 128) rfl ?_
                    refine g_goto F dX0_bestOf_128 (np := 71) (by decide) ?_
                    refine WG.dropL (i := 6) (lv' := [some (.ref (Λ.1 0 38)), some (.int (nI 3)), some (.int (nI 0)), some (.int (turnS L (σ.2.1 50 1) (σ.2.1 50 2) 2 0 (dnP σ p))), some (.int (sMay (mP σ) (σ.1 6) (σ.2.1 50 1) (σ.1 2))), some (.int (nI (p + 1))), none]) rfl ?_
                    exact ih71 (turnS L (σ.2.1 50 1) (σ.2.1 50 2) 2 0 (dnP σ p)) (p + 1) (by unfold turnB; first | (rw [pif_f (fun z => c87 ((bit_may (by omega) (by omega)).mpr z))]; exact h1) | (rw [pif_t hmy, ← h1]; unfold jmin; first | (rw [if_neg (Int32.not_lt.mpr c119)]; done) | (rw [if_pos (Int32.not_le.mp c119)]; done))) (by first | assumption | omega) (by omega)
                · exact absurd c104 (by decide)
              · refine g_goto F dX0_bestOf_90 (np := 125) (by decide) ?_
                refine g_iinc F (v := (nI (p + 1))) (lv' := [some (.ref (Λ.1 0 38)), some (.int (nI 3)), some (.int (nI 0)), some (.int b), some (.int (sMay (mP σ) (σ.1 6) (σ.2.1 50 1) (σ.1 2))), some (.int (nI (p + 1))), none]) dX0_bestOf_125 rfl (nI_add _ _) (by decide) rfl rfl (np := 128) rfl ?_
                refine g_goto F dX0_bestOf_128 (np := 71) (by decide) ?_
                exact ih71 b (p + 1) (by unfold turnB; first | (rw [pif_f (fun z => c87 ((bit_may (by omega) (by omega)).mpr z))]; exact h1) | (rw [pif_t hmy, ← h1]; unfold jmin; first | (rw [if_neg (Int32.not_lt.mpr c119)]; done) | (rw [if_pos (Int32.not_le.mp c119)]; done))) (by first | assumption | omega) (by omega)
        exact L71 _ (turnS L (σ.2.1 50 1) (σ.2.1 50 2) 2 0 σ) 0 (by rfl) (by omega) (Nat.lt_succ_self _)
      · exact absurd c49 (by decide)
  · exact absurd c1 (by decide)

set_option maxRecDepth 100000 in
theorem ct_X0_bestOf_3_1 {l : Launch} {D : va_G} {B : Nat} {Λ : LT} {I : AH} {L : LawT} (σ : MSt)   (hok : mOK σ L) (hm14 : σ.1 2 ≤ 14) (hbO : byOK σ) : Ct l D ZE B yX0_bestOf cX0_bestOf 7 (some .int) 210 4842 0 0 [.ref (Λ.1 0 38), .int (nI 3), .int (nI 1)] (XH D Λ I L σ) (RI (turnS L (σ.2.1 50 1) (σ.2.1 50 2) 3 0 σ) (XH D Λ I L σ)) := by
  refine Ct.of (nL := 7) (lv := [some (.ref (Λ.1 0 38)), some (.int (nI 3)), some (.int (nI 1)), none, none, none, none]) (by decide) (Nat.le_of_ble_eq_true rfl) stZE 4 rfl ?_
  generalize hT : RI (turnS L (σ.2.1 50 1) (σ.2.1 50 2) 3 0 σ) (XH D Λ I L σ) = T
  intro zp ze zs zm zb zt zc F hr hnm
  generalize ([.ref (Λ.1 0 38), .int (nI 3), .int (nI 1)] : List Value).toArray = za at F ⊢
  have hok2 := hok
  obtain ⟨ho8, hm15, ht99, hby, hlaw⟩ := hok2
  refine g_iload_n F dX0_bestOf_0 rfl rfl (np := 1) rfl ?_
  refine g_if_neN F (by decide) dX0_bestOf_1 (tp := 30) (by decide) (np := 4) rfl (fun c1 => ?_) (fun c1 => ?_)
  · refine g_aload_n F dX0_bestOf_30 rfl rfl (np := 31) rfl ?_
    refine g_iload_n F dX0_bestOf_31 rfl rfl (np := 32) rfl ?_
    refine g_iconst F (v := (nI 1)) dX0_bestOf_32 (by decide) (np := 33) rfl ?_
    refine g_isubN F (by omega) dX0_bestOf_33 (np := 34) rfl ?_
    refine WG.eqv (st' := [.int (nI 2), .ref (Λ.1 0 38)]) (congrArg (fun z => ([.int z, .ref (Λ.1 0 38)] : List Value)) (show (nI (3 - 1)) = (nI 2) from by rfl)) rfl ?_
    refine g_iload_n F dX0_bestOf_34 rfl rfl (np := 35) rfl ?_
    refine g_if_neN F (by decide) dX0_bestOf_35 (tp := 42) (by decide) (np := 38) rfl (fun c35 => ?_) (fun c35 => ?_)
    · refine g_iconst F (v := (nI 0)) dX0_bestOf_42 (by decide) (np := 43) rfl ?_
      refine g_runV F (C := RX0) (ci := 0) (T0 := TX0) (N := 38) (rest := []) (ct_X0_bestOf_2_0 σ (by exact hok) (by exact hm14) (by exact hbO)) (lw_V q1010 q1012 qs45 q100 q1013) hcV_X0_bestOf ⟨Nat.le_of_ble_eq_true rfl, Nat.le_of_ble_eq_true rfl⟩ rfl (fun h hs => hs.obj) rfl rfl (Nat.le_of_ble_eq_true rfl) dX0_bestOf_43 ⟨Nat.le_of_ble_eq_true rfl, Nat.le_of_ble_eq_true rfl⟩ (np := 46) rfl (k_RI ?_)
      refine g_istore_n F (lv' := [some (.ref (Λ.1 0 38)), some (.int (nI 3)), some (.int (nI 1)), some (.int (turnS L (σ.2.1 50 1) (σ.2.1 50 2) 2 1 σ)), none, none, none]) dX0_bestOf_46 rfl (by decide) rfl rfl (np := 47) rfl ?_
      refine g_aload_n F dX0_bestOf_47 rfl rfl (np := 48) rfl ?_
      refine g_iload_n F dX0_bestOf_48 rfl rfl (np := 49) rfl ?_
      refine g_if_eqN F (by decide) dX0_bestOf_49 (tp := 59) (by decide) (np := 52) rfl (fun c49 => ?_) (fun c49 => ?_)
      · exact absurd c49 (by decide)
      · refine g_aload_n F dX0_bestOf_52 rfl rfl (np := 53) rfl ?_
        refine x_get F (k := 17) (v := .int (σ.2.1 50 2)) (by decide) rfl (Or.inl q196) dX0_bestOf_53 (np := 56) rfl ?_
        refine g_goto F dX0_bestOf_56 (np := 63) (by decide) ?_
        refine g_runV F (C := RX0) (ci := 0) (T0 := TX0) (N := 38) (rest := []) (ct_X0_mayDo σ (σ.2.1 50 2) (by first | assumption | omega)) (lw_V q929 q931 qs33 q100 q932) hcV_X0_mayDo ⟨Nat.le_of_ble_eq_true rfl, Nat.le_of_ble_eq_true rfl⟩ rfl (fun h hs => hs.obj) rfl rfl (Nat.le_of_ble_eq_true rfl) dX0_bestOf_63 ⟨Nat.le_of_ble_eq_true rfl, Nat.le_of_ble_eq_true rfl⟩ (np := 66) rfl (k_RI ?_)
        refine g_istore F (lv' := [some (.ref (Λ.1 0 38)), some (.int (nI 3)), some (.int (nI 1)), some (.int (turnS L (σ.2.1 50 1) (σ.2.1 50 2) 2 1 σ)), some (.int (sMay (mP σ) (σ.1 6) (σ.2.1 50 2) (σ.1 2))), none, none]) dX0_bestOf_66 (by decide) rfl rfl (np := 68) rfl ?_
        refine g_iconst F (v := (nI 0)) dX0_bestOf_68 (by decide) (np := 69) rfl ?_
        refine g_istore F (lv' := [some (.ref (Λ.1 0 38)), some (.int (nI 3)), some (.int (nI 1)), some (.int (turnS L (σ.2.1 50 1) (σ.2.1 50 2) 2 1 σ)), some (.int (sMay (mP σ) (σ.1 6) (σ.2.1 50 2) (σ.1 2))), some (.int (nI 0)), none]) dX0_bestOf_69 (by decide) rfl rfl (np := 71) rfl ?_
        have L71 : ∀ (zn : Nat) (b : Int32) (p : Nat), (b = turnB (turnS L (σ.2.1 50 1) (σ.2.1 50 2) 2 1) jmax (σ.2.1 50 2) σ p) → (p ≤ σ.1 2) → σ.1 2 - p < zn → WG zp l ze ({ frames := 210, cells := 0, slots := 0, locals := 4842 } : Room) zs zm za zb zt zc D B 7 (MQ zb (QT D B T) za zs 0 0 (zA B)) (XH D Λ I L σ) 0 0 71 [some (.ref (Λ.1 0 38)), some (.int (nI 3)), some (.int (nI 1)), some (.int b), some (.int (sMay (mP σ) (σ.1 6) (σ.2.1 50 2) (σ.1 2))), some (.int (nI p)), none] [] := by
          intro zn
          induction zn with
          | zero => intro b p h1 h2 hm; exact absurd hm (Nat.not_lt_zero _)
          | succ zn ih71 =>
            intro b p h1 h2 hm
            refine g_iload F dX0_bestOf_71 rfl (np := 73) rfl ?_
            refine g_aload_n F dX0_bestOf_73 rfl rfl (np := 74) rfl ?_
            refine x_get F (k := 3) (v := .int (nI (σ.1 2))) (by decide) rfl (Or.inl q180) dX0_bestOf_74 (np := 77) rfl ?_
            refine g_icmp_geN F (by omega) (by omega) dX0_bestOf_77 (tp := 131) (by decide) (np := 80) rfl (fun c77 => ?_) (fun c77 => ?_)
            · refine g_iload_n F dX0_bestOf_131 rfl rfl (np := 132) rfl ?_
              have hv : b = turnS L (σ.2.1 50 1) (σ.2.1 50 2) 3 0 σ := by rw [h1, show p = σ.1 2 by omega]; rfl
              exact g_iret F hr rfl (Nat.le_of_ble_eq_true rfl) (Nat.le_of_ble_eq_true rfl) dX0_bestOf_132 (fun h hs => by rw [← hT]; exact ⟨congrArg (fun z => some (Value.int z)) hv, hs⟩)
            · refine g_iload F dX0_bestOf_80 rfl (np := 82) rfl ?_
              refine g_iload F dX0_bestOf_82 rfl (np := 84) rfl ?_
              refine g_runS F (rest := []) (ct_X0_has (sMay (mP σ) (σ.1 6) (σ.2.1 50 2) (σ.1 2)) p ) (lw_S q937 q938 q100 q939) hcS_X0_has ⟨Nat.le_of_ble_eq_true rfl, Nat.le_of_ble_eq_true rfl⟩ rfl rfl (Nat.le_of_ble_eq_true rfl) dX0_bestOf_84 ⟨Nat.le_of_ble_eq_true rfl, Nat.le_of_ble_eq_true rfl⟩ (np := 87) rfl (k_RI ?_)
              refine g_if_neB F dX0_bestOf_87 (tp := 93) (by decide) (np := 90) rfl (fun c87 => ?_) (fun c87 => ?_)
              · have hmy : mayP σ (σ.2.1 50 2) p := (bit_may (by omega) (by omega)).mp c87
                refine g_aload_n F dX0_bestOf_93 rfl rfl (np := 94) rfl ?_
                refine g_iload F dX0_bestOf_94 rfl (np := 96) rfl ?_
                refine g_iload_n F dX0_bestOf_96 rfl rfl (np := 97) rfl ?_
                refine g_iload_n F dX0_bestOf_97 rfl rfl (np := 98) rfl ?_
                refine g_runV F (C := RX0) (ci := 0) (T0 := TX0) (N := 38) (rest := []) (ct_X0_byDeed_3_1 σ p (by exact hok) (by exact hm14) (by exact hbO) (by omega) (by exact hmy.2.1)) (lw_V q1014 q1016 qs46 q100 q1017) hcV_X0_byDeed ⟨Nat.le_of_ble_eq_true rfl, Nat.le_of_ble_eq_true rfl⟩ rfl (fun h hs => hs.obj) rfl rfl (Nat.le_of_ble_eq_true rfl) dX0_bestOf_98 ⟨Nat.le_of_ble_eq_true rfl, Nat.le_of_ble_eq_true rfl⟩ (np := 101) rfl (k_RI ?_)
                refine g_istore F (lv' := [some (.ref (Λ.1 0 38)), some (.int (nI 3)), some (.int (nI 1)), some (.int b), some (.int (sMay (mP σ) (σ.1 6) (σ.2.1 50 2) (σ.1 2))), some (.int (nI p)), some (.int (turnS L (σ.2.1 50 1) (σ.2.1 50 2) 2 1 (dnP σ p)))]) dX0_bestOf_101 (by decide) rfl rfl (np := 103) rfl ?_
                refine g_iload_n F dX0_bestOf_103 rfl rfl (np := 104) rfl ?_
                refine g_if_eqN F (by decide) dX0_bestOf_104 (tp := 116) (by decide) (np := 107) rfl (fun c104 => ?_) (fun c104 => ?_)
                · exact absurd c104 (by decide)
                · refine g_iload F dX0_bestOf_107 rfl (np := 109) rfl ?_
                  refine g_iload_n F dX0_bestOf_109 rfl rfl (np := 110) rfl ?_
                  refine g_icmp_le F dX0_bestOf_110 (tp := 125) (by decide) (np := 113) rfl (fun c110 => ?_) (fun c110 => ?_)
                  · refine g_iinc F (v := (nI (p + 1))) (lv' := [some (.ref (Λ.1 0 38)), some (.int (nI 3)), some (.int (nI 1)), some (.int b), some (.int (sMay (mP σ) (σ.1 6) (σ.2.1 50 2) (σ.1 2))), some (.int (nI (p + 1))), some (.int (turnS L (σ.2.1 50 1) (σ.2.1 50 2) 2 1 (dnP σ p)))]) dX0_bestOf_125 rfl (nI_add _ _) (by decide) rfl rfl (np := 128) rfl ?_
                    refine g_goto F dX0_bestOf_128 (np := 71) (by decide) ?_
                    refine WG.dropL (i := 6) (lv' := [some (.ref (Λ.1 0 38)), some (.int (nI 3)), some (.int (nI 1)), some (.int b), some (.int (sMay (mP σ) (σ.1 6) (σ.2.1 50 2) (σ.1 2))), some (.int (nI (p + 1))), none]) rfl ?_
                    exact ih71 b (p + 1) (by unfold turnB; first | (rw [pif_f (fun z => c87 ((bit_may (by omega) (by omega)).mpr z))]; exact h1) | (rw [pif_t hmy, ← h1]; unfold jmax; first | (rw [if_neg (Int32.not_lt.mpr c110)]; done) | (rw [if_pos (Int32.not_le.mp c110)]; done))) (by first | assumption | omega) (by omega)
                  · refine g_goto F dX0_bestOf_113 (np := 122) (by decide) ?_
                    refine g_iload F dX0_bestOf_122 rfl (np := 124) rfl ?_
                    refine g_istore_n F (lv' := [some (.ref (Λ.1 0 38)), some (.int (nI 3)), some (.int (nI 1)), some (.int (turnS L (σ.2.1 50 1) (σ.2.1 50 2) 2 1 (dnP σ p))), some (.int (sMay (mP σ) (σ.1 6) (σ.2.1 50 2) (σ.1 2))), some (.int (nI p)), some (.int (turnS L (σ.2.1 50 1) (σ.2.1 50 2) 2 1 (dnP σ p)))]) dX0_bestOf_124 rfl (by decide) rfl rfl (np := 125) rfl ?_
                    refine g_iinc F (v := (nI (p + 1))) (lv' := [some (.ref (Λ.1 0 38)), some (.int (nI 3)), some (.int (nI 1)), some (.int (turnS L (σ.2.1 50 1) (σ.2.1 50 2) 2 1 (dnP σ p))), some (.int (sMay (mP σ) (σ.1 6) (σ.2.1 50 2) (σ.1 2))), some (.int (nI (p + 1))), some (.int (turnS L (σ.2.1 50 1) (σ.2.1 50 2) 2 1 (dnP σ p)))]) dX0_bestOf_125 rfl (nI_add _ _) (by decide) rfl rfl (np := 128) rfl ?_
                    refine g_goto F dX0_bestOf_128 (np := 71) (by decide) ?_
                    refine WG.dropL (i := 6) (lv' := [some (.ref (Λ.1 0 38)), some (.int (nI 3)), some (.int (nI 1)), some (.int (turnS L (σ.2.1 50 1) (σ.2.1 50 2) 2 1 (dnP σ p))), some (.int (sMay (mP σ) (σ.1 6) (σ.2.1 50 2) (σ.1 2))), some (.int (nI (p + 1))), none]) rfl ?_
                    exact ih71 (turnS L (σ.2.1 50 1) (σ.2.1 50 2) 2 1 (dnP σ p)) (p + 1) (by unfold turnB; first | (rw [pif_f (fun z => c87 ((bit_may (by omega) (by omega)).mpr z))]; exact h1) | (rw [pif_t hmy, ← h1]; unfold jmax; first | (rw [if_neg (Int32.not_lt.mpr c110)]; done) | (rw [if_pos (Int32.not_le.mp c110)]; done))) (by first | assumption | omega) (by omega)
              · refine g_goto F dX0_bestOf_90 (np := 125) (by decide) ?_
                refine g_iinc F (v := (nI (p + 1))) (lv' := [some (.ref (Λ.1 0 38)), some (.int (nI 3)), some (.int (nI 1)), some (.int b), some (.int (sMay (mP σ) (σ.1 6) (σ.2.1 50 2) (σ.1 2))), some (.int (nI (p + 1))), none]) dX0_bestOf_125 rfl (nI_add _ _) (by decide) rfl rfl (np := 128) rfl ?_
                refine g_goto F dX0_bestOf_128 (np := 71) (by decide) ?_
                exact ih71 b (p + 1) (by unfold turnB; first | (rw [pif_f (fun z => c87 ((bit_may (by omega) (by omega)).mpr z))]; exact h1) | (rw [pif_t hmy, ← h1]; unfold jmax; first | (rw [if_neg (Int32.not_lt.mpr c110)]; done) | (rw [if_pos (Int32.not_le.mp c110)]; done))) (by first | assumption | omega) (by omega)
        exact L71 _ (turnS L (σ.2.1 50 1) (σ.2.1 50 2) 2 1 σ) 0 (by rfl) (by omega) (Nat.lt_succ_self _)
    · exact absurd c35 (by decide)
  · exact absurd c1 (by decide)

set_option maxRecDepth 100000 in
theorem ct_X0_byDeed_4_0 {l : Launch} {D : va_G} {B : Nat} {Λ : LT} {I : AH} {L : LawT} (σ : MSt)  (p : Nat) (hok : mOK σ L) (hm14 : σ.1 2 ≤ 14) (hbO : byOK σ) (hp : p < σ.1 2) (ho : sOpen (mP σ) (σ.1 6) p) : Ct l D ZE B yX0_byDeed cX0_byDeed 5 (some .int) 211 4868 0 0 [.ref (Λ.1 0 38), .int (nI p), .int (nI 4), .int (nI 0)] (XH D Λ I L σ) (RI (turnS L (σ.2.1 50 1) (σ.2.1 50 2) 3 0 (dnP σ p)) (XH D Λ I L σ)) := by
  refine Ct.of (nL := 5) (lv := [some (.ref (Λ.1 0 38)), some (.int (nI p)), some (.int (nI 4)), some (.int (nI 0)), none]) (by decide) (Nat.le_of_ble_eq_true rfl) stZE 1 rfl ?_
  generalize hT : RI (turnS L (σ.2.1 50 1) (σ.2.1 50 2) 3 0 (dnP σ p)) (XH D Λ I L σ) = T
  intro zp ze zs zm zb zt zc F hr hnm
  generalize ([.ref (Λ.1 0 38), .int (nI p), .int (nI 4), .int (nI 0)] : List Value).toArray = za at F ⊢
  have hok2 := hok
  obtain ⟨ho8, hm15, ht99, hby, hlaw⟩ := hok2
  refine g_aload_n F dX0_byDeed_0 rfl rfl (np := 1) rfl ?_
  refine x_get F (k := 1) (v := .ref (Λ.1 0 1)) (by decide) rfl (Or.inl q178) dX0_byDeed_1 (np := 4) rfl ?_
  refine g_iload_n F dX0_byDeed_4 rfl rfl (np := 5) rfl ?_
  refine x_aldP F (i := p) rfl (show p < σ.1 2 by omega) (show σ.1 2 ≤ 14 by omega) dX0_byDeed_5 (np := 6) rfl ?_
  refine g_iconst F (v := (nI 1)) dX0_byDeed_6 (by decide) (np := 7) rfl ?_
  refine x_putP F (j := 6) (q := p) (by decide) (by decide) (show σ.1 2 ≤ 15 by omega) (show p < σ.1 2 by omega) (Or.inr ⟨_, ze345⟩) rfl rfl dX0_byDeed_7 (np := 10) rfl ?_
  refine WG.weak (S' := XH D Λ I L (dnP σ p)) (fun h hs => by rw [show (dnP σ p) = (sA σ 3 (60 + p) (nI (1))) from by rfl]; exact hs) ?_
  refine g_aload_n F dX0_byDeed_10 rfl rfl (np := 11) rfl ?_
  refine g_iload_n F dX0_byDeed_11 rfl rfl (np := 12) rfl ?_
  refine g_iconst F (v := (nI 1)) dX0_byDeed_12 (by decide) (np := 13) rfl ?_
  refine g_isubN F (by omega) dX0_byDeed_13 (np := 14) rfl ?_
  refine WG.eqv (st' := [.int (nI 3), .ref (Λ.1 0 38)]) (congrArg (fun z => ([.int z, .ref (Λ.1 0 38)] : List Value)) (show (nI (4 - 1)) = (nI 3) from by rfl)) rfl ?_
  refine g_iload_n F dX0_byDeed_14 rfl rfl (np := 15) rfl ?_
  refine g_if_neN F (by decide) dX0_byDeed_15 (tp := 22) (by decide) (np := 18) rfl (fun c15 => ?_) (fun c15 => ?_)
  · exact absurd c15 (by decide)
  · refine g_iconst F (v := (nI 1)) dX0_byDeed_18 (by decide) (np := 19) rfl ?_
    refine g_goto F dX0_byDeed_19 (np := 23) (by decide) ?_
    refine g_runV F (C := RX0) (ci := 0) (T0 := TX0) (N := 38) (rest := []) (ct_X0_bestOf_3_1 (dnP σ p) (by exact hok.sA3 _ _) (by exact hm14) (by exact hbO.same rfl rfl rfl)) (lw_V q1010 q1012 qs45 q100 q1013) hcV_X0_bestOf ⟨Nat.le_of_ble_eq_true rfl, Nat.le_of_ble_eq_true rfl⟩ rfl (fun h hs => hs.obj) rfl rfl (Nat.le_of_ble_eq_true rfl) dX0_byDeed_23 ⟨Nat.le_of_ble_eq_true rfl, Nat.le_of_ble_eq_true rfl⟩ (np := 26) rfl (k_RI ?_)
    refine g_istore F (lv' := [some (.ref (Λ.1 0 38)), some (.int (nI p)), some (.int (nI 4)), some (.int (nI 0)), some (.int (turnS L ((dnP σ p).2.1 50 1) ((dnP σ p).2.1 50 2) 3 0 (dnP σ p)))]) dX0_byDeed_26 (by decide) rfl rfl (np := 28) rfl ?_
    refine g_aload_n F dX0_byDeed_28 rfl rfl (np := 29) rfl ?_
    refine x_get F (k := 1) (v := .ref (Λ.1 0 1)) (by decide) rfl (Or.inl q178) dX0_byDeed_29 (np := 32) rfl ?_
    refine g_iload_n F dX0_byDeed_32 rfl rfl (np := 33) rfl ?_
    refine x_aldP F (i := p) rfl (show p < σ.1 2 by omega) (show σ.1 2 ≤ 14 by omega) dX0_byDeed_33 (np := 34) rfl ?_
    refine g_iconst F (v := (nI 0)) dX0_byDeed_34 (by decide) (np := 35) rfl ?_
    refine x_putP F (j := 6) (q := p) (by decide) (by decide) (show σ.1 2 ≤ 15 by omega) (show p < σ.1 2 by omega) (Or.inr ⟨_, ze345⟩) rfl rfl dX0_byDeed_35 (np := 38) rfl ?_
    refine WG.weak (S' := XH D Λ I L σ) (fun h hs => by rw [show σ = (sA ((dnP σ p)) 3 (60 + p) (nI (0))) from by exact (dn_back ho).symm]; exact hs) ?_
    refine g_iload F dX0_byDeed_38 rfl (np := 40) rfl ?_
    have hv : turnS L ((dnP σ p).2.1 50 1) ((dnP σ p).2.1 50 2) 3 0 (dnP σ p) = turnS L (σ.2.1 50 1) (σ.2.1 50 2) 3 0 (dnP σ p) := by rfl
    exact g_iret F hr rfl (Nat.le_of_ble_eq_true rfl) (Nat.le_of_ble_eq_true rfl) dX0_byDeed_40 (fun h hs => by rw [← hT]; exact ⟨congrArg (fun z => some (Value.int z)) hv, hs⟩)

set_option maxRecDepth 100000 in
theorem ct_X0_byDeed_4_1 {l : Launch} {D : va_G} {B : Nat} {Λ : LT} {I : AH} {L : LawT} (σ : MSt)  (p : Nat) (hok : mOK σ L) (hm14 : σ.1 2 ≤ 14) (hbO : byOK σ) (hp : p < σ.1 2) (ho : sOpen (mP σ) (σ.1 6) p) : Ct l D ZE B yX0_byDeed cX0_byDeed 5 (some .int) 211 4868 0 0 [.ref (Λ.1 0 38), .int (nI p), .int (nI 4), .int (nI 1)] (XH D Λ I L σ) (RI (turnS L (σ.2.1 50 1) (σ.2.1 50 2) 3 1 (dnP σ p)) (XH D Λ I L σ)) := by
  refine Ct.of (nL := 5) (lv := [some (.ref (Λ.1 0 38)), some (.int (nI p)), some (.int (nI 4)), some (.int (nI 1)), none]) (by decide) (Nat.le_of_ble_eq_true rfl) stZE 1 rfl ?_
  generalize hT : RI (turnS L (σ.2.1 50 1) (σ.2.1 50 2) 3 1 (dnP σ p)) (XH D Λ I L σ) = T
  intro zp ze zs zm zb zt zc F hr hnm
  generalize ([.ref (Λ.1 0 38), .int (nI p), .int (nI 4), .int (nI 1)] : List Value).toArray = za at F ⊢
  have hok2 := hok
  obtain ⟨ho8, hm15, ht99, hby, hlaw⟩ := hok2
  refine g_aload_n F dX0_byDeed_0 rfl rfl (np := 1) rfl ?_
  refine x_get F (k := 1) (v := .ref (Λ.1 0 1)) (by decide) rfl (Or.inl q178) dX0_byDeed_1 (np := 4) rfl ?_
  refine g_iload_n F dX0_byDeed_4 rfl rfl (np := 5) rfl ?_
  refine x_aldP F (i := p) rfl (show p < σ.1 2 by omega) (show σ.1 2 ≤ 14 by omega) dX0_byDeed_5 (np := 6) rfl ?_
  refine g_iconst F (v := (nI 1)) dX0_byDeed_6 (by decide) (np := 7) rfl ?_
  refine x_putP F (j := 6) (q := p) (by decide) (by decide) (show σ.1 2 ≤ 15 by omega) (show p < σ.1 2 by omega) (Or.inr ⟨_, ze345⟩) rfl rfl dX0_byDeed_7 (np := 10) rfl ?_
  refine WG.weak (S' := XH D Λ I L (dnP σ p)) (fun h hs => by rw [show (dnP σ p) = (sA σ 3 (60 + p) (nI (1))) from by rfl]; exact hs) ?_
  refine g_aload_n F dX0_byDeed_10 rfl rfl (np := 11) rfl ?_
  refine g_iload_n F dX0_byDeed_11 rfl rfl (np := 12) rfl ?_
  refine g_iconst F (v := (nI 1)) dX0_byDeed_12 (by decide) (np := 13) rfl ?_
  refine g_isubN F (by omega) dX0_byDeed_13 (np := 14) rfl ?_
  refine WG.eqv (st' := [.int (nI 3), .ref (Λ.1 0 38)]) (congrArg (fun z => ([.int z, .ref (Λ.1 0 38)] : List Value)) (show (nI (4 - 1)) = (nI 3) from by rfl)) rfl ?_
  refine g_iload_n F dX0_byDeed_14 rfl rfl (np := 15) rfl ?_
  refine g_if_neN F (by decide) dX0_byDeed_15 (tp := 22) (by decide) (np := 18) rfl (fun c15 => ?_) (fun c15 => ?_)
  · refine g_iconst F (v := (nI 0)) dX0_byDeed_22 (by decide) (np := 23) rfl ?_
    refine g_runV F (C := RX0) (ci := 0) (T0 := TX0) (N := 38) (rest := []) (ct_X0_bestOf_3_0 (dnP σ p) (by exact hok.sA3 _ _) (by exact hm14) (by exact hbO.same rfl rfl rfl)) (lw_V q1010 q1012 qs45 q100 q1013) hcV_X0_bestOf ⟨Nat.le_of_ble_eq_true rfl, Nat.le_of_ble_eq_true rfl⟩ rfl (fun h hs => hs.obj) rfl rfl (Nat.le_of_ble_eq_true rfl) dX0_byDeed_23 ⟨Nat.le_of_ble_eq_true rfl, Nat.le_of_ble_eq_true rfl⟩ (np := 26) rfl (k_RI ?_)
    refine g_istore F (lv' := [some (.ref (Λ.1 0 38)), some (.int (nI p)), some (.int (nI 4)), some (.int (nI 1)), some (.int (turnS L ((dnP σ p).2.1 50 1) ((dnP σ p).2.1 50 2) 3 1 (dnP σ p)))]) dX0_byDeed_26 (by decide) rfl rfl (np := 28) rfl ?_
    refine g_aload_n F dX0_byDeed_28 rfl rfl (np := 29) rfl ?_
    refine x_get F (k := 1) (v := .ref (Λ.1 0 1)) (by decide) rfl (Or.inl q178) dX0_byDeed_29 (np := 32) rfl ?_
    refine g_iload_n F dX0_byDeed_32 rfl rfl (np := 33) rfl ?_
    refine x_aldP F (i := p) rfl (show p < σ.1 2 by omega) (show σ.1 2 ≤ 14 by omega) dX0_byDeed_33 (np := 34) rfl ?_
    refine g_iconst F (v := (nI 0)) dX0_byDeed_34 (by decide) (np := 35) rfl ?_
    refine x_putP F (j := 6) (q := p) (by decide) (by decide) (show σ.1 2 ≤ 15 by omega) (show p < σ.1 2 by omega) (Or.inr ⟨_, ze345⟩) rfl rfl dX0_byDeed_35 (np := 38) rfl ?_
    refine WG.weak (S' := XH D Λ I L σ) (fun h hs => by rw [show σ = (sA ((dnP σ p)) 3 (60 + p) (nI (0))) from by exact (dn_back ho).symm]; exact hs) ?_
    refine g_iload F dX0_byDeed_38 rfl (np := 40) rfl ?_
    have hv : turnS L ((dnP σ p).2.1 50 1) ((dnP σ p).2.1 50 2) 3 1 (dnP σ p) = turnS L (σ.2.1 50 1) (σ.2.1 50 2) 3 1 (dnP σ p) := by rfl
    exact g_iret F hr rfl (Nat.le_of_ble_eq_true rfl) (Nat.le_of_ble_eq_true rfl) dX0_byDeed_40 (fun h hs => by rw [← hT]; exact ⟨congrArg (fun z => some (Value.int z)) hv, hs⟩)
  · exact absurd c15 (by decide)

set_option maxRecDepth 100000 in
theorem ct_X0_bestOf_4_0 {l : Launch} {D : va_G} {B : Nat} {Λ : LT} {I : AH} {L : LawT} (σ : MSt)   (hok : mOK σ L) (hm14 : σ.1 2 ≤ 14) (hbO : byOK σ) : Ct l D ZE B yX0_bestOf cX0_bestOf 7 (some .int) 212 4892 0 0 [.ref (Λ.1 0 38), .int (nI 4), .int (nI 0)] (XH D Λ I L σ) (RI (turnS L (σ.2.1 50 1) (σ.2.1 50 2) 4 1 σ) (XH D Λ I L σ)) := by
  refine Ct.of (nL := 7) (lv := [some (.ref (Λ.1 0 38)), some (.int (nI 4)), some (.int (nI 0)), none, none, none, none]) (by decide) (Nat.le_of_ble_eq_true rfl) stZE 4 rfl ?_
  generalize hT : RI (turnS L (σ.2.1 50 1) (σ.2.1 50 2) 4 1 σ) (XH D Λ I L σ) = T
  intro zp ze zs zm zb zt zc F hr hnm
  generalize ([.ref (Λ.1 0 38), .int (nI 4), .int (nI 0)] : List Value).toArray = za at F ⊢
  have hok2 := hok
  obtain ⟨ho8, hm15, ht99, hby, hlaw⟩ := hok2
  refine g_iload_n F dX0_bestOf_0 rfl rfl (np := 1) rfl ?_
  refine g_if_neN F (by decide) dX0_bestOf_1 (tp := 30) (by decide) (np := 4) rfl (fun c1 => ?_) (fun c1 => ?_)
  · refine g_aload_n F dX0_bestOf_30 rfl rfl (np := 31) rfl ?_
    refine g_iload_n F dX0_bestOf_31 rfl rfl (np := 32) rfl ?_
    refine g_iconst F (v := (nI 1)) dX0_bestOf_32 (by decide) (np := 33) rfl ?_
    refine g_isubN F (by omega) dX0_bestOf_33 (np := 34) rfl ?_
    refine WG.eqv (st' := [.int (nI 3), .ref (Λ.1 0 38)]) (congrArg (fun z => ([.int z, .ref (Λ.1 0 38)] : List Value)) (show (nI (4 - 1)) = (nI 3) from by rfl)) rfl ?_
    refine g_iload_n F dX0_bestOf_34 rfl rfl (np := 35) rfl ?_
    refine g_if_neN F (by decide) dX0_bestOf_35 (tp := 42) (by decide) (np := 38) rfl (fun c35 => ?_) (fun c35 => ?_)
    · exact absurd c35 (by decide)
    · refine g_iconst F (v := (nI 1)) dX0_bestOf_38 (by decide) (np := 39) rfl ?_
      refine g_goto F dX0_bestOf_39 (np := 43) (by decide) ?_
      refine g_runV F (C := RX0) (ci := 0) (T0 := TX0) (N := 38) (rest := []) (ct_X0_bestOf_3_1 σ (by exact hok) (by exact hm14) (by exact hbO)) (lw_V q1010 q1012 qs45 q100 q1013) hcV_X0_bestOf ⟨Nat.le_of_ble_eq_true rfl, Nat.le_of_ble_eq_true rfl⟩ rfl (fun h hs => hs.obj) rfl rfl (Nat.le_of_ble_eq_true rfl) dX0_bestOf_43 ⟨Nat.le_of_ble_eq_true rfl, Nat.le_of_ble_eq_true rfl⟩ (np := 46) rfl (k_RI ?_)
      refine g_istore_n F (lv' := [some (.ref (Λ.1 0 38)), some (.int (nI 4)), some (.int (nI 0)), some (.int (turnS L (σ.2.1 50 1) (σ.2.1 50 2) 3 0 σ)), none, none, none]) dX0_bestOf_46 rfl (by decide) rfl rfl (np := 47) rfl ?_
      refine g_aload_n F dX0_bestOf_47 rfl rfl (np := 48) rfl ?_
      refine g_iload_n F dX0_bestOf_48 rfl rfl (np := 49) rfl ?_
      refine g_if_eqN F (by decide) dX0_bestOf_49 (tp := 59) (by decide) (np := 52) rfl (fun c49 => ?_) (fun c49 => ?_)
      · refine g_aload_n F dX0_bestOf_59 rfl rfl (np := 60) rfl ?_
        refine x_get F (k := 16) (v := .int (σ.2.1 50 1)) (by decide) rfl (Or.inl q195) dX0_bestOf_60 (np := 63) rfl ?_
        refine g_runV F (C := RX0) (ci := 0) (T0 := TX0) (N := 38) (rest := []) (ct_X0_mayDo σ (σ.2.1 50 1) (by first | assumption | omega)) (lw_V q929 q931 qs33 q100 q932) hcV_X0_mayDo ⟨Nat.le_of_ble_eq_true rfl, Nat.le_of_ble_eq_true rfl⟩ rfl (fun h hs => hs.obj) rfl rfl (Nat.le_of_ble_eq_true rfl) dX0_bestOf_63 ⟨Nat.le_of_ble_eq_true rfl, Nat.le_of_ble_eq_true rfl⟩ (np := 66) rfl (k_RI ?_)
        refine g_istore F (lv' := [some (.ref (Λ.1 0 38)), some (.int (nI 4)), some (.int (nI 0)), some (.int (turnS L (σ.2.1 50 1) (σ.2.1 50 2) 3 0 σ)), some (.int (sMay (mP σ) (σ.1 6) (σ.2.1 50 1) (σ.1 2))), none, none]) dX0_bestOf_66 (by decide) rfl rfl (np := 68) rfl ?_
        refine g_iconst F (v := (nI 0)) dX0_bestOf_68 (by decide) (np := 69) rfl ?_
        refine g_istore F (lv' := [some (.ref (Λ.1 0 38)), some (.int (nI 4)), some (.int (nI 0)), some (.int (turnS L (σ.2.1 50 1) (σ.2.1 50 2) 3 0 σ)), some (.int (sMay (mP σ) (σ.1 6) (σ.2.1 50 1) (σ.1 2))), some (.int (nI 0)), none]) dX0_bestOf_69 (by decide) rfl rfl (np := 71) rfl ?_
        have L71 : ∀ (zn : Nat) (b : Int32) (p : Nat), (b = turnB (turnS L (σ.2.1 50 1) (σ.2.1 50 2) 3 0) jmin (σ.2.1 50 1) σ p) → (p ≤ σ.1 2) → σ.1 2 - p < zn → WG zp l ze ({ frames := 212, cells := 0, slots := 0, locals := 4892 } : Room) zs zm za zb zt zc D B 7 (MQ zb (QT D B T) za zs 0 0 (zA B)) (XH D Λ I L σ) 0 0 71 [some (.ref (Λ.1 0 38)), some (.int (nI 4)), some (.int (nI 0)), some (.int b), some (.int (sMay (mP σ) (σ.1 6) (σ.2.1 50 1) (σ.1 2))), some (.int (nI p)), none] [] := by
          intro zn
          induction zn with
          | zero => intro b p h1 h2 hm; exact absurd hm (Nat.not_lt_zero _)
          | succ zn ih71 =>
            intro b p h1 h2 hm
            refine g_iload F dX0_bestOf_71 rfl (np := 73) rfl ?_
            refine g_aload_n F dX0_bestOf_73 rfl rfl (np := 74) rfl ?_
            refine x_get F (k := 3) (v := .int (nI (σ.1 2))) (by decide) rfl (Or.inl q180) dX0_bestOf_74 (np := 77) rfl ?_
            refine g_icmp_geN F (by omega) (by omega) dX0_bestOf_77 (tp := 131) (by decide) (np := 80) rfl (fun c77 => ?_) (fun c77 => ?_)
            · refine g_iload_n F dX0_bestOf_131 rfl rfl (np := 132) rfl ?_
              have hv : b = turnS L (σ.2.1 50 1) (σ.2.1 50 2) 4 1 σ := by rw [h1, show p = σ.1 2 by omega]; rfl
              exact g_iret F hr rfl (Nat.le_of_ble_eq_true rfl) (Nat.le_of_ble_eq_true rfl) dX0_bestOf_132 (fun h hs => by rw [← hT]; exact ⟨congrArg (fun z => some (Value.int z)) hv, hs⟩)
            · refine g_iload F dX0_bestOf_80 rfl (np := 82) rfl ?_
              refine g_iload F dX0_bestOf_82 rfl (np := 84) rfl ?_
              refine g_runS F (rest := []) (ct_X0_has (sMay (mP σ) (σ.1 6) (σ.2.1 50 1) (σ.1 2)) p ) (lw_S q937 q938 q100 q939) hcS_X0_has ⟨Nat.le_of_ble_eq_true rfl, Nat.le_of_ble_eq_true rfl⟩ rfl rfl (Nat.le_of_ble_eq_true rfl) dX0_bestOf_84 ⟨Nat.le_of_ble_eq_true rfl, Nat.le_of_ble_eq_true rfl⟩ (np := 87) rfl (k_RI ?_)
              refine g_if_neB F dX0_bestOf_87 (tp := 93) (by decide) (np := 90) rfl (fun c87 => ?_) (fun c87 => ?_)
              · have hmy : mayP σ (σ.2.1 50 1) p := (bit_may (by omega) (by omega)).mp c87
                refine g_aload_n F dX0_bestOf_93 rfl rfl (np := 94) rfl ?_
                refine g_iload F dX0_bestOf_94 rfl (np := 96) rfl ?_
                refine g_iload_n F dX0_bestOf_96 rfl rfl (np := 97) rfl ?_
                refine g_iload_n F dX0_bestOf_97 rfl rfl (np := 98) rfl ?_
                refine g_runV F (C := RX0) (ci := 0) (T0 := TX0) (N := 38) (rest := []) (ct_X0_byDeed_4_0 σ p (by exact hok) (by exact hm14) (by exact hbO) (by omega) (by exact hmy.2.1)) (lw_V q1014 q1016 qs46 q100 q1017) hcV_X0_byDeed ⟨Nat.le_of_ble_eq_true rfl, Nat.le_of_ble_eq_true rfl⟩ rfl (fun h hs => hs.obj) rfl rfl (Nat.le_of_ble_eq_true rfl) dX0_bestOf_98 ⟨Nat.le_of_ble_eq_true rfl, Nat.le_of_ble_eq_true rfl⟩ (np := 101) rfl (k_RI ?_)
                refine g_istore F (lv' := [some (.ref (Λ.1 0 38)), some (.int (nI 4)), some (.int (nI 0)), some (.int b), some (.int (sMay (mP σ) (σ.1 6) (σ.2.1 50 1) (σ.1 2))), some (.int (nI p)), some (.int (turnS L (σ.2.1 50 1) (σ.2.1 50 2) 3 0 (dnP σ p)))]) dX0_bestOf_101 (by decide) rfl rfl (np := 103) rfl ?_
                refine g_iload_n F dX0_bestOf_103 rfl rfl (np := 104) rfl ?_
                refine g_if_eqN F (by decide) dX0_bestOf_104 (tp := 116) (by decide) (np := 107) rfl (fun c104 => ?_) (fun c104 => ?_)
                · refine g_iload F dX0_bestOf_116 rfl (np := 118) rfl ?_
                  refine g_iload_n F dX0_bestOf_118 rfl rfl (np := 119) rfl ?_
                  refine g_icmp_ge F dX0_bestOf_119 (tp := 125) (by decide) (np := 122) rfl (fun c119 => ?_) (fun c119 => ?_)
                  · refine g_iinc F (v := (nI (p + 1))) (lv' := [some (.ref (Λ.1 0 38)), some (.int (nI 4)), some (.int (nI 0)), some (.int b), some (.int (sMay (mP σ) (σ.1 6) (σ.2.1 50 1) (σ.1 2))), some (.int (nI (p + 1))), some (.int (turnS L (σ.2.1 50 1) (σ.2.1 50 2) 3 0 (dnP σ p)))]) dX0_bestOf_125 rfl (nI_add _ _) (by decide) rfl rfl (np := 128) rfl ?_
                    refine g_goto F dX0_bestOf_128 (np := 71) (by decide) ?_
                    refine WG.dropL (i := 6) (lv' := [some (.ref (Λ.1 0 38)), some (.int (nI 4)), some (.int (nI 0)), some (.int b), some (.int (sMay (mP σ) (σ.1 6) (σ.2.1 50 1) (σ.1 2))), some (.int (nI (p + 1))), none]) rfl ?_
                    exact ih71 b (p + 1) (by unfold turnB; first | (rw [pif_f (fun z => c87 ((bit_may (by omega) (by omega)).mpr z))]; exact h1) | (rw [pif_t hmy, ← h1]; unfold jmin; first | (rw [if_neg (Int32.not_lt.mpr c119)]; done) | (rw [if_pos (Int32.not_le.mp c119)]; done))) (by first | assumption | omega) (by omega)
                  · refine g_iload F dX0_bestOf_122 rfl (np := 124) rfl ?_
                    refine g_istore_n F (lv' := [some (.ref (Λ.1 0 38)), some (.int (nI 4)), some (.int (nI 0)), some (.int (turnS L (σ.2.1 50 1) (σ.2.1 50 2) 3 0 (dnP σ p))), some (.int (sMay (mP σ) (σ.1 6) (σ.2.1 50 1) (σ.1 2))), some (.int (nI p)), some (.int (turnS L (σ.2.1 50 1) (σ.2.1 50 2) 3 0 (dnP σ p)))]) dX0_bestOf_124 rfl (by decide) rfl rfl (np := 125) rfl ?_
                    refine g_iinc F (v := (nI (p + 1))) (lv' := [some (.ref (Λ.1 0 38)), some (.int (nI 4)), some (.int (nI 0)), some (.int (turnS L (σ.2.1 50 1) (σ.2.1 50 2) 3 0 (dnP σ p))), some (.int (sMay (mP σ) (σ.1 6) (σ.2.1 50 1) (σ.1 2))), some (.int (nI (p + 1))), some (.int (turnS L (σ.2.1 50 1) (σ.2.1 50 2) 3 0 (dnP σ p)))]) dX0_bestOf_125 rfl (nI_add _ _) (by decide) rfl rfl (np := 128) rfl ?_
                    refine g_goto F dX0_bestOf_128 (np := 71) (by decide) ?_
                    refine WG.dropL (i := 6) (lv' := [some (.ref (Λ.1 0 38)), some (.int (nI 4)), some (.int (nI 0)), some (.int (turnS L (σ.2.1 50 1) (σ.2.1 50 2) 3 0 (dnP σ p))), some (.int (sMay (mP σ) (σ.1 6) (σ.2.1 50 1) (σ.1 2))), some (.int (nI (p + 1))), none]) rfl ?_
                    exact ih71 (turnS L (σ.2.1 50 1) (σ.2.1 50 2) 3 0 (dnP σ p)) (p + 1) (by unfold turnB; first | (rw [pif_f (fun z => c87 ((bit_may (by omega) (by omega)).mpr z))]; exact h1) | (rw [pif_t hmy, ← h1]; unfold jmin; first | (rw [if_neg (Int32.not_lt.mpr c119)]; done) | (rw [if_pos (Int32.not_le.mp c119)]; done))) (by first | assumption | omega) (by omega)
                · exact absurd c104 (by decide)
              · refine g_goto F dX0_bestOf_90 (np := 125) (by decide) ?_
                refine g_iinc F (v := (nI (p + 1))) (lv' := [some (.ref (Λ.1 0 38)), some (.int (nI 4)), some (.int (nI 0)), some (.int b), some (.int (sMay (mP σ) (σ.1 6) (σ.2.1 50 1) (σ.1 2))), some (.int (nI (p + 1))), none]) dX0_bestOf_125 rfl (nI_add _ _) (by decide) rfl rfl (np := 128) rfl ?_
                refine g_goto F dX0_bestOf_128 (np := 71) (by decide) ?_
                exact ih71 b (p + 1) (by unfold turnB; first | (rw [pif_f (fun z => c87 ((bit_may (by omega) (by omega)).mpr z))]; exact h1) | (rw [pif_t hmy, ← h1]; unfold jmin; first | (rw [if_neg (Int32.not_lt.mpr c119)]; done) | (rw [if_pos (Int32.not_le.mp c119)]; done))) (by first | assumption | omega) (by omega)
        exact L71 _ (turnS L (σ.2.1 50 1) (σ.2.1 50 2) 3 0 σ) 0 (by rfl) (by omega) (Nat.lt_succ_self _)
      · exact absurd c49 (by decide)
  · exact absurd c1 (by decide)

set_option maxRecDepth 100000 in
theorem ct_X0_bestOf_4_1 {l : Launch} {D : va_G} {B : Nat} {Λ : LT} {I : AH} {L : LawT} (σ : MSt)   (hok : mOK σ L) (hm14 : σ.1 2 ≤ 14) (hbO : byOK σ) : Ct l D ZE B yX0_bestOf cX0_bestOf 7 (some .int) 212 4892 0 0 [.ref (Λ.1 0 38), .int (nI 4), .int (nI 1)] (XH D Λ I L σ) (RI (turnS L (σ.2.1 50 1) (σ.2.1 50 2) 4 0 σ) (XH D Λ I L σ)) := by
  refine Ct.of (nL := 7) (lv := [some (.ref (Λ.1 0 38)), some (.int (nI 4)), some (.int (nI 1)), none, none, none, none]) (by decide) (Nat.le_of_ble_eq_true rfl) stZE 4 rfl ?_
  generalize hT : RI (turnS L (σ.2.1 50 1) (σ.2.1 50 2) 4 0 σ) (XH D Λ I L σ) = T
  intro zp ze zs zm zb zt zc F hr hnm
  generalize ([.ref (Λ.1 0 38), .int (nI 4), .int (nI 1)] : List Value).toArray = za at F ⊢
  have hok2 := hok
  obtain ⟨ho8, hm15, ht99, hby, hlaw⟩ := hok2
  refine g_iload_n F dX0_bestOf_0 rfl rfl (np := 1) rfl ?_
  refine g_if_neN F (by decide) dX0_bestOf_1 (tp := 30) (by decide) (np := 4) rfl (fun c1 => ?_) (fun c1 => ?_)
  · refine g_aload_n F dX0_bestOf_30 rfl rfl (np := 31) rfl ?_
    refine g_iload_n F dX0_bestOf_31 rfl rfl (np := 32) rfl ?_
    refine g_iconst F (v := (nI 1)) dX0_bestOf_32 (by decide) (np := 33) rfl ?_
    refine g_isubN F (by omega) dX0_bestOf_33 (np := 34) rfl ?_
    refine WG.eqv (st' := [.int (nI 3), .ref (Λ.1 0 38)]) (congrArg (fun z => ([.int z, .ref (Λ.1 0 38)] : List Value)) (show (nI (4 - 1)) = (nI 3) from by rfl)) rfl ?_
    refine g_iload_n F dX0_bestOf_34 rfl rfl (np := 35) rfl ?_
    refine g_if_neN F (by decide) dX0_bestOf_35 (tp := 42) (by decide) (np := 38) rfl (fun c35 => ?_) (fun c35 => ?_)
    · refine g_iconst F (v := (nI 0)) dX0_bestOf_42 (by decide) (np := 43) rfl ?_
      refine g_runV F (C := RX0) (ci := 0) (T0 := TX0) (N := 38) (rest := []) (ct_X0_bestOf_3_0 σ (by exact hok) (by exact hm14) (by exact hbO)) (lw_V q1010 q1012 qs45 q100 q1013) hcV_X0_bestOf ⟨Nat.le_of_ble_eq_true rfl, Nat.le_of_ble_eq_true rfl⟩ rfl (fun h hs => hs.obj) rfl rfl (Nat.le_of_ble_eq_true rfl) dX0_bestOf_43 ⟨Nat.le_of_ble_eq_true rfl, Nat.le_of_ble_eq_true rfl⟩ (np := 46) rfl (k_RI ?_)
      refine g_istore_n F (lv' := [some (.ref (Λ.1 0 38)), some (.int (nI 4)), some (.int (nI 1)), some (.int (turnS L (σ.2.1 50 1) (σ.2.1 50 2) 3 1 σ)), none, none, none]) dX0_bestOf_46 rfl (by decide) rfl rfl (np := 47) rfl ?_
      refine g_aload_n F dX0_bestOf_47 rfl rfl (np := 48) rfl ?_
      refine g_iload_n F dX0_bestOf_48 rfl rfl (np := 49) rfl ?_
      refine g_if_eqN F (by decide) dX0_bestOf_49 (tp := 59) (by decide) (np := 52) rfl (fun c49 => ?_) (fun c49 => ?_)
      · exact absurd c49 (by decide)
      · refine g_aload_n F dX0_bestOf_52 rfl rfl (np := 53) rfl ?_
        refine x_get F (k := 17) (v := .int (σ.2.1 50 2)) (by decide) rfl (Or.inl q196) dX0_bestOf_53 (np := 56) rfl ?_
        refine g_goto F dX0_bestOf_56 (np := 63) (by decide) ?_
        refine g_runV F (C := RX0) (ci := 0) (T0 := TX0) (N := 38) (rest := []) (ct_X0_mayDo σ (σ.2.1 50 2) (by first | assumption | omega)) (lw_V q929 q931 qs33 q100 q932) hcV_X0_mayDo ⟨Nat.le_of_ble_eq_true rfl, Nat.le_of_ble_eq_true rfl⟩ rfl (fun h hs => hs.obj) rfl rfl (Nat.le_of_ble_eq_true rfl) dX0_bestOf_63 ⟨Nat.le_of_ble_eq_true rfl, Nat.le_of_ble_eq_true rfl⟩ (np := 66) rfl (k_RI ?_)
        refine g_istore F (lv' := [some (.ref (Λ.1 0 38)), some (.int (nI 4)), some (.int (nI 1)), some (.int (turnS L (σ.2.1 50 1) (σ.2.1 50 2) 3 1 σ)), some (.int (sMay (mP σ) (σ.1 6) (σ.2.1 50 2) (σ.1 2))), none, none]) dX0_bestOf_66 (by decide) rfl rfl (np := 68) rfl ?_
        refine g_iconst F (v := (nI 0)) dX0_bestOf_68 (by decide) (np := 69) rfl ?_
        refine g_istore F (lv' := [some (.ref (Λ.1 0 38)), some (.int (nI 4)), some (.int (nI 1)), some (.int (turnS L (σ.2.1 50 1) (σ.2.1 50 2) 3 1 σ)), some (.int (sMay (mP σ) (σ.1 6) (σ.2.1 50 2) (σ.1 2))), some (.int (nI 0)), none]) dX0_bestOf_69 (by decide) rfl rfl (np := 71) rfl ?_
        have L71 : ∀ (zn : Nat) (b : Int32) (p : Nat), (b = turnB (turnS L (σ.2.1 50 1) (σ.2.1 50 2) 3 1) jmax (σ.2.1 50 2) σ p) → (p ≤ σ.1 2) → σ.1 2 - p < zn → WG zp l ze ({ frames := 212, cells := 0, slots := 0, locals := 4892 } : Room) zs zm za zb zt zc D B 7 (MQ zb (QT D B T) za zs 0 0 (zA B)) (XH D Λ I L σ) 0 0 71 [some (.ref (Λ.1 0 38)), some (.int (nI 4)), some (.int (nI 1)), some (.int b), some (.int (sMay (mP σ) (σ.1 6) (σ.2.1 50 2) (σ.1 2))), some (.int (nI p)), none] [] := by
          intro zn
          induction zn with
          | zero => intro b p h1 h2 hm; exact absurd hm (Nat.not_lt_zero _)
          | succ zn ih71 =>
            intro b p h1 h2 hm
            refine g_iload F dX0_bestOf_71 rfl (np := 73) rfl ?_
            refine g_aload_n F dX0_bestOf_73 rfl rfl (np := 74) rfl ?_
            refine x_get F (k := 3) (v := .int (nI (σ.1 2))) (by decide) rfl (Or.inl q180) dX0_bestOf_74 (np := 77) rfl ?_
            refine g_icmp_geN F (by omega) (by omega) dX0_bestOf_77 (tp := 131) (by decide) (np := 80) rfl (fun c77 => ?_) (fun c77 => ?_)
            · refine g_iload_n F dX0_bestOf_131 rfl rfl (np := 132) rfl ?_
              have hv : b = turnS L (σ.2.1 50 1) (σ.2.1 50 2) 4 0 σ := by rw [h1, show p = σ.1 2 by omega]; rfl
              exact g_iret F hr rfl (Nat.le_of_ble_eq_true rfl) (Nat.le_of_ble_eq_true rfl) dX0_bestOf_132 (fun h hs => by rw [← hT]; exact ⟨congrArg (fun z => some (Value.int z)) hv, hs⟩)
            · refine g_iload F dX0_bestOf_80 rfl (np := 82) rfl ?_
              refine g_iload F dX0_bestOf_82 rfl (np := 84) rfl ?_
              refine g_runS F (rest := []) (ct_X0_has (sMay (mP σ) (σ.1 6) (σ.2.1 50 2) (σ.1 2)) p ) (lw_S q937 q938 q100 q939) hcS_X0_has ⟨Nat.le_of_ble_eq_true rfl, Nat.le_of_ble_eq_true rfl⟩ rfl rfl (Nat.le_of_ble_eq_true rfl) dX0_bestOf_84 ⟨Nat.le_of_ble_eq_true rfl, Nat.le_of_ble_eq_true rfl⟩ (np := 87) rfl (k_RI ?_)
              refine g_if_neB F dX0_bestOf_87 (tp := 93) (by decide) (np := 90) rfl (fun c87 => ?_) (fun c87 => ?_)
              · have hmy : mayP σ (σ.2.1 50 2) p := (bit_may (by omega) (by omega)).mp c87
                refine g_aload_n F dX0_bestOf_93 rfl rfl (np := 94) rfl ?_
                refine g_iload F dX0_bestOf_94 rfl (np := 96) rfl ?_
                refine g_iload_n F dX0_bestOf_96 rfl rfl (np := 97) rfl ?_
                refine g_iload_n F dX0_bestOf_97 rfl rfl (np := 98) rfl ?_
                refine g_runV F (C := RX0) (ci := 0) (T0 := TX0) (N := 38) (rest := []) (ct_X0_byDeed_4_1 σ p (by exact hok) (by exact hm14) (by exact hbO) (by omega) (by exact hmy.2.1)) (lw_V q1014 q1016 qs46 q100 q1017) hcV_X0_byDeed ⟨Nat.le_of_ble_eq_true rfl, Nat.le_of_ble_eq_true rfl⟩ rfl (fun h hs => hs.obj) rfl rfl (Nat.le_of_ble_eq_true rfl) dX0_bestOf_98 ⟨Nat.le_of_ble_eq_true rfl, Nat.le_of_ble_eq_true rfl⟩ (np := 101) rfl (k_RI ?_)
                refine g_istore F (lv' := [some (.ref (Λ.1 0 38)), some (.int (nI 4)), some (.int (nI 1)), some (.int b), some (.int (sMay (mP σ) (σ.1 6) (σ.2.1 50 2) (σ.1 2))), some (.int (nI p)), some (.int (turnS L (σ.2.1 50 1) (σ.2.1 50 2) 3 1 (dnP σ p)))]) dX0_bestOf_101 (by decide) rfl rfl (np := 103) rfl ?_
                refine g_iload_n F dX0_bestOf_103 rfl rfl (np := 104) rfl ?_
                refine g_if_eqN F (by decide) dX0_bestOf_104 (tp := 116) (by decide) (np := 107) rfl (fun c104 => ?_) (fun c104 => ?_)
                · exact absurd c104 (by decide)
                · refine g_iload F dX0_bestOf_107 rfl (np := 109) rfl ?_
                  refine g_iload_n F dX0_bestOf_109 rfl rfl (np := 110) rfl ?_
                  refine g_icmp_le F dX0_bestOf_110 (tp := 125) (by decide) (np := 113) rfl (fun c110 => ?_) (fun c110 => ?_)
                  · refine g_iinc F (v := (nI (p + 1))) (lv' := [some (.ref (Λ.1 0 38)), some (.int (nI 4)), some (.int (nI 1)), some (.int b), some (.int (sMay (mP σ) (σ.1 6) (σ.2.1 50 2) (σ.1 2))), some (.int (nI (p + 1))), some (.int (turnS L (σ.2.1 50 1) (σ.2.1 50 2) 3 1 (dnP σ p)))]) dX0_bestOf_125 rfl (nI_add _ _) (by decide) rfl rfl (np := 128) rfl ?_
                    refine g_goto F dX0_bestOf_128 (np := 71) (by decide) ?_
                    refine WG.dropL (i := 6) (lv' := [some (.ref (Λ.1 0 38)), some (.int (nI 4)), some (.int (nI 1)), some (.int b), some (.int (sMay (mP σ) (σ.1 6) (σ.2.1 50 2) (σ.1 2))), some (.int (nI (p + 1))), none]) rfl ?_
                    exact ih71 b (p + 1) (by unfold turnB; first | (rw [pif_f (fun z => c87 ((bit_may (by omega) (by omega)).mpr z))]; exact h1) | (rw [pif_t hmy, ← h1]; unfold jmax; first | (rw [if_neg (Int32.not_lt.mpr c110)]; done) | (rw [if_pos (Int32.not_le.mp c110)]; done))) (by first | assumption | omega) (by omega)
                  · refine g_goto F dX0_bestOf_113 (np := 122) (by decide) ?_
                    refine g_iload F dX0_bestOf_122 rfl (np := 124) rfl ?_
                    refine g_istore_n F (lv' := [some (.ref (Λ.1 0 38)), some (.int (nI 4)), some (.int (nI 1)), some (.int (turnS L (σ.2.1 50 1) (σ.2.1 50 2) 3 1 (dnP σ p))), some (.int (sMay (mP σ) (σ.1 6) (σ.2.1 50 2) (σ.1 2))), some (.int (nI p)), some (.int (turnS L (σ.2.1 50 1) (σ.2.1 50 2) 3 1 (dnP σ p)))]) dX0_bestOf_124 rfl (by decide) rfl rfl (np := 125) rfl ?_
                    refine g_iinc F (v := (nI (p + 1))) (lv' := [some (.ref (Λ.1 0 38)), some (.int (nI 4)), some (.int (nI 1)), some (.int (turnS L (σ.2.1 50 1) (σ.2.1 50 2) 3 1 (dnP σ p))), some (.int (sMay (mP σ) (σ.1 6) (σ.2.1 50 2) (σ.1 2))), some (.int (nI (p + 1))), some (.int (turnS L (σ.2.1 50 1) (σ.2.1 50 2) 3 1 (dnP σ p)))]) dX0_bestOf_125 rfl (nI_add _ _) (by decide) rfl rfl (np := 128) rfl ?_
                    refine g_goto F dX0_bestOf_128 (np := 71) (by decide) ?_
                    refine WG.dropL (i := 6) (lv' := [some (.ref (Λ.1 0 38)), some (.int (nI 4)), some (.int (nI 1)), some (.int (turnS L (σ.2.1 50 1) (σ.2.1 50 2) 3 1 (dnP σ p))), some (.int (sMay (mP σ) (σ.1 6) (σ.2.1 50 2) (σ.1 2))), some (.int (nI (p + 1))), none]) rfl ?_
                    exact ih71 (turnS L (σ.2.1 50 1) (σ.2.1 50 2) 3 1 (dnP σ p)) (p + 1) (by unfold turnB; first | (rw [pif_f (fun z => c87 ((bit_may (by omega) (by omega)).mpr z))]; exact h1) | (rw [pif_t hmy, ← h1]; unfold jmax; first | (rw [if_neg (Int32.not_lt.mpr c110)]; done) | (rw [if_pos (Int32.not_le.mp c110)]; done))) (by first | assumption | omega) (by omega)
              · refine g_goto F dX0_bestOf_90 (np := 125) (by decide) ?_
                refine g_iinc F (v := (nI (p + 1))) (lv' := [some (.ref (Λ.1 0 38)), some (.int (nI 4)), some (.int (nI 1)), some (.int b), some (.int (sMay (mP σ) (σ.1 6) (σ.2.1 50 2) (σ.1 2))), some (.int (nI (p + 1))), none]) dX0_bestOf_125 rfl (nI_add _ _) (by decide) rfl rfl (np := 128) rfl ?_
                refine g_goto F dX0_bestOf_128 (np := 71) (by decide) ?_
                exact ih71 b (p + 1) (by unfold turnB; first | (rw [pif_f (fun z => c87 ((bit_may (by omega) (by omega)).mpr z))]; exact h1) | (rw [pif_t hmy, ← h1]; unfold jmax; first | (rw [if_neg (Int32.not_lt.mpr c110)]; done) | (rw [if_pos (Int32.not_le.mp c110)]; done))) (by first | assumption | omega) (by omega)
        exact L71 _ (turnS L (σ.2.1 50 1) (σ.2.1 50 2) 3 1 σ) 0 (by rfl) (by omega) (Nat.lt_succ_self _)
    · exact absurd c35 (by decide)
  · exact absurd c1 (by decide)

theorem ct_X0_bestOf_n1 {l : Launch} {D : va_G} {B : Nat} {Λ : LT} {I : AH} {L : LawT} (σ : MSt) (n : Nat) (hok : mOK σ L) (hm14 : σ.1 2 ≤ 14) (hbO : byOK σ) (hn : 1 ≤ n ∧ n ≤ 4) : Ct l D ZE B yX0_bestOf cX0_bestOf 7 (some .int) 212 4892 0 0 [.ref (Λ.1 0 38), .int (nI n), .int (nI 1)] (XH D Λ I L σ) (RI (turnS L (σ.2.1 50 1) (σ.2.1 50 2) n 0 σ) (XH D Λ I L σ)) := by
  rcases (show n = 1 ∨ n = 2 ∨ n = 3 ∨ n = 4 by omega) with rfl | rfl | rfl | rfl
  · exact (ct_X0_bestOf_1_1 σ  hok hm14 hbO).up (Nat.le_of_ble_eq_true rfl) (Nat.le_of_ble_eq_true rfl)
  · exact (ct_X0_bestOf_2_1 σ  hok hm14 hbO).up (Nat.le_of_ble_eq_true rfl) (Nat.le_of_ble_eq_true rfl)
  · exact (ct_X0_bestOf_3_1 σ  hok hm14 hbO).up (Nat.le_of_ble_eq_true rfl) (Nat.le_of_ble_eq_true rfl)
  · exact (ct_X0_bestOf_4_1 σ  hok hm14 hbO).up (Nat.le_of_ble_eq_true rfl) (Nat.le_of_ble_eq_true rfl)

theorem ct_X0_bestOf_n0 {l : Launch} {D : va_G} {B : Nat} {Λ : LT} {I : AH} {L : LawT} (σ : MSt) (n : Nat) (hok : mOK σ L) (hm14 : σ.1 2 ≤ 14) (hbO : byOK σ) (hn : 0 ≤ n ∧ n ≤ 3) : Ct l D ZE B yX0_bestOf cX0_bestOf 7 (some .int) 210 4842 0 0 [.ref (Λ.1 0 38), .int (nI n), .int (nI 0)] (XH D Λ I L σ) (RI (turnS L (σ.2.1 50 1) (σ.2.1 50 2) n 1 σ) (XH D Λ I L σ)) := by
  rcases (show n = 0 ∨ n = 1 ∨ n = 2 ∨ n = 3 by omega) with rfl | rfl | rfl | rfl
  · exact (ct_X0_bestOf_0_0 σ  hok hm14 hbO).up (Nat.le_of_ble_eq_true rfl) (Nat.le_of_ble_eq_true rfl)
  · exact (ct_X0_bestOf_1_0 σ  hok hm14 hbO).up (Nat.le_of_ble_eq_true rfl) (Nat.le_of_ble_eq_true rfl)
  · exact (ct_X0_bestOf_2_0 σ  hok hm14 hbO).up (Nat.le_of_ble_eq_true rfl) (Nat.le_of_ble_eq_true rfl)
  · exact (ct_X0_bestOf_3_0 σ  hok hm14 hbO).up (Nat.le_of_ble_eq_true rfl) (Nat.le_of_ble_eq_true rfl)

theorem ct_X0_byDeed_n1 {l : Launch} {D : va_G} {B : Nat} {Λ : LT} {I : AH} {L : LawT} (σ : MSt) (p n : Nat) (hok : mOK σ L) (hm14 : σ.1 2 ≤ 14) (hbO : byOK σ) (hp : p < σ.1 2) (ho : sOpen (mP σ) (σ.1 6) p) (hn : 1 ≤ n ∧ n ≤ 4) : Ct l D ZE B yX0_byDeed cX0_byDeed 5 (some .int) 211 4868 0 0 [.ref (Λ.1 0 38), .int (nI p), .int (nI n), .int (nI 1)] (XH D Λ I L σ) (RI (turnS L (σ.2.1 50 1) (σ.2.1 50 2) (n - 1) 1 (dnP σ p)) (XH D Λ I L σ)) := by
  rcases (show n = 1 ∨ n = 2 ∨ n = 3 ∨ n = 4 by omega) with rfl | rfl | rfl | rfl
  · exact (ct_X0_byDeed_1_1 σ p hok hm14 hbO hp ho).up (Nat.le_of_ble_eq_true rfl) (Nat.le_of_ble_eq_true rfl)
  · exact (ct_X0_byDeed_2_1 σ p hok hm14 hbO hp ho).up (Nat.le_of_ble_eq_true rfl) (Nat.le_of_ble_eq_true rfl)
  · exact (ct_X0_byDeed_3_1 σ p hok hm14 hbO hp ho).up (Nat.le_of_ble_eq_true rfl) (Nat.le_of_ble_eq_true rfl)
  · exact (ct_X0_byDeed_4_1 σ p hok hm14 hbO hp ho).up (Nat.le_of_ble_eq_true rfl) (Nat.le_of_ble_eq_true rfl)

set_option maxRecDepth 100000 in
theorem ct_X0_byTurns {l : Launch} {D : va_G} {B : Nat} {Λ : LT} {I : AH} {L : LawT} (σ : MSt)  (ab : Int32) (n : Int32) (w : Int32) (hok : mOK σ L) (hm14 : σ.1 2 ≤ 14) (hbO : byOK σ) : Ct l D ZE B yX0_byTurns cX0_byTurns 7 (some .int) 213 4918 0 0 [.ref (Λ.1 0 38), .int ab, .int n, .int w] (XH D Λ I L σ) (RI (rTurns L σ ab n w) (XH D Λ I L (gTurnX σ ab n w))) := by
  refine Ct.of (nL := 7) (lv := [some (.ref (Λ.1 0 38)), some (.int ab), some (.int n), some (.int w), none, none, none]) (by decide) (Nat.le_of_ble_eq_true rfl) stZE 3 rfl ?_
  generalize hT : RI (rTurns L σ ab n w) (XH D Λ I L (gTurnX σ ab n w)) = T
  intro zp ze zs zm zb zt zc F hr hnm
  generalize ([.ref (Λ.1 0 38), .int ab, .int n, .int w] : List Value).toArray = za at F ⊢
  have hok2 := hok
  obtain ⟨ho8, hm15, ht99, hby, hlaw⟩ := hok2
  refine g_iload_n F dX0_byTurns_0 rfl rfl (np := 1) rfl ?_
  refine g_if_lt F dX0_byTurns_1 (tp := 55) (by decide) (np := 4) rfl (fun c1 => ?_) (fun c1 => ?_)
  · refine g_ldc F q558 dX0_byTurns_55 (np := 57) rfl ?_
    have hσ : σ = (gTurnX σ ab n w) := by unfold gTurnX; rw [pif_f (fun z => by obtain ⟨z1, z2, z3, z4, z5, z6⟩ := z; first | exact z1 c1 | exact c12 z2 | exact c23 z3 | exact z4 c34 | exact c43 z5 | exact c52 (bt1.mpr z6))]
    have hv : -2000000000 = rTurns L σ ab n w := by unfold rTurns; rw [pif_f (fun z => by obtain ⟨z1, z2, z3, z4, z5, z6⟩ := z; first | exact z1 c1 | exact c12 z2 | exact c23 z3 | exact z4 c34 | exact c43 z5 | exact c52 (bt1.mpr z6))]
    exact g_iret F hr rfl (Nat.le_of_ble_eq_true rfl) (Nat.le_of_ble_eq_true rfl) dX0_byTurns_57 (fun h hs => by rw [← hT]; exact ⟨congrArg (fun z => some (Value.int z)) hv, (hσ ▸ hs)⟩)
  · obtain ⟨hke, hkl⟩ := nI_cl (Int32.not_lt.mpr (Int32.not_lt.mp c1))
    refine WG.eqv (lv' := [some (.ref (Λ.1 0 38)), some (.int (nI (ab.toNatClampNeg))), some (.int n), some (.int w), none, none, none]) rfl (congrArg (fun z => ([some (.ref (Λ.1 0 38)), some (.int z), some (.int n), some (.int w), none, none, none] : List (Option Value))) (show ab = (nI (ab.toNatClampNeg)) from by exact hke)) ?_
    refine g_aload_n F dX0_byTurns_4 rfl rfl (np := 5) rfl ?_
    refine g_iload_n F dX0_byTurns_5 rfl rfl (np := 6) rfl ?_
    refine g_bipush F (v := (nI 10)) dX0_byTurns_6 (by decide) (np := 8) rfl ?_
    refine g_idivN F (by omega) (by decide) (by decide) dX0_byTurns_8 (np := 9) rfl ?_
    refine g_runV F (C := RX0) (ci := 0) (T0 := TX0) (N := 38) (rest := []) (ct_X0_isOwner σ (nI (ab.toNatClampNeg / 10)) (by first | assumption | omega)) (lw_V q319 q321 qs1 q100 q322) hcV_X0_isOwner ⟨Nat.le_of_ble_eq_true rfl, Nat.le_of_ble_eq_true rfl⟩ rfl (fun h hs => hs.obj) rfl rfl (Nat.le_of_ble_eq_true rfl) dX0_byTurns_9 ⟨Nat.le_of_ble_eq_true rfl, Nat.le_of_ble_eq_true rfl⟩ (np := 12) rfl (k_RI ?_)
    refine g_if_eqB F dX0_byTurns_12 (tp := 55) (by decide) (np := 15) rfl (fun c12 => ?_) (fun c12 => ?_)
    · refine g_ldc F q558 dX0_byTurns_55 (np := 57) rfl ?_
      have hσ : σ = (gTurnX σ ab n w) := by unfold gTurnX; rw [pif_f (fun z => by obtain ⟨z1, z2, z3, z4, z5, z6⟩ := z; first | exact z1 c1 | exact c12 z2 | exact c23 z3 | exact z4 c34 | exact c43 z5 | exact c52 (bt1.mpr z6))]
      have hv : -2000000000 = rTurns L σ ab n w := by unfold rTurns; rw [pif_f (fun z => by obtain ⟨z1, z2, z3, z4, z5, z6⟩ := z; first | exact z1 c1 | exact c12 z2 | exact c23 z3 | exact z4 c34 | exact c43 z5 | exact c52 (bt1.mpr z6))]
      exact g_iret F hr rfl (Nat.le_of_ble_eq_true rfl) (Nat.le_of_ble_eq_true rfl) dX0_byTurns_57 (fun h hs => by rw [← hT]; exact ⟨congrArg (fun z => some (Value.int z)) hv, (hσ ▸ hs)⟩)
    · refine g_aload_n F dX0_byTurns_15 rfl rfl (np := 16) rfl ?_
      refine g_iload_n F dX0_byTurns_16 rfl rfl (np := 17) rfl ?_
      refine g_bipush F (v := (nI 10)) dX0_byTurns_17 (by decide) (np := 19) rfl ?_
      refine g_iremN F (by omega) (by decide) (by decide) dX0_byTurns_19 (np := 20) rfl ?_
      refine g_runV F (C := RX0) (ci := 0) (T0 := TX0) (N := 38) (rest := []) (ct_X0_isOwner σ (nI (ab.toNatClampNeg % 10)) (by first | assumption | omega)) (lw_V q319 q321 qs1 q100 q322) hcV_X0_isOwner ⟨Nat.le_of_ble_eq_true rfl, Nat.le_of_ble_eq_true rfl⟩ rfl (fun h hs => hs.obj) rfl rfl (Nat.le_of_ble_eq_true rfl) dX0_byTurns_20 ⟨Nat.le_of_ble_eq_true rfl, Nat.le_of_ble_eq_true rfl⟩ (np := 23) rfl (k_RI ?_)
      refine g_if_eqB F dX0_byTurns_23 (tp := 55) (by decide) (np := 26) rfl (fun c23 => ?_) (fun c23 => ?_)
      · refine g_ldc F q558 dX0_byTurns_55 (np := 57) rfl ?_
        have hσ : σ = (gTurnX σ ab n w) := by unfold gTurnX; rw [pif_f (fun z => by obtain ⟨z1, z2, z3, z4, z5, z6⟩ := z; first | exact z1 c1 | exact c12 z2 | exact c23 z3 | exact z4 c34 | exact c43 z5 | exact c52 (bt1.mpr z6))]
        have hv : -2000000000 = rTurns L σ ab n w := by unfold rTurns; rw [pif_f (fun z => by obtain ⟨z1, z2, z3, z4, z5, z6⟩ := z; first | exact z1 c1 | exact c12 z2 | exact c23 z3 | exact z4 c34 | exact c43 z5 | exact c52 (bt1.mpr z6))]
        exact g_iret F hr rfl (Nat.le_of_ble_eq_true rfl) (Nat.le_of_ble_eq_true rfl) dX0_byTurns_57 (fun h hs => by rw [← hT]; exact ⟨congrArg (fun z => some (Value.int z)) hv, (hσ ▸ hs)⟩)
      · refine g_iload_n F dX0_byTurns_26 rfl rfl (np := 27) rfl ?_
        refine g_bipush F (v := (nI 10)) dX0_byTurns_27 (by decide) (np := 29) rfl ?_
        refine g_idivN F (by omega) (by decide) (by decide) dX0_byTurns_29 (np := 30) rfl ?_
        refine g_iload_n F dX0_byTurns_30 rfl rfl (np := 31) rfl ?_
        refine g_bipush F (v := (nI 10)) dX0_byTurns_31 (by decide) (np := 33) rfl ?_
        refine g_iremN F (by omega) (by decide) (by decide) dX0_byTurns_33 (np := 34) rfl ?_
        refine g_icmp_eqN F (by omega) (by omega) dX0_byTurns_34 (tp := 55) (by decide) (np := 37) rfl (fun c34 => ?_) (fun c34 => ?_)
        · refine g_ldc F q558 dX0_byTurns_55 (np := 57) rfl ?_
          have hσ : σ = (gTurnX σ ab n w) := by unfold gTurnX; rw [pif_f (fun z => by obtain ⟨z1, z2, z3, z4, z5, z6⟩ := z; first | exact z1 c1 | exact c12 z2 | exact c23 z3 | exact z4 c34 | exact c43 z5 | exact c52 (bt1.mpr z6))]
          have hv : -2000000000 = rTurns L σ ab n w := by unfold rTurns; rw [pif_f (fun z => by obtain ⟨z1, z2, z3, z4, z5, z6⟩ := z; first | exact z1 c1 | exact c12 z2 | exact c23 z3 | exact z4 c34 | exact c43 z5 | exact c52 (bt1.mpr z6))]
          exact g_iret F hr rfl (Nat.le_of_ble_eq_true rfl) (Nat.le_of_ble_eq_true rfl) dX0_byTurns_57 (fun h hs => by rw [← hT]; exact ⟨congrArg (fun z => some (Value.int z)) hv, (hσ ▸ hs)⟩)
        · refine g_iload_n F dX0_byTurns_37 rfl rfl (np := 38) rfl ?_
          refine g_iconst F (v := (nI 1)) dX0_byTurns_38 (by decide) (np := 39) rfl ?_
          refine g_iconst F (v := (nI 4)) dX0_byTurns_39 (by decide) (np := 40) rfl ?_
          refine g_runS F (rest := []) (ct_X0_in n (nI (1)) (nI (4)) ) (lw_S q298 q299 q100 q300) hcS_X0_in ⟨Nat.le_of_ble_eq_true rfl, Nat.le_of_ble_eq_true rfl⟩ rfl rfl (Nat.le_of_ble_eq_true rfl) dX0_byTurns_40 ⟨Nat.le_of_ble_eq_true rfl, Nat.le_of_ble_eq_true rfl⟩ (np := 43) rfl (k_RI ?_)
          refine g_if_eqB F dX0_byTurns_43 (tp := 55) (by decide) (np := 46) rfl (fun c43 => ?_) (fun c43 => ?_)
          · refine g_ldc F q558 dX0_byTurns_55 (np := 57) rfl ?_
            have hσ : σ = (gTurnX σ ab n w) := by unfold gTurnX; rw [pif_f (fun z => by obtain ⟨z1, z2, z3, z4, z5, z6⟩ := z; first | exact z1 c1 | exact c12 z2 | exact c23 z3 | exact z4 c34 | exact c43 z5 | exact c52 (bt1.mpr z6))]
            have hv : -2000000000 = rTurns L σ ab n w := by unfold rTurns; rw [pif_f (fun z => by obtain ⟨z1, z2, z3, z4, z5, z6⟩ := z; first | exact z1 c1 | exact c12 z2 | exact c23 z3 | exact z4 c34 | exact c43 z5 | exact c52 (bt1.mpr z6))]
            exact g_iret F hr rfl (Nat.le_of_ble_eq_true rfl) (Nat.le_of_ble_eq_true rfl) dX0_byTurns_57 (fun h hs => by rw [← hT]; exact ⟨congrArg (fun z => some (Value.int z)) hv, (hσ ▸ hs)⟩)
          · refine g_iload_n F dX0_byTurns_46 rfl rfl (np := 47) rfl ?_
            refine g_iconst F (v := (nI 0)) dX0_byTurns_47 (by decide) (np := 48) rfl ?_
            refine g_iconst F (v := (nI 1)) dX0_byTurns_48 (by decide) (np := 49) rfl ?_
            refine g_runS F (rest := []) (ct_X0_in w (nI (0)) (nI (1)) ) (lw_S q298 q299 q100 q300) hcS_X0_in ⟨Nat.le_of_ble_eq_true rfl, Nat.le_of_ble_eq_true rfl⟩ rfl rfl (Nat.le_of_ble_eq_true rfl) dX0_byTurns_49 ⟨Nat.le_of_ble_eq_true rfl, Nat.le_of_ble_eq_true rfl⟩ (np := 52) rfl (k_RI ?_)
            refine g_if_neB F dX0_byTurns_52 (tp := 58) (by decide) (np := 55) rfl (fun c52 => ?_) (fun c52 => ?_)
            · obtain ⟨nn, hn1, hn2, hnn⟩ := (btw_iff (by decide) (by decide)).mp c43
              have hn9 : n.toNatClampNeg = nn := by rw [hnn]; exact nI_clamp (by omega)
              refine WG.eqv (lv' := [some (.ref (Λ.1 0 38)), some (.int (nI (ab.toNatClampNeg))), some (.int (nI (n.toNatClampNeg))), some (.int w), none, none, none]) rfl (congrArg (fun z => ([some (.ref (Λ.1 0 38)), some (.int (nI (ab.toNatClampNeg))), some (.int z), some (.int w), none, none, none] : List (Option Value))) (show n = (nI (n.toNatClampNeg)) from by rw [hnn, nI_clamp (by omega)])) ?_
              have hP : turnP (σ.1 0) ab n w := ⟨c1, c12, c23, c34, c43, bt1.mp c52⟩
              have eR := turnA_2 (turnS L (nI (ab.toNatClampNeg / 10)) (nI (ab.toNatClampNeg % 10)) (n.toNatClampNeg - 1) 1) (nI (ab.toNatClampNeg % 10)) σ (σ.1 2)
              have eR1 : (turnA (turnS L (nI (ab.toNatClampNeg / 10)) (nI (ab.toNatClampNeg % 10)) (n.toNatClampNeg - 1) 1) (nI (ab.toNatClampNeg % 10)) σ (σ.1 2)).1 = turnS L (nI (ab.toNatClampNeg / 10)) (nI (ab.toNatClampNeg % 10)) n.toNatClampNeg 0 σ := turnR_1 L σ ab.toNatClampNeg (by omega)
              rw [eR1] at eR
              refine g_aload_n F dX0_byTurns_58 rfl rfl (np := 59) rfl ?_
              refine g_iload_n F dX0_byTurns_59 rfl rfl (np := 60) rfl ?_
              refine g_bipush F (v := (nI 10)) dX0_byTurns_60 (by decide) (np := 62) rfl ?_
              refine g_idivN F (by omega) (by decide) (by decide) dX0_byTurns_62 (np := 63) rfl ?_
              refine x_put F (k := 16) (ty := .int) (by decide) (PutXH.ofA (n := 50) (i := 1) (x := nI (ab.toNatClampNeg / 10)) (fun _ _ _ => rfl) rfl) rfl rfl rfl rfl (Or.inl q195) dX0_byTurns_63 (np := 66) rfl ?_
              refine g_aload_n F dX0_byTurns_66 rfl rfl (np := 67) rfl ?_
              refine g_iload_n F dX0_byTurns_67 rfl rfl (np := 68) rfl ?_
              refine g_bipush F (v := (nI 10)) dX0_byTurns_68 (by decide) (np := 70) rfl ?_
              refine g_iremN F (by omega) (by decide) (by decide) dX0_byTurns_70 (np := 71) rfl ?_
              refine x_put F (k := 17) (ty := .int) (by decide) (PutXH.ofA (n := 50) (i := 2) (x := nI (ab.toNatClampNeg % 10)) (fun _ _ _ => rfl) rfl) rfl rfl rfl rfl (Or.inl q196) dX0_byTurns_71 (np := 74) rfl ?_
              refine g_aload_n F dX0_byTurns_74 rfl rfl (np := 75) rfl ?_
              refine g_iload_n F dX0_byTurns_75 rfl rfl (np := 76) rfl ?_
              refine g_iconst F (v := (nI 1)) dX0_byTurns_76 (by decide) (np := 77) rfl ?_
              refine g_runV F (C := RX0) (ci := 0) (T0 := TX0) (N := 38) (rest := []) (ct_X0_bestOf_n1 (sA (sA σ 50 1 (nI (ab.toNatClampNeg / 10))) 50 2 (nI (ab.toNatClampNeg % 10))) n.toNatClampNeg (by exact (hok.sA50 _ _).sA50 _ _) (by exact hm14) (by exact hbO) (by omega)) (lw_V q1010 q1012 qs45 q100 q1013) hcV_X0_bestOf ⟨Nat.le_of_ble_eq_true rfl, Nat.le_of_ble_eq_true rfl⟩ rfl (fun h hs => hs.obj) rfl rfl (Nat.le_of_ble_eq_true rfl) dX0_byTurns_77 ⟨Nat.le_of_ble_eq_true rfl, Nat.le_of_ble_eq_true rfl⟩ (np := 80) rfl (k_RI ?_)
              refine WG.eqv (st' := [.int (turnS L (nI (ab.toNatClampNeg / 10)) (nI (ab.toNatClampNeg % 10)) n.toNatClampNeg 0 σ)]) (congrArg (fun z => ([.int z] : List Value)) (show (turnS L ((sA (sA σ 50 1 (nI (ab.toNatClampNeg / 10))) 50 2 (nI (ab.toNatClampNeg % 10))).2.1 50 1) ((sA (sA σ 50 1 (nI (ab.toNatClampNeg / 10))) 50 2 (nI (ab.toNatClampNeg % 10))).2.1 50 2) n.toNatClampNeg 0 (sA (sA σ 50 1 (nI (ab.toNatClampNeg / 10))) 50 2 (nI (ab.toNatClampNeg % 10)))) = (turnS L (nI (ab.toNatClampNeg / 10)) (nI (ab.toNatClampNeg % 10)) n.toNatClampNeg 0 σ) from by show turnS L _ _ _ _ (sA (sA σ 50 1 _) 50 2 _) = _; rw [turnS_50, turnS_50]; rfl)) rfl ?_
              obtain ⟨tn, htn⟩ : ∃ z, z = turnS L (nI (ab.toNatClampNeg / 10)) (nI (ab.toNatClampNeg % 10)) n.toNatClampNeg 0 σ := ⟨_, rfl⟩
              refine WG.eqv (st' := [.int tn]) (congrArg (fun z => ([.int z] : List Value)) (show (turnS L (nI (ab.toNatClampNeg / 10)) (nI (ab.toNatClampNeg % 10)) n.toNatClampNeg 0 σ) = tn from by exact htn.symm)) rfl ?_
              rw [← htn] at eR
              refine g_istore F (lv' := [some (.ref (Λ.1 0 38)), some (.int (nI (ab.toNatClampNeg))), some (.int (nI (n.toNatClampNeg))), some (.int w), some (.int tn), none, none]) dX0_byTurns_80 (by decide) rfl rfl (np := 82) rfl ?_
              refine g_iload_n F dX0_byTurns_82 rfl rfl (np := 83) rfl ?_
              refine g_if_ne F dX0_byTurns_83 (tp := 89) (by decide) (np := 86) rfl (fun c83 => ?_) (fun c83 => ?_)
              · refine g_aload_n F dX0_byTurns_89 rfl rfl (np := 90) rfl ?_
                refine g_iload_n F dX0_byTurns_90 rfl rfl (np := 91) rfl ?_
                refine g_iconst F (v := (nI 1)) dX0_byTurns_91 (by decide) (np := 92) rfl ?_
                refine g_isubN F (by omega) dX0_byTurns_92 (np := 93) rfl ?_
                refine g_iconst F (v := (nI 0)) dX0_byTurns_93 (by decide) (np := 94) rfl ?_
                refine g_runV F (C := RX0) (ci := 0) (T0 := TX0) (N := 38) (rest := []) (ct_X0_bestOf_n0 ((sA (sA σ 50 1 (nI (ab.toNatClampNeg / 10))) 50 2 (nI (ab.toNatClampNeg % 10)))) (n.toNatClampNeg - 1) (by exact (hok.sA50 _ _).sA50 _ _) (by exact hm14) (by exact hbO) (by omega)) (lw_V q1010 q1012 qs45 q100 q1013) hcV_X0_bestOf ⟨Nat.le_of_ble_eq_true rfl, Nat.le_of_ble_eq_true rfl⟩ rfl (fun h hs => hs.obj) rfl rfl (Nat.le_of_ble_eq_true rfl) dX0_byTurns_94 ⟨Nat.le_of_ble_eq_true rfl, Nat.le_of_ble_eq_true rfl⟩ (np := 97) rfl (k_RI ?_)
                refine WG.eqv (st' := [.int (turnS L (nI (ab.toNatClampNeg / 10)) (nI (ab.toNatClampNeg % 10)) (n.toNatClampNeg - 1) 1 σ)]) (congrArg (fun z => ([.int z] : List Value)) (show (turnS L (((sA (sA σ 50 1 (nI (ab.toNatClampNeg / 10))) 50 2 (nI (ab.toNatClampNeg % 10)))).2.1 50 1) (((sA (sA σ 50 1 (nI (ab.toNatClampNeg / 10))) 50 2 (nI (ab.toNatClampNeg % 10)))).2.1 50 2) (n.toNatClampNeg - 1) 1 ((sA (sA σ 50 1 (nI (ab.toNatClampNeg / 10))) 50 2 (nI (ab.toNatClampNeg % 10))))) = (turnS L (nI (ab.toNatClampNeg / 10)) (nI (ab.toNatClampNeg % 10)) (n.toNatClampNeg - 1) 1 σ) from by show turnS L _ _ _ _ (sA (sA σ 50 1 _) 50 2 _) = _; rw [turnS_50, turnS_50]; rfl)) rfl ?_
                refine g_iload F dX0_byTurns_97 rfl (np := 99) rfl ?_
                refine g_icmp_ne F dX0_byTurns_99 (tp := 105) (by decide) (np := 102) rfl (fun c99 => ?_) (fun c99 => ?_)
                · refine g_aload_n F dX0_byTurns_105 rfl rfl (np := 106) rfl ?_
                  refine g_aload_n F dX0_byTurns_106 rfl rfl (np := 107) rfl ?_
                  refine x_get F (k := 17) (v := .int (nI (ab.toNatClampNeg % 10))) (by decide) rfl (Or.inl q196) dX0_byTurns_107 (np := 110) rfl ?_
                  refine g_runV F (C := RX0) (ci := 0) (T0 := TX0) (N := 38) (rest := []) (ct_X0_mayDo (((sA (sA σ 50 1 (nI (ab.toNatClampNeg / 10))) 50 2 (nI (ab.toNatClampNeg % 10))))) (nI (ab.toNatClampNeg % 10)) (by exact hm14)) (lw_V q929 q931 qs33 q100 q932) hcV_X0_mayDo ⟨Nat.le_of_ble_eq_true rfl, Nat.le_of_ble_eq_true rfl⟩ rfl (fun h hs => hs.obj) rfl rfl (Nat.le_of_ble_eq_true rfl) dX0_byTurns_110 ⟨Nat.le_of_ble_eq_true rfl, Nat.le_of_ble_eq_true rfl⟩ (np := 113) rfl (k_RI ?_)
                  refine g_istore F (lv' := [some (.ref (Λ.1 0 38)), some (.int (nI (ab.toNatClampNeg))), some (.int (nI (n.toNatClampNeg))), some (.int w), some (.int tn), some (.int (sMay (mP (((sA (sA σ 50 1 (nI (ab.toNatClampNeg / 10))) 50 2 (nI (ab.toNatClampNeg % 10)))))) ((((sA (sA σ 50 1 (nI (ab.toNatClampNeg / 10))) 50 2 (nI (ab.toNatClampNeg % 10))))).1 6) (nI (ab.toNatClampNeg % 10)) ((((sA (sA σ 50 1 (nI (ab.toNatClampNeg / 10))) 50 2 (nI (ab.toNatClampNeg % 10))))).1 2))), none]) dX0_byTurns_113 (by decide) rfl rfl (np := 115) rfl ?_
                  refine g_iconst F (v := (nI 0)) dX0_byTurns_115 (by decide) (np := 116) rfl ?_
                  refine g_istore F (lv' := [some (.ref (Λ.1 0 38)), some (.int (nI (ab.toNatClampNeg))), some (.int (nI (n.toNatClampNeg))), some (.int w), some (.int tn), some (.int (sMay (mP (((sA (sA σ 50 1 (nI (ab.toNatClampNeg / 10))) 50 2 (nI (ab.toNatClampNeg % 10)))))) ((((sA (sA σ 50 1 (nI (ab.toNatClampNeg / 10))) 50 2 (nI (ab.toNatClampNeg % 10))))).1 6) (nI (ab.toNatClampNeg % 10)) ((((sA (sA σ 50 1 (nI (ab.toNatClampNeg / 10))) 50 2 (nI (ab.toNatClampNeg % 10))))).1 2))), some (.int (nI 0))]) dX0_byTurns_116 (by decide) rfl rfl (np := 118) rfl ?_
                  have L118 : ∀ (zn : Nat) (p : Nat), (∀ q, q < p → mayP σ (nI (ab.toNatClampNeg % 10)) q → ¬ turnS L (nI (ab.toNatClampNeg / 10)) (nI (ab.toNatClampNeg % 10)) (n.toNatClampNeg - 1) 1 (dnP σ q) = tn) → (p ≤ σ.1 2) → σ.1 2 - p < zn → WG zp l ze ({ frames := 213, cells := 0, slots := 0, locals := 4918 } : Room) zs zm za zb zt zc D B 7 (MQ zb (QT D B T) za zs 0 0 (zA B)) (XH D Λ I L ((((sA (sA σ 50 1 (nI (ab.toNatClampNeg / 10))) 50 2 (nI (ab.toNatClampNeg % 10))))))) 0 0 118 [some (.ref (Λ.1 0 38)), some (.int (nI (ab.toNatClampNeg))), some (.int (nI (n.toNatClampNeg))), some (.int w), some (.int tn), some (.int (sMay (mP (((sA (sA σ 50 1 (nI (ab.toNatClampNeg / 10))) 50 2 (nI (ab.toNatClampNeg % 10)))))) ((((sA (sA σ 50 1 (nI (ab.toNatClampNeg / 10))) 50 2 (nI (ab.toNatClampNeg % 10))))).1 6) (nI (ab.toNatClampNeg % 10)) ((((sA (sA σ 50 1 (nI (ab.toNatClampNeg / 10))) 50 2 (nI (ab.toNatClampNeg % 10))))).1 2))), some (.int (nI p))] [] := by
                    intro zn
                    induction zn with
                    | zero => intro p h1 h2 hm; exact absurd hm (Nat.not_lt_zero _)
                    | succ zn ih118 =>
                      intro p h1 h2 hm
                      refine g_iload F dX0_byTurns_118 rfl (np := 120) rfl ?_
                      refine g_aload_n F dX0_byTurns_120 rfl rfl (np := 121) rfl ?_
                      refine x_get F (k := 3) (v := .int (nI (σ.1 2))) (by decide) rfl (Or.inl q180) dX0_byTurns_121 (np := 124) rfl ?_
                      refine g_icmp_geN F (by omega) (by omega) dX0_byTurns_124 (tp := 159) (by decide) (np := 127) rfl (fun c124 => ?_) (fun c124 => ?_)
                      · refine g_bipush F (v := (nI 14)) dX0_byTurns_159 (by decide) (np := 161) rfl ?_
                        have hσ : ((((sA (sA σ 50 1 (nI (ab.toNatClampNeg / 10))) 50 2 (nI (ab.toNatClampNeg % 10)))))) = (gTurnX σ ab n w) := by unfold gTurnX; rw [pif_t hP]
                        have hv : nI (14) = rTurns L σ ab n w := by unfold rTurns; rw [pif_t hP, if_neg c83]; unfold turnR; rcases eR with z | z; rw [z.2]; obtain ⟨z1, z2, z3, z4, z5⟩ := z; exact absurd z4 (h1 _ (by omega) z3)
                        exact g_iret F hr rfl (Nat.le_of_ble_eq_true rfl) (Nat.le_of_ble_eq_true rfl) dX0_byTurns_161 (fun h hs => by rw [← hT]; exact ⟨congrArg (fun z => some (Value.int z)) hv, (hσ ▸ hs)⟩)
                      · have hbm : jbit (sMay (mP σ) (σ.1 6) (nI (ab.toNatClampNeg % 10)) (σ.1 2)) p ↔ mayP σ (nI (ab.toNatClampNeg % 10)) p := bit_may (by omega) (by omega)
                        refine g_iload F dX0_byTurns_127 rfl (np := 129) rfl ?_
                        refine g_iload F dX0_byTurns_129 rfl (np := 131) rfl ?_
                        refine g_runS F (rest := []) (ct_X0_has (sMay (mP (((sA (sA σ 50 1 (nI (ab.toNatClampNeg / 10))) 50 2 (nI (ab.toNatClampNeg % 10)))))) ((((sA (sA σ 50 1 (nI (ab.toNatClampNeg / 10))) 50 2 (nI (ab.toNatClampNeg % 10))))).1 6) (nI (ab.toNatClampNeg % 10)) ((((sA (sA σ 50 1 (nI (ab.toNatClampNeg / 10))) 50 2 (nI (ab.toNatClampNeg % 10))))).1 2)) p ) (lw_S q937 q938 q100 q939) hcS_X0_has ⟨Nat.le_of_ble_eq_true rfl, Nat.le_of_ble_eq_true rfl⟩ rfl rfl (Nat.le_of_ble_eq_true rfl) dX0_byTurns_131 ⟨Nat.le_of_ble_eq_true rfl, Nat.le_of_ble_eq_true rfl⟩ (np := 134) rfl (k_RI ?_)
                        refine g_if_eqB F dX0_byTurns_134 (tp := 153) (by decide) (np := 137) rfl (fun c134 => ?_) (fun c134 => ?_)
                        · refine g_iinc F (v := (nI (p + 1))) (lv' := [some (.ref (Λ.1 0 38)), some (.int (nI (ab.toNatClampNeg))), some (.int (nI (n.toNatClampNeg))), some (.int w), some (.int tn), some (.int (sMay (mP (((sA (sA σ 50 1 (nI (ab.toNatClampNeg / 10))) 50 2 (nI (ab.toNatClampNeg % 10)))))) ((((sA (sA σ 50 1 (nI (ab.toNatClampNeg / 10))) 50 2 (nI (ab.toNatClampNeg % 10))))).1 6) (nI (ab.toNatClampNeg % 10)) ((((sA (sA σ 50 1 (nI (ab.toNatClampNeg / 10))) 50 2 (nI (ab.toNatClampNeg % 10))))).1 2))), some (.int (nI (p + 1)))]) dX0_byTurns_153 rfl (nI_add _ _) (by decide) rfl rfl (np := 156) rfl ?_
                          refine g_goto F dX0_byTurns_156 (np := 118) (by decide) ?_
                          exact ih118 (p + 1) (by intro q hq hyy; rcases Nat.lt_or_ge q p with z | z; exact h1 q z hyy; obtain rfl : q = p := (by omega); first | exact (c134 (hbm.mpr hyy)).elim | exact fun y => c147 (by rw [eD]; exact y)) (by omega) (by omega)
                        · have hmy := hbm.mp c134
                          have eD : turnS L ((sA (sA σ 50 1 (nI (ab.toNatClampNeg / 10))) 50 2 (nI (ab.toNatClampNeg % 10))).2.1 50 1) ((sA (sA σ 50 1 (nI (ab.toNatClampNeg / 10))) 50 2 (nI (ab.toNatClampNeg % 10))).2.1 50 2) (n.toNatClampNeg - 1) 1 (dnP (sA (sA σ 50 1 (nI (ab.toNatClampNeg / 10))) 50 2 (nI (ab.toNatClampNeg % 10))) p) = turnS L (nI (ab.toNatClampNeg / 10)) (nI (ab.toNatClampNeg % 10)) (n.toNatClampNeg - 1) 1 (dnP σ p) := by show turnS L (nI (ab.toNatClampNeg / 10)) (nI (ab.toNatClampNeg % 10)) _ _ (dnP (sA (sA σ 50 1 _) 50 2 _) p) = _; unfold dnP; rw [sA_comm _ (show (50 : Nat) ≠ 3 by decide), turnS_50, sA_comm _ (show (50 : Nat) ≠ 3 by decide), turnS_50]
                          refine g_aload_n F dX0_byTurns_137 rfl rfl (np := 138) rfl ?_
                          refine g_iload F dX0_byTurns_138 rfl (np := 140) rfl ?_
                          refine g_iload_n F dX0_byTurns_140 rfl rfl (np := 141) rfl ?_
                          refine g_iconst F (v := (nI 1)) dX0_byTurns_141 (by decide) (np := 142) rfl ?_
                          refine g_runV F (C := RX0) (ci := 0) (T0 := TX0) (N := 38) (rest := []) (ct_X0_byDeed_n1 ((((sA (sA σ 50 1 (nI (ab.toNatClampNeg / 10))) 50 2 (nI (ab.toNatClampNeg % 10)))))) p n.toNatClampNeg (by exact (hok.sA50 _ _).sA50 _ _) (by exact hm14) (by exact hbO) (by show p < σ.1 2; omega) (by exact hmy.2.1) (by omega)) (lw_V q1014 q1016 qs46 q100 q1017) hcV_X0_byDeed ⟨Nat.le_of_ble_eq_true rfl, Nat.le_of_ble_eq_true rfl⟩ rfl (fun h hs => hs.obj) rfl rfl (Nat.le_of_ble_eq_true rfl) dX0_byTurns_142 ⟨Nat.le_of_ble_eq_true rfl, Nat.le_of_ble_eq_true rfl⟩ (np := 145) rfl (k_RI ?_)
                          refine g_iload F dX0_byTurns_145 rfl (np := 147) rfl ?_
                          refine g_icmp_ne F dX0_byTurns_147 (tp := 153) (by decide) (np := 150) rfl (fun c147 => ?_) (fun c147 => ?_)
                          · refine g_iinc F (v := (nI (p + 1))) (lv' := [some (.ref (Λ.1 0 38)), some (.int (nI (ab.toNatClampNeg))), some (.int (nI (n.toNatClampNeg))), some (.int w), some (.int tn), some (.int (sMay (mP (((sA (sA σ 50 1 (nI (ab.toNatClampNeg / 10))) 50 2 (nI (ab.toNatClampNeg % 10)))))) ((((sA (sA σ 50 1 (nI (ab.toNatClampNeg / 10))) 50 2 (nI (ab.toNatClampNeg % 10))))).1 6) (nI (ab.toNatClampNeg % 10)) ((((sA (sA σ 50 1 (nI (ab.toNatClampNeg / 10))) 50 2 (nI (ab.toNatClampNeg % 10))))).1 2))), some (.int (nI (p + 1)))]) dX0_byTurns_153 rfl (nI_add _ _) (by decide) rfl rfl (np := 156) rfl ?_
                            refine g_goto F dX0_byTurns_156 (np := 118) (by decide) ?_
                            exact ih118 (p + 1) (by intro q hq hyy; rcases Nat.lt_or_ge q p with z | z; exact h1 q z hyy; obtain rfl : q = p := (by omega); first | exact (c134 (hbm.mpr hyy)).elim | exact fun y => c147 (by rw [eD]; exact y)) (by omega) (by omega)
                          · refine g_iload F dX0_byTurns_150 rfl (np := 152) rfl ?_
                            have hσ : (((((sA (sA σ 50 1 (nI (ab.toNatClampNeg / 10))) 50 2 (nI (ab.toNatClampNeg % 10))))))) = (gTurnX σ ab n w) := by unfold gTurnX; rw [pif_t hP]
                            have hv : nI (p) = rTurns L σ ab n w := by unfold rTurns; rw [pif_t hP, if_neg c83]; unfold turnR; rcases eR with z | z; exact absurd z.1 c99; obtain ⟨z1, z2, z3, z4, z5⟩ := z; congr 1; rw [eD] at c147; rcases Nat.lt_trichotomy p (turnA (turnS L (nI (ab.toNatClampNeg / 10)) (nI (ab.toNatClampNeg % 10)) (n.toNatClampNeg - 1) 1) (nI (ab.toNatClampNeg % 10)) σ (σ.1 2)).2 with y | y | y; exact absurd c147 (z5 p y hmy); exact y; exact absurd z4 (h1 _ y z3)
                            exact g_iret F hr rfl (Nat.le_of_ble_eq_true rfl) (Nat.le_of_ble_eq_true rfl) dX0_byTurns_152 (fun h hs => by rw [← hT]; exact ⟨congrArg (fun z => some (Value.int z)) hv, (hσ ▸ hs)⟩)
                  exact L118 _ 0 (by intro q hq; omega) (by omega) (Nat.lt_succ_self _)
                · refine g_bipush F (v := (nI 14)) dX0_byTurns_102 (by decide) (np := 104) rfl ?_
                  have hσ : (((sA (sA σ 50 1 (nI (ab.toNatClampNeg / 10))) 50 2 (nI (ab.toNatClampNeg % 10))))) = (gTurnX σ ab n w) := by unfold gTurnX; rw [pif_t hP]
                  have hv : nI (14) = rTurns L σ ab n w := by unfold rTurns; rw [pif_t hP, if_neg c83]; unfold turnR; rcases eR with z | z; rw [z.2]; exact absurd c99 z.1
                  exact g_iret F hr rfl (Nat.le_of_ble_eq_true rfl) (Nat.le_of_ble_eq_true rfl) dX0_byTurns_104 (fun h hs => by rw [← hT]; exact ⟨congrArg (fun z => some (Value.int z)) hv, (hσ ▸ hs)⟩)
              · refine g_iload F dX0_byTurns_86 rfl (np := 88) rfl ?_
                have hσ : ((sA (sA σ 50 1 (nI (ab.toNatClampNeg / 10))) 50 2 (nI (ab.toNatClampNeg % 10)))) = (gTurnX σ ab n w) := by unfold gTurnX; rw [pif_t hP]
                have hv : tn = rTurns L σ ab n w := by unfold rTurns; rw [pif_t hP, if_pos c83]; unfold turnR; rw [eR1]; exact htn
                exact g_iret F hr rfl (Nat.le_of_ble_eq_true rfl) (Nat.le_of_ble_eq_true rfl) dX0_byTurns_88 (fun h hs => by rw [← hT]; exact ⟨congrArg (fun z => some (Value.int z)) hv, (hσ ▸ hs)⟩)
            · refine g_ldc F q558 dX0_byTurns_55 (np := 57) rfl ?_
              have hσ : σ = (gTurnX σ ab n w) := by unfold gTurnX; rw [pif_f (fun z => by obtain ⟨z1, z2, z3, z4, z5, z6⟩ := z; first | exact z1 c1 | exact c12 z2 | exact c23 z3 | exact z4 c34 | exact c43 z5 | exact c52 (bt1.mpr z6))]
              have hv : -2000000000 = rTurns L σ ab n w := by unfold rTurns; rw [pif_f (fun z => by obtain ⟨z1, z2, z3, z4, z5, z6⟩ := z; first | exact z1 c1 | exact c12 z2 | exact c23 z3 | exact z4 c34 | exact c43 z5 | exact c52 (bt1.mpr z6))]
              exact g_iret F hr rfl (Nat.le_of_ble_eq_true rfl) (Nat.le_of_ble_eq_true rfl) dX0_byTurns_57 (fun h hs => by rw [← hT]; exact ⟨congrArg (fun z => some (Value.int z)) hv, (hσ ▸ hs)⟩)
