/-! WALKS (printed by walk.py): isBody, bodyOf, body, keep, act -/
set_option maxRecDepth 100000
set_option maxRecDepth 100000 in
theorem ct_X0_isBody {l : Launch} {D : va_G} {B : Nat} {Λ : LT} {I : AH} {L : LawT} (σ : MSt)  (b : Int32) (hbn : σ.1 34 < 2 ^ 30) : Ct l D ZE B yX0_isBody cX0_isBody 2 (some .boolean) 1 22 0 0 [.ref (Λ.1 0 38), .int b] (XH D Λ I L σ) (RI (bI (inN b (σ.1 34))) (XH D Λ I L σ)) := by
  refine Ct.of (nL := 2) (lv := [some (.ref (Λ.1 0 38)), some (.int b)]) (by decide) (Nat.le_of_ble_eq_true rfl) stZE 0 rfl ?_
  generalize hT : RI (bI (inN b (σ.1 34))) (XH D Λ I L σ) = T
  intro zp ze zs zm zb zt zc F hr hnm
  generalize ([.ref (Λ.1 0 38), .int b] : List Value).toArray = za at F ⊢
  refine g_iload_n F dX0_isBody_0 rfl rfl (np := 1) rfl ?_
  refine g_iconst F (v := (nI 0)) dX0_isBody_1 (by decide) (np := 2) rfl ?_
  refine g_aload_n F dX0_isBody_2 rfl rfl (np := 3) rfl ?_
  refine x_get F (k := 36) (v := .int (nI (σ.1 34))) (by decide) rfl (Or.inl q215) dX0_isBody_3 (np := 6) rfl ?_
  refine g_iconst F (v := (nI 1)) dX0_isBody_6 (by decide) (np := 7) rfl ?_
  refine g_isub F dX0_isBody_7 (np := 8) rfl ?_
  refine g_runS F (rest := []) (ct_X0_in b (nI (0)) ((nI (σ.1 34)) - (nI (1))) ) (lw_S q298 q299 q100 q300) hcS_X0_in ⟨Nat.le_of_ble_eq_true rfl, Nat.le_of_ble_eq_true rfl⟩ rfl rfl (Nat.le_of_ble_eq_true rfl) dX0_isBody_8 ⟨Nat.le_of_ble_eq_true rfl, Nat.le_of_ble_eq_true rfl⟩ (np := 11) rfl (k_RI ?_)
  have hv : bI (btw b (nI (0)) ((nI (σ.1 34)) - (nI (1)))) = bI (inN b (σ.1 34)) := bI_c (by exact btw_in (by omega))
  exact g_iret F hr bI_nar (Nat.le_of_ble_eq_true rfl) (Nat.le_of_ble_eq_true rfl) dX0_isBody_11 (fun h hs => by rw [← hT]; exact ⟨congrArg (fun z => some (Value.int z)) hv, hs⟩)

set_option maxRecDepth 100000 in
theorem ct_X0_bodyOf {l : Launch} {D : va_G} {B : Nat} {Λ : LT} {I : AH} {L : LawT} (σ : MSt)  (k : Nat) (hk : k ≤ 7) : Ct l D ZE B yX0_bodyOf cX0_bodyOf 2 (some (.object "PromiseRoofs$Storey")) 6 120 1 5 [.ref (Λ.1 0 38), .int (nI k)] (XH D Λ I L σ) (RQ (fun (r : Option Nat) (a : Nat) => r = some a) (fun _ a => Fr B (XH D Λ I L σ) a (bCell (Λ.1 0 38) k (σ.1 34)))) := by
  refine Ct.of (nL := 2) (lv := [some (.ref (Λ.1 0 38)), some (.int (nI k))]) (by decide) (Nat.le_of_ble_eq_true rfl) stZE 0 rfl ?_
  generalize hT : RQ (fun (r : Option Nat) (a : Nat) => r = some a) (fun _ a => Fr B (XH D Λ I L σ) a (bCell (Λ.1 0 38) k (σ.1 34))) = T
  intro zp ze zs zm zb zt zc F hr hnm
  generalize ([.ref (Λ.1 0 38), .int (nI k)] : List Value).toArray = za at F ⊢
  refine g_iload_n F dX0_bodyOf_0 rfl rfl (np := 1) rfl ?_
  by_cases k1_1 : (nI (k)) = 1
  · refine g_tabIn F (x := (nI (k))) (v := 1) k1_1 (lo := 1) dX0_bodyOf_1 (j := 0) (by decide) (by decide) (by decide) rfl (np := 44) (by decide) ?_
    have e1_1 : k = 1 := (nI_eq (a := k) (b := 1) (by omega) (by decide)).mp (k1_1.trans (by decide))
    refine g_new F in_X16 tyX16 tyX16_ok q1067 q1068 q130 (ci := 16) rfl (fs := [.int 0, .null, .null]) (fun j hj => by match j, hj with | 0, _ => rfl | 1, _ => rfl | 2, _ => rfl) (Nat.le_of_ble_eq_true rfl) (Nat.le_of_ble_eq_true rfl) dX0_bodyOf_44 (np := 47) rfl (fun a => ?_)
    refine WG.weak (S' := Fr B (XH D Λ I L σ) a ((.inr (16, [.int 0, .null, .null])))) (fun h hs => hs) ?_
    refine g_dup F dX0_bodyOf_47 rfl (np := 48) rfl ?_
    refine g_aload_n F dX0_bodyOf_48 rfl rfl (np := 49) rfl ?_
    refine g_aload_n F dX0_bodyOf_49 rfl rfl (np := 50) rfl ?_
    refine g_getL F in_X0 (ci := 0) rfl 36 (by decide) rfl (Or.inl q215) (v := .int (nI (σ.1 34))) (fun h hs => ⟨_, XFr.fld hs, rfl⟩) dX0_bodyOf_50 (np := 53) rfl ?_
    refine g_runI F (rest := [.ref (a)]) (ct_X16_init_1 a (Λ.1 0 38) (σ.1 34) ) q1071 q130 q1069 q1070 rfl hcS_X16_init ⟨Nat.le_of_ble_eq_true rfl, Nat.le_of_ble_eq_true rfl⟩ rfl rfl (Nat.le_of_ble_eq_true rfl) dX0_bodyOf_53 ⟨Nat.le_of_ble_eq_true rfl, Nat.le_of_ble_eq_true rfl⟩ (np := 56) rfl (k_RV ?_)
    exact g_aret (r := some a) F hr (Or.inl ⟨_, rfl⟩) (Nat.le_of_ble_eq_true rfl) (Nat.le_of_ble_eq_true rfl) dX0_bodyOf_56 (fun h hs => by rw [← hT]; exact ⟨some a, a, rfl, rfl, by rw [e1_1]; exact hs⟩)
  by_cases k1_2 : (nI (k)) = 2
  · refine g_tabIn F (x := (nI (k))) (v := 2) k1_2 (lo := 1) dX0_bodyOf_1 (j := 1) (by decide) (by decide) (by decide) rfl (np := 57) (by decide) ?_
    have e1_2 : k = 2 := (nI_eq (a := k) (b := 2) (by omega) (by decide)).mp (k1_2.trans (by decide))
    refine g_new F in_X17 tyX17 tyX17_ok q1089 q1090 q131 (ci := 17) rfl (fs := [.int 0, .null, .null]) (fun j hj => by match j, hj with | 0, _ => rfl | 1, _ => rfl | 2, _ => rfl) (Nat.le_of_ble_eq_true rfl) (Nat.le_of_ble_eq_true rfl) dX0_bodyOf_57 (np := 60) rfl (fun a => ?_)
    refine WG.weak (S' := Fr B (XH D Λ I L σ) a ((.inr (17, [.int 0, .null, .null])))) (fun h hs => hs) ?_
    refine g_dup F dX0_bodyOf_60 rfl (np := 61) rfl ?_
    refine g_aload_n F dX0_bodyOf_61 rfl rfl (np := 62) rfl ?_
    refine g_aload_n F dX0_bodyOf_62 rfl rfl (np := 63) rfl ?_
    refine g_getL F in_X0 (ci := 0) rfl 36 (by decide) rfl (Or.inl q215) (v := .int (nI (σ.1 34))) (fun h hs => ⟨_, XFr.fld hs, rfl⟩) dX0_bodyOf_63 (np := 66) rfl ?_
    refine g_runI F (rest := [.ref (a)]) (ct_X17_init_2 a (Λ.1 0 38) (σ.1 34) ) q1093 q131 q1091 q1092 rfl hcS_X17_init ⟨Nat.le_of_ble_eq_true rfl, Nat.le_of_ble_eq_true rfl⟩ rfl rfl (Nat.le_of_ble_eq_true rfl) dX0_bodyOf_66 ⟨Nat.le_of_ble_eq_true rfl, Nat.le_of_ble_eq_true rfl⟩ (np := 69) rfl (k_RV ?_)
    exact g_aret (r := some a) F hr (Or.inl ⟨_, rfl⟩) (Nat.le_of_ble_eq_true rfl) (Nat.le_of_ble_eq_true rfl) dX0_bodyOf_69 (fun h hs => by rw [← hT]; exact ⟨some a, a, rfl, rfl, by rw [e1_2]; exact hs⟩)
  by_cases k1_3 : (nI (k)) = 3
  · refine g_tabIn F (x := (nI (k))) (v := 3) k1_3 (lo := 1) dX0_bodyOf_1 (j := 2) (by decide) (by decide) (by decide) rfl (np := 70) (by decide) ?_
    have e1_3 : k = 3 := (nI_eq (a := k) (b := 3) (by omega) (by decide)).mp (k1_3.trans (by decide))
    refine g_new F in_X18 tyX18 tyX18_ok q1101 q1102 q132 (ci := 18) rfl (fs := [.int 0, .null, .null, .null]) (fun j hj => by match j, hj with | 0, _ => rfl | 1, _ => rfl | 2, _ => rfl | 3, _ => rfl) (Nat.le_of_ble_eq_true rfl) (Nat.le_of_ble_eq_true rfl) dX0_bodyOf_70 (np := 73) rfl (fun a => ?_)
    refine WG.weak (S' := Fr B (XH D Λ I L σ) a ((.inr (18, [.int 0, .null, .null, .null])))) (fun h hs => hs) ?_
    refine g_dup F dX0_bodyOf_73 rfl (np := 74) rfl ?_
    refine g_aload_n F dX0_bodyOf_74 rfl rfl (np := 75) rfl ?_
    refine g_aload_n F dX0_bodyOf_75 rfl rfl (np := 76) rfl ?_
    refine g_getL F in_X0 (ci := 0) rfl 36 (by decide) rfl (Or.inl q215) (v := .int (nI (σ.1 34))) (fun h hs => ⟨_, XFr.fld hs, rfl⟩) dX0_bodyOf_76 (np := 79) rfl ?_
    refine g_runI F (rest := [.ref (a)]) (ct_X18_init_3 a (Λ.1 0 38) (σ.1 34) ) q1105 q132 q1103 q1104 rfl hcS_X18_init ⟨Nat.le_of_ble_eq_true rfl, Nat.le_of_ble_eq_true rfl⟩ rfl rfl (Nat.le_of_ble_eq_true rfl) dX0_bodyOf_79 ⟨Nat.le_of_ble_eq_true rfl, Nat.le_of_ble_eq_true rfl⟩ (np := 82) rfl (k_RV ?_)
    exact g_aret (r := some a) F hr (Or.inl ⟨_, rfl⟩) (Nat.le_of_ble_eq_true rfl) (Nat.le_of_ble_eq_true rfl) dX0_bodyOf_82 (fun h hs => by rw [← hT]; exact ⟨some a, a, rfl, rfl, by rw [e1_3]; exact hs⟩)
  by_cases k1_4 : (nI (k)) = 4
  · refine g_tabIn F (x := (nI (k))) (v := 4) k1_4 (lo := 1) dX0_bodyOf_1 (j := 3) (by decide) (by decide) (by decide) rfl (np := 83) (by decide) ?_
    have e1_4 : k = 4 := (nI_eq (a := k) (b := 4) (by omega) (by decide)).mp (k1_4.trans (by decide))
    refine g_new F in_X19 tyX19 tyX19_ok q1114 q1115 q133 (ci := 19) rfl (fs := [.int 0, .null, .null, .null]) (fun j hj => by match j, hj with | 0, _ => rfl | 1, _ => rfl | 2, _ => rfl | 3, _ => rfl) (Nat.le_of_ble_eq_true rfl) (Nat.le_of_ble_eq_true rfl) dX0_bodyOf_83 (np := 86) rfl (fun a => ?_)
    refine WG.weak (S' := Fr B (XH D Λ I L σ) a ((.inr (19, [.int 0, .null, .null, .null])))) (fun h hs => hs) ?_
    refine g_dup F dX0_bodyOf_86 rfl (np := 87) rfl ?_
    refine g_aload_n F dX0_bodyOf_87 rfl rfl (np := 88) rfl ?_
    refine g_aload_n F dX0_bodyOf_88 rfl rfl (np := 89) rfl ?_
    refine g_getL F in_X0 (ci := 0) rfl 36 (by decide) rfl (Or.inl q215) (v := .int (nI (σ.1 34))) (fun h hs => ⟨_, XFr.fld hs, rfl⟩) dX0_bodyOf_89 (np := 92) rfl ?_
    refine g_runI F (rest := [.ref (a)]) (ct_X19_init_4 a (Λ.1 0 38) (σ.1 34) ) q1118 q133 q1116 q1117 rfl hcS_X19_init ⟨Nat.le_of_ble_eq_true rfl, Nat.le_of_ble_eq_true rfl⟩ rfl rfl (Nat.le_of_ble_eq_true rfl) dX0_bodyOf_92 ⟨Nat.le_of_ble_eq_true rfl, Nat.le_of_ble_eq_true rfl⟩ (np := 95) rfl (k_RV ?_)
    exact g_aret (r := some a) F hr (Or.inl ⟨_, rfl⟩) (Nat.le_of_ble_eq_true rfl) (Nat.le_of_ble_eq_true rfl) dX0_bodyOf_95 (fun h hs => by rw [← hT]; exact ⟨some a, a, rfl, rfl, by rw [e1_4]; exact hs⟩)
  by_cases k1_5 : (nI (k)) = 5
  · refine g_tabIn F (x := (nI (k))) (v := 5) k1_5 (lo := 1) dX0_bodyOf_1 (j := 4) (by decide) (by decide) (by decide) rfl (np := 96) (by decide) ?_
    have e1_5 : k = 5 := (nI_eq (a := k) (b := 5) (by omega) (by decide)).mp (k1_5.trans (by decide))
    refine g_new F in_X20 tyX20 tyX20_ok q1127 q1128 q134 (ci := 20) rfl (fs := [.int 0, .null, .null, .null, .null]) (fun j hj => by match j, hj with | 0, _ => rfl | 1, _ => rfl | 2, _ => rfl | 3, _ => rfl | 4, _ => rfl) (Nat.le_of_ble_eq_true rfl) (Nat.le_of_ble_eq_true rfl) dX0_bodyOf_96 (np := 99) rfl (fun a => ?_)
    refine WG.weak (S' := Fr B (XH D Λ I L σ) a ((.inr (20, [.int 0, .null, .null, .null, .null])))) (fun h hs => hs) ?_
    refine g_dup F dX0_bodyOf_99 rfl (np := 100) rfl ?_
    refine g_aload_n F dX0_bodyOf_100 rfl rfl (np := 101) rfl ?_
    refine g_aload_n F dX0_bodyOf_101 rfl rfl (np := 102) rfl ?_
    refine g_getL F in_X0 (ci := 0) rfl 36 (by decide) rfl (Or.inl q215) (v := .int (nI (σ.1 34))) (fun h hs => ⟨_, XFr.fld hs, rfl⟩) dX0_bodyOf_102 (np := 105) rfl ?_
    refine g_runI F (rest := [.ref (a)]) (ct_X20_init_5 a (Λ.1 0 38) (σ.1 34) ) q1131 q134 q1129 q1130 rfl hcS_X20_init ⟨Nat.le_of_ble_eq_true rfl, Nat.le_of_ble_eq_true rfl⟩ rfl rfl (Nat.le_of_ble_eq_true rfl) dX0_bodyOf_105 ⟨Nat.le_of_ble_eq_true rfl, Nat.le_of_ble_eq_true rfl⟩ (np := 108) rfl (k_RV ?_)
    exact g_aret (r := some a) F hr (Or.inl ⟨_, rfl⟩) (Nat.le_of_ble_eq_true rfl) (Nat.le_of_ble_eq_true rfl) dX0_bodyOf_108 (fun h hs => by rw [← hT]; exact ⟨some a, a, rfl, rfl, by rw [e1_5]; exact hs⟩)
  by_cases k1_6 : (nI (k)) = 6
  · refine g_tabIn F (x := (nI (k))) (v := 6) k1_6 (lo := 1) dX0_bodyOf_1 (j := 5) (by decide) (by decide) (by decide) rfl (np := 109) (by decide) ?_
    have e1_6 : k = 6 := (nI_eq (a := k) (b := 6) (by omega) (by decide)).mp (k1_6.trans (by decide))
    refine g_new F in_X21 tyX21 tyX21_ok q1141 q1142 q135 (ci := 21) rfl (fs := [.int 0, .null, .null]) (fun j hj => by match j, hj with | 0, _ => rfl | 1, _ => rfl | 2, _ => rfl) (Nat.le_of_ble_eq_true rfl) (Nat.le_of_ble_eq_true rfl) dX0_bodyOf_109 (np := 112) rfl (fun a => ?_)
    refine WG.weak (S' := Fr B (XH D Λ I L σ) a ((.inr (21, [.int 0, .null, .null])))) (fun h hs => hs) ?_
    refine g_dup F dX0_bodyOf_112 rfl (np := 113) rfl ?_
    refine g_aload_n F dX0_bodyOf_113 rfl rfl (np := 114) rfl ?_
    refine g_aload_n F dX0_bodyOf_114 rfl rfl (np := 115) rfl ?_
    refine g_getL F in_X0 (ci := 0) rfl 36 (by decide) rfl (Or.inl q215) (v := .int (nI (σ.1 34))) (fun h hs => ⟨_, XFr.fld hs, rfl⟩) dX0_bodyOf_115 (np := 118) rfl ?_
    refine g_runI F (rest := [.ref (a)]) (ct_X21_init_6 a (Λ.1 0 38) (σ.1 34) ) q1145 q135 q1143 q1144 rfl hcS_X21_init ⟨Nat.le_of_ble_eq_true rfl, Nat.le_of_ble_eq_true rfl⟩ rfl rfl (Nat.le_of_ble_eq_true rfl) dX0_bodyOf_118 ⟨Nat.le_of_ble_eq_true rfl, Nat.le_of_ble_eq_true rfl⟩ (np := 121) rfl (k_RV ?_)
    exact g_aret (r := some a) F hr (Or.inl ⟨_, rfl⟩) (Nat.le_of_ble_eq_true rfl) (Nat.le_of_ble_eq_true rfl) dX0_bodyOf_121 (fun h hs => by rw [← hT]; exact ⟨some a, a, rfl, rfl, by rw [e1_6]; exact hs⟩)
  by_cases k1_7 : (nI (k)) = 7
  · refine g_tabIn F (x := (nI (k))) (v := 7) k1_7 (lo := 1) dX0_bodyOf_1 (j := 6) (by decide) (by decide) (by decide) rfl (np := 122) (by decide) ?_
    have e1_7 : k = 7 := (nI_eq (a := k) (b := 7) (by omega) (by decide)).mp (k1_7.trans (by decide))
    refine g_new F in_X22 tyX22 tyX22_ok q1153 q1154 q136 (ci := 22) rfl (fs := [.int 0, .null, .null, .null, .null]) (fun j hj => by match j, hj with | 0, _ => rfl | 1, _ => rfl | 2, _ => rfl | 3, _ => rfl | 4, _ => rfl) (Nat.le_of_ble_eq_true rfl) (Nat.le_of_ble_eq_true rfl) dX0_bodyOf_122 (np := 125) rfl (fun a => ?_)
    refine WG.weak (S' := Fr B (XH D Λ I L σ) a ((.inr (22, [.int 0, .null, .null, .null, .null])))) (fun h hs => hs) ?_
    refine g_dup F dX0_bodyOf_125 rfl (np := 126) rfl ?_
    refine g_aload_n F dX0_bodyOf_126 rfl rfl (np := 127) rfl ?_
    refine g_aload_n F dX0_bodyOf_127 rfl rfl (np := 128) rfl ?_
    refine g_getL F in_X0 (ci := 0) rfl 36 (by decide) rfl (Or.inl q215) (v := .int (nI (σ.1 34))) (fun h hs => ⟨_, XFr.fld hs, rfl⟩) dX0_bodyOf_128 (np := 131) rfl ?_
    refine g_runI F (rest := [.ref (a)]) (ct_X22_init_7 a (Λ.1 0 38) (σ.1 34) ) q1157 q136 q1155 q1156 rfl hcS_X22_init ⟨Nat.le_of_ble_eq_true rfl, Nat.le_of_ble_eq_true rfl⟩ rfl rfl (Nat.le_of_ble_eq_true rfl) dX0_bodyOf_131 ⟨Nat.le_of_ble_eq_true rfl, Nat.le_of_ble_eq_true rfl⟩ (np := 134) rfl (k_RV ?_)
    exact g_aret (r := some a) F hr (Or.inl ⟨_, rfl⟩) (Nat.le_of_ble_eq_true rfl) (Nat.le_of_ble_eq_true rfl) dX0_bodyOf_134 (fun h hs => by rw [← hT]; exact ⟨some a, a, rfl, rfl, by rw [e1_7]; exact hs⟩)
  have n1_1 : ¬ k = 1 := fun q => k1_1 (by rw [q]; decide)
  have n1_2 : ¬ k = 2 := fun q => k1_2 (by rw [q]; decide)
  have n1_3 : ¬ k = 3 := fun q => k1_3 (by rw [q]; decide)
  have n1_4 : ¬ k = 4 := fun q => k1_4 (by rw [q]; decide)
  have n1_5 : ¬ k = 5 := fun q => k1_5 (by rw [q]; decide)
  have n1_6 : ¬ k = 6 := fun q => k1_6 (by rw [q]; decide)
  have n1_7 : ¬ k = 7 := fun q => k1_7 (by rw [q]; decide)
  refine g_tabOut F (x := (nI (k))) dX0_bodyOf_1 (by
    have e1 : ¬ ((nI (k))).toInt = 1 := fun q => k1_1 (Int32.toInt_inj.mp (q.trans (by decide)))
    have e2 : ¬ ((nI (k))).toInt = 2 := fun q => k1_2 (Int32.toInt_inj.mp (q.trans (by decide)))
    have e3 : ¬ ((nI (k))).toInt = 3 := fun q => k1_3 (Int32.toInt_inj.mp (q.trans (by decide)))
    have e4 : ¬ ((nI (k))).toInt = 4 := fun q => k1_4 (Int32.toInt_inj.mp (q.trans (by decide)))
    have e5 : ¬ ((nI (k))).toInt = 5 := fun q => k1_5 (Int32.toInt_inj.mp (q.trans (by decide)))
    have e6 : ¬ ((nI (k))).toInt = 6 := fun q => k1_6 (Int32.toInt_inj.mp (q.trans (by decide)))
    have e7 : ¬ ((nI (k))).toInt = 7 := fun q => k1_7 (Int32.toInt_inj.mp (q.trans (by decide)))
    omega) (np := 135) (by decide) ?_
  refine g_new F in_X15 tyX15 tyX15_ok q173 q1167 q129 (ci := 15) rfl (fs := [.int 0, .null]) (fun j hj => by match j, hj with | 0, _ => rfl | 1, _ => rfl) (Nat.le_of_ble_eq_true rfl) (Nat.le_of_ble_eq_true rfl) dX0_bodyOf_135 (np := 138) rfl (fun a => ?_)
  refine WG.weak (S' := Fr B (XH D Λ I L σ) a ((.inr (15, [.int 0, .null])))) (fun h hs => hs) ?_
  refine g_dup F dX0_bodyOf_138 rfl (np := 139) rfl ?_
  refine g_aload_n F dX0_bodyOf_139 rfl rfl (np := 140) rfl ?_
  refine g_aload_n F dX0_bodyOf_140 rfl rfl (np := 141) rfl ?_
  refine g_getL F in_X0 (ci := 0) rfl 36 (by decide) rfl (Or.inl q215) (v := .int (nI (σ.1 34))) (fun h hs => ⟨_, XFr.fld hs, rfl⟩) dX0_bodyOf_141 (np := 144) rfl ?_
  refine g_runI F (rest := [.ref (a)]) (ct_X15_init_0 a (Λ.1 0 38) (σ.1 34) ) q1074 q129 q1168 q1073 rfl hcS_X15_init ⟨Nat.le_of_ble_eq_true rfl, Nat.le_of_ble_eq_true rfl⟩ rfl rfl (Nat.le_of_ble_eq_true rfl) dX0_bodyOf_144 ⟨Nat.le_of_ble_eq_true rfl, Nat.le_of_ble_eq_true rfl⟩ (np := 147) rfl (k_RV ?_)
  exact g_aret (r := some a) F hr (Or.inl ⟨_, rfl⟩) (Nat.le_of_ble_eq_true rfl) (Nat.le_of_ble_eq_true rfl) dX0_bodyOf_147 (fun h hs => by rw [← hT]; exact ⟨some a, a, rfl, rfl, by rw [(show k = 0 by omega)]; exact hs⟩)

set_option maxRecDepth 100000 in
theorem ct_X0_body {l : Launch} {D : va_G} {B : Nat} {Λ : LT} {I : AH} {L : LawT} (σ : MSt)  (k : Int32) (hnb : σ.1 34 ≤ 50) (hho : hoOK σ) : Ct l D ZE B yX0_body cX0_body 2 (some .int) 7 141 1 5 [.ref (Λ.1 0 38), .int k] (XH D Λ I L σ) (RE (fun (r : Int32) (u : LT × AH) => r = rBody σ k ∧ IE I u.2 ∧ u.1.1 = Λ.1) (fun _ u => XH D u.1 u.2 L (gBody σ k))) := by
  refine Ct.of (nL := 2) (lv := [some (.ref (Λ.1 0 38)), some (.int k)]) (by decide) (Nat.le_of_ble_eq_true rfl) stZE 0 rfl ?_
  generalize hT : RE (fun (r : Int32) (u : LT × AH) => r = rBody σ k ∧ IE I u.2 ∧ u.1.1 = Λ.1) (fun _ u => XH D u.1 u.2 L (gBody σ k)) = T
  intro zp ze zs zm zb zt zc F hr hnm
  generalize ([.ref (Λ.1 0 38), .int k] : List Value).toArray = za at F ⊢
  refine g_iload_n F dX0_body_0 rfl rfl (np := 1) rfl ?_
  refine g_iconst F (v := (nI 0)) dX0_body_1 (by decide) (np := 2) rfl ?_
  refine g_bipush F (v := (nI 7)) dX0_body_2 (by decide) (np := 4) rfl ?_
  refine g_runS F (rest := []) (ct_X0_in k (nI (0)) (nI (7)) ) (lw_S q298 q299 q100 q300) hcS_X0_in ⟨Nat.le_of_ble_eq_true rfl, Nat.le_of_ble_eq_true rfl⟩ rfl rfl (Nat.le_of_ble_eq_true rfl) dX0_body_4 ⟨Nat.le_of_ble_eq_true rfl, Nat.le_of_ble_eq_true rfl⟩ (np := 7) rfl (k_RI ?_)
  refine g_if_neB F dX0_body_7 (tp := 12) (by decide) (np := 10) rfl (fun c7 => ?_) (fun c7 => ?_)
  · obtain ⟨hk8, hke⟩ := inN_cl (by decide) (bt7.mp c7)
    have hk7 : k.toNatClampNeg ≤ 7 := by omega
    refine WG.eqv (lv' := [some (.ref (Λ.1 0 38)), some (.int (nI (k.toNatClampNeg)))]) rfl (congrArg (fun z => ([some (.ref (Λ.1 0 38)), some (.int z)] : List (Option Value))) (show k = (nI (k.toNatClampNeg)) from by exact hke)) ?_
    refine g_aload_n F dX0_body_12 rfl rfl (np := 13) rfl ?_
    refine x_get F (k := 36) (v := .int (nI (σ.1 34))) (by decide) rfl (Or.inl q215) dX0_body_13 (np := 16) rfl ?_
    refine g_bipush F (v := (nI 50)) dX0_body_16 (by decide) (np := 18) rfl ?_
    refine g_icmp_neN F (by omega) (by decide) dX0_body_18 (tp := 24) (by decide) (np := 21) rfl (fun c18 => ?_) (fun c18 => ?_)
    · refine g_aload_n F dX0_body_24 rfl rfl (np := 25) rfl ?_
      refine x_get F (k := 35) (v := .ref (Λ.1 0 35)) (by decide) rfl (Or.inl q214) dX0_body_25 (np := 28) rfl ?_
      refine g_aload_n F dX0_body_28 rfl rfl (np := 29) rfl ?_
      refine x_get F (k := 36) (v := .int (nI (σ.1 34))) (by decide) rfl (Or.inl q215) dX0_body_29 (np := 32) rfl ?_
      refine g_aload_n F dX0_body_32 rfl rfl (np := 33) rfl ?_
      refine g_iload_n F dX0_body_33 rfl rfl (np := 34) rfl ?_
      refine g_runV F (C := RX0) (ci := 0) (T0 := TX0) (N := 38) (rest := [.int (nI (σ.1 34)), .ref (Λ.1 0 35)]) (ct_X0_bodyOf σ k.toNatClampNeg (by exact hk7)) (lw_V q1063 q1065 qs50 q100 q1066) hcV_X0_bodyOf ⟨Nat.le_of_ble_eq_true rfl, Nat.le_of_ble_eq_true rfl⟩ rfl (fun h hs => hs.obj) rfl rfl (Nat.le_of_ble_eq_true rfl) dX0_body_34 ⟨Nat.le_of_ble_eq_true rfl, Nat.le_of_ble_eq_true rfl⟩ (np := 37) rfl (k_RQ (fun r34 σ34 hp34 => ?_))
      subst hp34
      refine x_astB F (i := σ.1 34) hk7 (by omega) rfl dX0_body_37 (np := 38) rfl (fun hIa => ?_)
      refine g_aload_n F dX0_body_38 rfl rfl (np := 39) rfl ?_
      refine g_dup F dX0_body_39 rfl (np := 40) rfl ?_
      refine p_get F (Λ' := (Λ.1, upR Λ.2 35 (σ.1 34) (some σ34))) (k := 36) (v := .int (nI (σ.1 34))) (by decide) rfl (Or.inl q215) dX0_body_40 (np := 43) rfl ?_
      refine g_iconst F (v := (nI 1)) dX0_body_43 (by decide) (np := 44) rfl ?_
      refine g_iaddN F dX0_body_44 (np := 45) rfl ?_
      refine p_put F (Λ' := (Λ.1, upR Λ.2 35 (σ.1 34) (some σ34))) (k := 36) (ty := .int) (S' := XH D (Λ.1, upR Λ.2 35 (σ.1 34) (some σ34)) (hup I σ34 (bCell (Λ.1 0 38) k.toNatClampNeg (σ.1 34))) L (sN (sA σ 35 (σ.1 34) (nI k.toNatClampNeg)) 34 (σ.1 34 + 1))) (by decide) (fun h nm km kd hr hw => new_body hk7 (by omega) hho hIa hr hw) rfl rfl rfl rfl (Or.inl q215) dX0_body_45 (np := 48) rfl ?_
      refine g_aload_n F dX0_body_48 rfl rfl (np := 49) rfl ?_
      refine x_get F (k := 36) (v := .int (nI (σ.1 34 + 1))) (by decide) rfl (Or.inl q215) dX0_body_49 (np := 52) rfl ?_
      refine g_iconst F (v := (nI 1)) dX0_body_52 (by decide) (np := 53) rfl ?_
      refine g_isubN F (by show 1 ≤ σ.1 34 + 1; omega) dX0_body_53 (np := 54) rfl ?_
      refine WG.eqv (st' := [.int (nI (σ.1 34))]) (congrArg (fun z => ([.int z] : List Value)) (show (nI ((σ.1 34 + 1) - 1)) = (nI (σ.1 34)) from by exact congrArg nI (Nat.add_sub_cancel _ _))) rfl ?_
      exact g_iret F hr rfl (Nat.le_of_ble_eq_true rfl) (Nat.le_of_ble_eq_true rfl) dX0_body_54 (fun h hs => by rw [← hT]; exact ⟨_, ((Λ.1, upR Λ.2 35 (σ.1 34) (some σ34)), (hup I σ34 (bCell (Λ.1 0 38) k.toNatClampNeg (σ.1 34)))), ⟨(by unfold rBody; rw [pif_t (bt7.mp c7), if_neg c18]), IE.hup hIa, rfl⟩, rfl, (by unfold gBody; rw [pif_t ⟨bt7.mp c7, c18⟩]; have e : sA σ 35 (σ.1 34) k = sA σ 35 (σ.1 34) (nI k.toNatClampNeg) := congrArg (sA σ 35 (σ.1 34)) hke; rw [e]; exact hs)⟩)
    · refine g_bipush F (v := (-3)) dX0_body_21 (by decide) (np := 23) rfl ?_
      exact g_iret F hr rfl (Nat.le_of_ble_eq_true rfl) (Nat.le_of_ble_eq_true rfl) dX0_body_23 (fun h hs => by rw [← hT]; exact ⟨_, (Λ, I), ⟨(by unfold rBody; rw [pif_t (bt7.mp c7), if_pos c18]), IE.rf I, rfl⟩, rfl, (by unfold gBody; rw [pif_f (fun z => z.2 c18)]; exact hs)⟩)
  · refine g_iconst F (v := (-1)) dX0_body_10 (by decide) (np := 11) rfl ?_
    exact g_iret F hr rfl (Nat.le_of_ble_eq_true rfl) (Nat.le_of_ble_eq_true rfl) dX0_body_11 (fun h hs => by rw [← hT]; exact ⟨_, (Λ, I), ⟨(by unfold rBody; rw [pif_f (fun z => c7 (bt7.mpr z))]), IE.rf I, rfl⟩, rfl, (by unfold gBody; rw [pif_f (fun z => c7 (bt7.mpr z.1))]; exact hs)⟩)

set_option maxRecDepth 100000 in
theorem ct_X0_keep {l : Launch} {D : va_G} {B : Nat} {Λ : LT} {I : AH} {L : LawT} (σ : MSt)  (i : Int32) (b : Int32) (hnb : σ.1 34 ≤ 50) (hbo : boOK σ) : Ct l D ZE B yX0_keep cX0_keep 3 (some .int) 2 43 0 0 [.ref (Λ.1 0 38), .int i, .int b] (XH D Λ I L σ) (RE (fun (r : Int32) (Λ' : LT) => r = rKeep σ i b ∧ Λ'.1 = Λ.1) (fun _ Λ' => XH D Λ' I L (gKeep σ i b))) := by
  refine Ct.of (nL := 3) (lv := [some (.ref (Λ.1 0 38)), some (.int i), some (.int b)]) (by decide) (Nat.le_of_ble_eq_true rfl) stZE 0 rfl ?_
  generalize hT : RE (fun (r : Int32) (Λ' : LT) => r = rKeep σ i b ∧ Λ'.1 = Λ.1) (fun _ Λ' => XH D Λ' I L (gKeep σ i b)) = T
  intro zp ze zs zm zb zt zc F hr hnm
  generalize ([.ref (Λ.1 0 38), .int i, .int b] : List Value).toArray = za at F ⊢
  refine g_iload_n F dX0_keep_0 rfl rfl (np := 1) rfl ?_
  refine g_runS F (rest := []) (ct_X0_isShelf i ) (lw_S q493 q494 q100 q495) hcS_X0_isShelf ⟨Nat.le_of_ble_eq_true rfl, Nat.le_of_ble_eq_true rfl⟩ rfl rfl (Nat.le_of_ble_eq_true rfl) dX0_keep_1 ⟨Nat.le_of_ble_eq_true rfl, Nat.le_of_ble_eq_true rfl⟩ (np := 4) rfl (k_RI ?_)
  refine g_if_eqB F dX0_keep_4 (tp := 20) (by decide) (np := 7) rfl (fun c4 => ?_) (fun c4 => ?_)
  · refine g_iconst F (v := (-1)) dX0_keep_20 (by decide) (np := 21) rfl ?_
    exact g_iret F hr rfl (Nat.le_of_ble_eq_true rfl) (Nat.le_of_ble_eq_true rfl) dX0_keep_21 (fun h hs => by rw [← hT]; exact ⟨_, Λ, ⟨(by unfold rKeep; rw [pif_f (fun z => by obtain ⟨z1, z2⟩ := z; first | exact c4 z1 | exact z2.elim c9 c17)]), rfl⟩, rfl, (by unfold gKeep; rw [pif_f (fun z => by obtain ⟨z1, z2⟩ := z; first | exact c4 z1 | exact z2.elim c9 c17)]; exact hs)⟩)
  · obtain ⟨hil, hie⟩ := inN_cl (by decide) c4
    refine WG.eqv (lv' := [some (.ref (Λ.1 0 38)), some (.int (nI (i.toNatClampNeg))), some (.int b)]) rfl (congrArg (fun z => ([some (.ref (Λ.1 0 38)), some (.int z), some (.int b)] : List (Option Value))) (show i = (nI (i.toNatClampNeg)) from by exact hie)) ?_
    refine g_iload_n F dX0_keep_7 rfl rfl (np := 8) rfl ?_
    have J22 : (keepP (σ.1 34) b) → WG zp l ze ({ frames := 2, cells := 0, slots := 0, locals := 43 } : Room) zs zm za zb zt zc D B 3 (MQ zb (QT D B T) za zs 0 0 (zA B)) (XH D Λ I L σ) 0 0 22 [some (.ref (Λ.1 0 38)), some (.int (nI (i.toNatClampNeg))), some (.int b)] [] := by
      intro  hkp
      refine WG.ex (fun nm0 => ?_)
      refine WG.ex (fun km0 => ?_)
      refine WG.ex (fun kd0 => ?_)
      refine WG.pr (fun hXR => ?_)
      refine g_aload_n F dX0_keep_22 rfl rfl (np := 23) rfl ?_
      refine w_get F (k := 37) (v := .ref (Λ.1 0 37)) (by decide) rfl (Or.inl q216) dX0_keep_23 (np := 26) rfl ?_
      refine g_iload_n F dX0_keep_26 rfl rfl (np := 27) rfl ?_
      refine g_iload_n F dX0_keep_27 rfl rfl (np := 28) rfl ?_
      refine g_if_ge F dX0_keep_28 (tp := 35) (by decide) (np := 31) rfl (fun c28 => ?_) (fun c28 => ?_)
      · have hbn : inN b (σ.1 34) := hkp.resolve_left (fun z => by rw [z] at c28; revert c28; decide)
        obtain ⟨hbl, hbe⟩ := inN_cl (by omega) hbn
        obtain ⟨ba, hba, hbI⟩ := hXR.2.2.2.2.1 b.toNatClampNeg hbl
        have hkd7 : kdN (hid σ nm0 km0 kd0) b.toNatClampNeg ≤ 7 := by obtain ⟨kk, h1, h2⟩ := hbo.2 _ hbl; show (σ.2.1 35 b.toNatClampNeg).toNatClampNeg ≤ 7; rw [h2, nI_clamp (by omega)]; exact h1
        refine WG.eqv (lv' := [some (.ref (Λ.1 0 38)), some (.int (nI (i.toNatClampNeg))), some (.int (nI (b.toNatClampNeg)))]) rfl (congrArg (fun z => ([some (.ref (Λ.1 0 38)), some (.int (nI (i.toNatClampNeg))), some (.int z)] : List (Option Value))) (show b = (nI (b.toNatClampNeg)) from by exact hbe)) ?_
        refine g_aload_n F dX0_keep_35 rfl rfl (np := 36) rfl ?_
        refine w_get F (k := 35) (v := .ref (Λ.1 0 35)) (by decide) rfl (Or.inl q214) dX0_keep_36 (np := 39) rfl ?_
        refine g_iload_n F dX0_keep_39 rfl rfl (np := 40) rfl ?_
        refine w_ald F (k := 35) (i := b.toNatClampNeg) (n := 50) (t0 := 8) (v := some ba) rfl rfl (by decide) (by decide) (by omega) rfl hba dX0_keep_40 (np := 41) rfl ?_
        refine w_astH F (i := i.toNatClampNeg) hbI hkd7 (by omega) rfl dX0_keep_41 (np := 42) rfl ?_
        refine WG.weak (S' := XH D (Λ.1, upR Λ.2 37 (i.toNatClampNeg) (some ba)) I L (sA (sA σ 38 i.toNatClampNeg (nI (10 + b.toNatClampNeg))) 39 i.toNatClampNeg 0)) (fun h hs => keep_close (by omega) hnb (Or.inr ⟨b.toNatClampNeg, by omega, rfl, hba.symm⟩) hXR hs) ?_
        refine g_iconst F (v := (nI 1)) dX0_keep_42 (by decide) (np := 43) rfl ?_
        exact g_iret F hr rfl (Nat.le_of_ble_eq_true rfl) (Nat.le_of_ble_eq_true rfl) dX0_keep_43 (fun h hs => by rw [← hT]; exact ⟨_, (Λ.1, upR Λ.2 37 (i.toNatClampNeg) (some ba)), ⟨(by unfold rKeep; rw [pif_t ⟨c4, hkp⟩]; rfl), rfl⟩, rfl, (by unfold gKeep; rw [pif_t ⟨c4, hkp⟩]; rw [if_neg (by first | exact Int32.not_lt.mpr c28 | exact c28), show nI 10 + b = nI (10 + b.toNatClampNeg) from by rw [hbe, ← nI_add]; simp only [nI_clamp (show b.toNatClampNeg < 2 ^ 31 by omega)]]; exact hs)⟩)
      · refine g_null F dX0_keep_31 (np := 32) rfl ?_
        refine g_goto F dX0_keep_32 (np := 41) (by decide) ?_
        refine w_astHN F (i := i.toNatClampNeg) (by omega) rfl dX0_keep_41 (np := 42) rfl ?_
        refine WG.weak (S' := XH D (Λ.1, upR Λ.2 37 (i.toNatClampNeg) none) I L (sA (sA σ 38 i.toNatClampNeg (-1)) 39 i.toNatClampNeg 0)) (fun h hs => keep_close (by omega) hnb (Or.inl ⟨rfl, rfl⟩) hXR hs) ?_
        refine g_iconst F (v := (nI 1)) dX0_keep_42 (by decide) (np := 43) rfl ?_
        exact g_iret F hr rfl (Nat.le_of_ble_eq_true rfl) (Nat.le_of_ble_eq_true rfl) dX0_keep_43 (fun h hs => by rw [← hT]; exact ⟨_, (Λ.1, upR Λ.2 37 (i.toNatClampNeg) none), ⟨(by unfold rKeep; rw [pif_t ⟨c4, hkp⟩]; rfl), rfl⟩, rfl, (by unfold gKeep; rw [pif_t ⟨c4, hkp⟩]; rw [if_pos (by first | exact Int32.not_le.mp c28 | exact c28)]; exact hs)⟩)
    refine g_iconst F (v := (-1)) dX0_keep_8 (by decide) (np := 9) rfl ?_
    refine g_icmp_eq F dX0_keep_9 (tp := 22) (by decide) (np := 12) rfl (fun c9 => ?_) (fun c9 => ?_)
    · exact J22  (by first | exact Or.inl c9 | exact Or.inr c17)
    · refine g_aload_n F dX0_keep_12 rfl rfl (np := 13) rfl ?_
      refine g_iload_n F dX0_keep_13 rfl rfl (np := 14) rfl ?_
      refine g_runV F (C := RX0) (ci := 0) (T0 := TX0) (N := 38) (rest := []) (ct_X0_isBody σ b (by omega)) (lw_V q1176 q1178 qs51 q100 q1179) hcV_X0_isBody ⟨Nat.le_of_ble_eq_true rfl, Nat.le_of_ble_eq_true rfl⟩ rfl (fun h hs => hs.obj) rfl rfl (Nat.le_of_ble_eq_true rfl) dX0_keep_14 ⟨Nat.le_of_ble_eq_true rfl, Nat.le_of_ble_eq_true rfl⟩ (np := 17) rfl (k_RI ?_)
      refine g_if_neB F dX0_keep_17 (tp := 22) (by decide) (np := 20) rfl (fun c17 => ?_) (fun c17 => ?_)
      · exact J22  (by first | exact Or.inl c9 | exact Or.inr c17)
      · refine g_iconst F (v := (-1)) dX0_keep_20 (by decide) (np := 21) rfl ?_
        exact g_iret F hr rfl (Nat.le_of_ble_eq_true rfl) (Nat.le_of_ble_eq_true rfl) dX0_keep_21 (fun h hs => by rw [← hT]; exact ⟨_, Λ, ⟨(by unfold rKeep; rw [pif_f (fun z => by obtain ⟨z1, z2⟩ := z; first | exact c4 z1 | exact z2.elim c9 c17)]), rfl⟩, rfl, (by unfold gKeep; rw [pif_f (fun z => by obtain ⟨z1, z2⟩ := z; first | exact c4 z1 | exact z2.elim c9 c17)]; exact hs)⟩)

set_option maxRecDepth 100000 in
theorem ct_X0_act {l : Launch} {D : va_G} {B : Nat} {Λ : LT} {I : AH} {L : LawT} (σ : MSt)  (b : Int32) (a : Int32) (x : Int32) (hbo : boOK σ) : Ct l D ZE B yX0_act cX0_act 6 (some .int) 7 150 0 0 [.ref (Λ.1 0 38), .int b, .int a, .int x] (XH D Λ I L σ) (RI (rAct σ b a x) (XH D Λ I L (gAct σ b a))) := by
  refine Ct.of (nL := 6) (lv := [some (.ref (Λ.1 0 38)), some (.int b), some (.int a), some (.int x), none, none]) (by decide) (Nat.le_of_ble_eq_true rfl) stZE 2 rfl ?_
  generalize hT : RI (rAct σ b a x) (XH D Λ I L (gAct σ b a)) = T
  intro zp ze zs zm zb zt zc F hr hnm
  generalize ([.ref (Λ.1 0 38), .int b, .int a, .int x] : List Value).toArray = za at F ⊢
  obtain ⟨hb50, hbk⟩ := hbo
  refine g_aload_n F dX0_act_0 rfl rfl (np := 1) rfl ?_
  refine g_iconst F (v := (nI 0)) dX0_act_1 (by decide) (np := 2) rfl ?_
  refine x_put F (k := 33) (ty := .int) (by decide) (PutXH.ofN (n := 36) (x := 0) (fun _ _ _ => rfl) rfl) rfl rfl rfl rfl (Or.inl q212) dX0_act_2 (np := 5) rfl ?_
  refine g_aload_n F dX0_act_5 rfl rfl (np := 6) rfl ?_
  refine g_iload_n F dX0_act_6 rfl rfl (np := 7) rfl ?_
  refine g_runV F (C := RX0) (ci := 0) (T0 := TX0) (N := 38) (rest := []) (ct_X0_isBody (sN σ 36 0) b (by show σ.1 34 < 2 ^ 30; omega)) (lw_V q1176 q1178 qs51 q100 q1179) hcV_X0_isBody ⟨Nat.le_of_ble_eq_true rfl, Nat.le_of_ble_eq_true rfl⟩ rfl (fun h hs => hs.obj) rfl rfl (Nat.le_of_ble_eq_true rfl) dX0_act_7 ⟨Nat.le_of_ble_eq_true rfl, Nat.le_of_ble_eq_true rfl⟩ (np := 10) rfl (k_RI ?_)
  refine g_if_eqB F dX0_act_10 (tp := 22) (by decide) (np := 13) rfl (fun c10 => ?_) (fun c10 => ?_)
  · refine g_iconst F (v := (nI 0)) dX0_act_22 (by decide) (np := 23) rfl ?_
    have hσ : ((sN σ 36 0)) = (gAct σ b a) := by unfold gAct; rw [pif_f (fun z => by obtain ⟨z1, z2⟩ := z; first | exact c10 z1 | exact c19 (bt3.mpr z2))]
    have hv : nI (0) = rAct σ b a x := by unfold rAct; rw [pif_f (fun z => by obtain ⟨z1, z2⟩ := z; first | exact c10 z1 | exact c19 (bt3.mpr z2))]; rfl
    exact g_iret F hr rfl (Nat.le_of_ble_eq_true rfl) (Nat.le_of_ble_eq_true rfl) dX0_act_23 (fun h hs => by rw [← hT]; exact ⟨congrArg (fun z => some (Value.int z)) hv, (hσ ▸ hs)⟩)
  · refine g_iload_n F dX0_act_13 rfl rfl (np := 14) rfl ?_
    refine g_iconst F (v := (nI 0)) dX0_act_14 (by decide) (np := 15) rfl ?_
    refine g_iconst F (v := (nI 3)) dX0_act_15 (by decide) (np := 16) rfl ?_
    refine g_runS F (rest := []) (ct_X0_in a (nI (0)) (nI (3)) ) (lw_S q298 q299 q100 q300) hcS_X0_in ⟨Nat.le_of_ble_eq_true rfl, Nat.le_of_ble_eq_true rfl⟩ rfl rfl (Nat.le_of_ble_eq_true rfl) dX0_act_16 ⟨Nat.le_of_ble_eq_true rfl, Nat.le_of_ble_eq_true rfl⟩ (np := 19) rfl (k_RI ?_)
    refine g_if_neB F dX0_act_19 (tp := 24) (by decide) (np := 22) rfl (fun c19 => ?_) (fun c19 => ?_)
    · obtain ⟨hbl, hbe⟩ := inN_cl (n := σ.1 34) (by omega) c10
      obtain ⟨kk, hkk, hek⟩ := hbk _ hbl
      have hkd7 : kdN σ b.toNatClampNeg ≤ 7 := by unfold kdN; rw [hek, nI_clamp (by omega)]; exact hkk
      obtain ⟨hal, hae⟩ := inN_cl (by decide) (bt3.mp c19)
      refine WG.eqv (lv' := [some (.ref (Λ.1 0 38)), some (.int (nI (b.toNatClampNeg))), some (.int a), some (.int x), none, none]) rfl (congrArg (fun z => ([some (.ref (Λ.1 0 38)), some (.int z), some (.int a), some (.int x), none, none] : List (Option Value))) (show b = (nI (b.toNatClampNeg)) from by exact hbe)) ?_
      refine WG.eqv (lv' := [some (.ref (Λ.1 0 38)), some (.int (nI (b.toNatClampNeg))), some (.int (nI (a.toNatClampNeg))), some (.int x), none, none]) rfl (congrArg (fun z => ([some (.ref (Λ.1 0 38)), some (.int (nI (b.toNatClampNeg))), some (.int z), some (.int x), none, none] : List (Option Value))) (show a = (nI (a.toNatClampNeg)) from by exact hae)) ?_
      refine WG.obt (fun h hs => XH.bod hs (show b.toNatClampNeg < (sN σ 36 0).1 34 from hbl)) (fun hcx => ?_)
      obtain ⟨ba, hba, hbI⟩ := hcx
      refine g_aload_n F dX0_act_24 rfl rfl (np := 25) rfl ?_
      refine x_get F (k := 35) (v := .ref (Λ.1 0 35)) (by decide) rfl (Or.inl q214) dX0_act_25 (np := 28) rfl ?_
      refine g_iload_n F dX0_act_28 rfl rfl (np := 29) rfl ?_
      refine x_ald F (k := 35) (i := b.toNatClampNeg) (n := 50) (t0 := 8) (v := some ba) rfl (fun _ _ _ => rfl) (by decide) (by decide) (by omega) rfl (fun _ _ _ _ => hba) dX0_act_29 (np := 30) rfl ?_
      refine g_astore F (lv' := [some (.ref (Λ.1 0 38)), some (.int (nI (b.toNatClampNeg))), some (.int (nI (a.toNatClampNeg))), some (.int x), some (.ref (ba)), none]) dX0_act_30 (by decide) rfl rfl (np := 32) rfl ?_
      refine g_iload_n F dX0_act_32 rfl rfl (np := 33) rfl ?_
      refine g_if_neN F (by omega) dX0_act_33 (tp := 49) (by decide) (np := 36) rfl (fun c33 => ?_) (fun c33 => ?_)
      · refine g_iload_n F dX0_act_49 rfl rfl (np := 50) rfl ?_
        refine g_iconst F (v := (nI 3)) dX0_act_50 (by decide) (np := 51) rfl ?_
        refine g_icmp_neN F (by omega) (by decide) dX0_act_51 (tp := 67) (by decide) (np := 54) rfl (fun c51 => ?_) (fun c51 => ?_)
        · refine g_iload_n F dX0_act_67 rfl rfl (np := 68) rfl ?_
          refine g_iconst F (v := (nI 1)) dX0_act_68 (by decide) (np := 69) rfl ?_
          refine g_icmp_neN F (by omega) (by decide) dX0_act_69 (tp := 81) (by decide) (np := 72) rfl (fun c69 => ?_) (fun c69 => ?_)
          · refine g_aload F dX0_act_81 rfl (np := 83) rfl ?_
            refine g_iload_n F dX0_act_83 rfl rfl (np := 84) rfl ?_
            refine gb_comesDown F (rest := []) (kd := kdN σ b.toNatClampNeg) (b := b.toNatClampNeg) q1318 hkd7 (by show 0 ≤ 900; omega) hbI ⟨Nat.le_of_ble_eq_true rfl, Nat.le_of_ble_eq_true rfl⟩ (Nat.le_of_ble_eq_true rfl) dX0_act_84 ⟨Nat.le_of_ble_eq_true rfl, Nat.le_of_ble_eq_true rfl⟩ (np := 87) rfl ?_
            have hσ : (logS ((sN σ 36 0)) (faL (kdN σ b.toNatClampNeg) (kdN σ b.toNatClampNeg))) = (gAct σ b a) := by unfold gAct; rw [pif_t ⟨c10, bt3.mp c19⟩]; unfold actL; first | (rw [if_neg c33, if_pos c69]; done) | (rw [if_neg c33, if_neg c69, if_pos (by omega)]; done)
            have hv : faV (kdN σ b.toNatClampNeg) (kdN σ b.toNatClampNeg) b.toNatClampNeg x = rAct σ b a x := by unfold rAct; rw [pif_t ⟨c10, bt3.mp c19⟩]; unfold actV; first | (rw [if_neg c33, if_pos c69]; done) | (rw [if_neg c33, if_neg c69, if_pos (by omega)]; done)
            exact g_iret F hr rfl (Nat.le_of_ble_eq_true rfl) (Nat.le_of_ble_eq_true rfl) dX0_act_87 (fun h hs => by rw [← hT]; exact ⟨congrArg (fun z => some (Value.int z)) hv, (hσ ▸ hs)⟩)
          · refine g_aload F dX0_act_72 rfl (np := 74) rfl ?_
            refine g_iload_n F dX0_act_74 rfl rfl (np := 75) rfl ?_
            refine gb_builds F (rest := []) (kd := kdN σ b.toNatClampNeg) (b := b.toNatClampNeg) q1317 hkd7 (by show 0 ≤ 900; omega) hbI ⟨Nat.le_of_ble_eq_true rfl, Nat.le_of_ble_eq_true rfl⟩ (Nat.le_of_ble_eq_true rfl) dX0_act_75 ⟨Nat.le_of_ble_eq_true rfl, Nat.le_of_ble_eq_true rfl⟩ (np := 78) rfl ?_
            refine g_goto F dX0_act_78 (np := 87) (by decide) ?_
            have hσ : (logS ((sN σ 36 0)) (buL (kdN σ b.toNatClampNeg) (kdN σ b.toNatClampNeg))) = (gAct σ b a) := by unfold gAct; rw [pif_t ⟨c10, bt3.mp c19⟩]; unfold actL; first | (rw [if_neg c33, if_pos c69]; done) | (rw [if_neg c33, if_neg c69, if_pos (by omega)]; done)
            have hv : buV (kdN σ b.toNatClampNeg) (kdN σ b.toNatClampNeg) b.toNatClampNeg x = rAct σ b a x := by unfold rAct; rw [pif_t ⟨c10, bt3.mp c19⟩]; unfold actV; first | (rw [if_neg c33, if_pos c69]; done) | (rw [if_neg c33, if_neg c69, if_pos (by omega)]; done)
            exact g_iret F hr rfl (Nat.le_of_ble_eq_true rfl) (Nat.le_of_ble_eq_true rfl) dX0_act_87 (fun h hs => by rw [← hT]; exact ⟨congrArg (fun z => some (Value.int z)) hv, (hσ ▸ hs)⟩)
        · refine g_aload F dX0_act_54 rfl (np := 56) rfl ?_
          refine g_astore F (lv' := [some (.ref (Λ.1 0 38)), some (.int (nI (b.toNatClampNeg))), some (.int (nI (a.toNatClampNeg))), some (.int x), some (.ref (ba)), some (.ref (ba))]) dX0_act_56 (by decide) rfl rfl (np := 58) rfl ?_
          refine g_aload F dX0_act_58 rfl (np := 60) rfl ?_
          refine g_iload_n F dX0_act_60 rfl rfl (np := 61) rfl ?_
          refine gb_tellsF F (rest := []) (kd := kdN σ b.toNatClampNeg) (b := b.toNatClampNeg) q1226 hkd7 (by show 0 ≤ 900; omega) hbI ⟨Nat.le_of_ble_eq_true rfl, Nat.le_of_ble_eq_true rfl⟩ (Nat.le_of_ble_eq_true rfl) dX0_act_61 ⟨Nat.le_of_ble_eq_true rfl, Nat.le_of_ble_eq_true rfl⟩ (np := 66) rfl ?_
          have hσ : (logS ((sN σ 36 0)) (teL (kdN σ b.toNatClampNeg) (kdN σ b.toNatClampNeg))) = (gAct σ b a) := by unfold gAct; rw [pif_t ⟨c10, bt3.mp c19⟩]; unfold actL; rw [if_neg c33, if_neg (by omega), if_neg (by omega)]
          have hv : teV (kdN σ b.toNatClampNeg) (kdN σ b.toNatClampNeg) b.toNatClampNeg x = rAct σ b a x := by unfold rAct; rw [pif_t ⟨c10, bt3.mp c19⟩]; unfold actV; rw [if_neg c33, if_neg (by omega), if_neg (by omega)]
          exact g_iret F hr rfl (Nat.le_of_ble_eq_true rfl) (Nat.le_of_ble_eq_true rfl) dX0_act_66 (fun h hs => by rw [← hT]; exact ⟨congrArg (fun z => some (Value.int z)) hv, (hσ ▸ hs)⟩)
      · refine g_aload F dX0_act_36 rfl (np := 38) rfl ?_
        refine g_astore F (lv' := [some (.ref (Λ.1 0 38)), some (.int (nI (b.toNatClampNeg))), some (.int (nI (a.toNatClampNeg))), some (.int x), some (.ref (ba)), some (.ref (ba))]) dX0_act_38 (by decide) rfl rfl (np := 40) rfl ?_
        refine g_aload F dX0_act_40 rfl (np := 42) rfl ?_
        refine g_iload_n F dX0_act_42 rfl rfl (np := 43) rfl ?_
        refine gb_swearsF F (rest := []) (kd := kdN σ b.toNatClampNeg) (b := b.toNatClampNeg) q1181 hkd7 (by show 0 ≤ 900; omega) hbI ⟨Nat.le_of_ble_eq_true rfl, Nat.le_of_ble_eq_true rfl⟩ (Nat.le_of_ble_eq_true rfl) dX0_act_43 ⟨Nat.le_of_ble_eq_true rfl, Nat.le_of_ble_eq_true rfl⟩ (np := 48) rfl ?_
        have hσ : (logS ((sN σ 36 0)) (swL (kdN σ b.toNatClampNeg))) = (gAct σ b a) := by unfold gAct; rw [pif_t ⟨c10, bt3.mp c19⟩]; unfold actL; rw [if_pos c33]
        have hv : swV (kdN σ b.toNatClampNeg) b.toNatClampNeg x = rAct σ b a x := by unfold rAct; rw [pif_t ⟨c10, bt3.mp c19⟩]; unfold actV; rw [if_pos c33]
        exact g_iret F hr rfl (Nat.le_of_ble_eq_true rfl) (Nat.le_of_ble_eq_true rfl) dX0_act_48 (fun h hs => by rw [← hT]; exact ⟨congrArg (fun z => some (Value.int z)) hv, (hσ ▸ hs)⟩)
    · refine g_iconst F (v := (nI 0)) dX0_act_22 (by decide) (np := 23) rfl ?_
      have hσ : ((sN σ 36 0)) = (gAct σ b a) := by unfold gAct; rw [pif_f (fun z => by obtain ⟨z1, z2⟩ := z; first | exact c10 z1 | exact c19 (bt3.mpr z2))]
      have hv : nI (0) = rAct σ b a x := by unfold rAct; rw [pif_f (fun z => by obtain ⟨z1, z2⟩ := z; first | exact c10 z1 | exact c19 (bt3.mpr z2))]; rfl
      exact g_iret F hr rfl (Nat.le_of_ble_eq_true rfl) (Nat.le_of_ble_eq_true rfl) dX0_act_23 (fun h hs => by rw [← hT]; exact ⟨congrArg (fun z => some (Value.int z)) hv, (hσ ▸ hs)⟩)
