/-! WALKS (printed by walk.py): at, put, at, put, at, put, at, put, at, put, size -/
set_option maxRecDepth 100000
set_option maxRecDepth 100000 in
theorem ct_X24_at {l : Launch} {D : va_G} {B : Nat} {Λ : LT} {I : AH} {L : LawT} (σ : MSt)  (sh : Nat) (i : Nat) (hrk : rowK σ sh = some 0) (h60 : lenN σ sh ≤ 60) (hi : i < lenN σ sh) : Ct l D ZE B yX24_at cX24_at 2 (some .long) 0 0 0 0 [.ref (Λ.1 3 sh), .int (nI i)] (XH D Λ I L σ) (RL (rowV 0 (σ.2.2 (60 * sh + i))) (XH D Λ I L σ)) := by
  refine Ct.of (nL := 2) (lv := [some (.ref (Λ.1 3 sh)), some (.int (nI i))]) (by decide) (Nat.le_of_ble_eq_true rfl) stZE 0 rfl ?_
  generalize hT : RL (rowV 0 (σ.2.2 (60 * sh + i))) (XH D Λ I L σ) = T
  intro zp ze zs zm zb zt zc F hr hnm
  generalize ([.ref (Λ.1 3 sh), .int (nI i)] : List Value).toArray = za at F ⊢
  refine g_aload_n F dX24_at_0 rfl rfl (np := 1) rfl ?_
  refine g_getL F in_X24 (ci := 24) rfl 0 (by decide) rfl (Or.inl q1356) (v := .ref (Λ.1 4 sh)) (fun h hs => ⟨_, XH.rowC hs hrk, rfl⟩) dX24_at_1 (np := 4) rfl ?_
  refine g_iload_n F dX24_at_4 rfl rfl (np := 5) rfl ?_
  refine g_bald F (v := (σ.2.2 (60 * sh + i)).toInt32) (fun h hs => ⟨_, _, XH.itemC hs hrk, (m_in (L := lenN σ sh) (by omega) hi rfl).1, by rw [(m_in (L := lenN σ sh) (by omega) hi rfl).2]; show (rowF σ sh i).toInt32 = _; rw [rowF_at (by omega)]⟩) dX24_at_5 (np := 6) rfl ?_
  refine g_i2l F dX24_at_6 (np := 7) rfl ?_
  have hv : (((σ.2.2 (60 * sh + i)).toInt32).toInt64) = (rowV 0 (σ.2.2 (60 * sh + i))) := by unfold rowV; rw [if_neg (by decide), if_neg (by decide)]
  exact g_lret F hr (Nat.le_of_ble_eq_true rfl) (Nat.le_of_ble_eq_true rfl) dX24_at_7 (fun h hs => by rw [← hT]; exact ⟨congrArg (fun z => some (Value.long z)) hv, hs⟩)

set_option maxRecDepth 100000 in
theorem ct_X24_at_x {l : Launch} {D : va_G} {B : Nat} {Λ : LT} {I : AH} {L : LawT} (σ : MSt)  (sh : Nat) (i : Int32) (hrk : rowK σ sh = some 0) (h60 : lenN σ sh ≤ 60) (hi : ¬ inN i (lenN σ sh)) : CtX l D B yX24_at cX24_at 2 (some .long) 8 10340 3 910 [.ref (Λ.1 3 sh), .int i] (XH D Λ I L σ) "java/lang/ArrayIndexOutOfBoundsException" (XH D Λ I L σ) := by
  refine CtX.of (nL := 2) (lv := [some (.ref (Λ.1 3 sh)), some (.int i)]) (by decide) (Nat.le_of_ble_eq_true rfl) 0 rfl ?_
  intro zp ze zs zm zb zt zc F hZ hnm hnt
  generalize ([.ref (Λ.1 3 sh), .int i] : List Value).toArray = za at F ⊢
  refine g_aload_n F dX24_at_0 rfl rfl (np := 1) rfl ?_
  refine g_getL F in_X24 (ci := 24) rfl 0 (by decide) rfl (Or.inl q1356) (v := .ref (Λ.1 4 sh)) (fun h hs => ⟨_, XH.rowC hs hrk, rfl⟩) dX24_at_1 (np := 4) rfl ?_
  refine g_iload_n F dX24_at_4 rfl rfl (np := 5) rfl ?_
  refine z_bald F hZ ⟨(Nat.le_of_ble_eq_true rfl), (Nat.le_of_ble_eq_true rfl), (Nat.le_of_ble_eq_true rfl), (Nat.le_of_ble_eq_true rfl)⟩ (by decide) (n := lenN σ sh) (by omega) (vin_out h60 hi) (fun h hs => ⟨_, XH.itemC hs hrk⟩) dX24_at_5 ?_
  exact z_out F hnt (Nat.le_of_ble_eq_true rfl) (Nat.le_of_ble_eq_true rfl) (fun h hs => hs)

set_option maxRecDepth 100000 in
theorem ct_X24_put {l : Launch} {D : va_G} {B : Nat} {Λ : LT} {I : AH} {L : LawT} (σ : MSt)  (sh : Nat) (i : Nat) (v : Int64) (hrk : rowK σ sh = some 0) (h60 : lenN σ sh ≤ 60) (hi : i < lenN σ sh) : Ct l D ZE B yX24_put cX24_put 4 (some .boolean) 0 0 0 0 [.ref (Λ.1 3 sh), .int (nI i), .long (v)] (XH D Λ I L σ) (RI (nI (1)) (XH D Λ I L (sR σ (60 * sh + i) (sKept (nI 0) v)))) := by
  refine Ct.of (nL := 4) (lv := [some (.ref (Λ.1 3 sh)), some (.int (nI i)), some (.long (v)), none]) (by decide) (Nat.le_of_ble_eq_true rfl) stZE 0 rfl ?_
  generalize hT : RI (nI (1)) (XH D Λ I L (sR σ (60 * sh + i) (sKept (nI 0) v))) = T
  intro zp ze zs zm zb zt zc F hr hnm
  generalize ([.ref (Λ.1 3 sh), .int (nI i), .long (v)] : List Value).toArray = za at F ⊢
  refine g_aload_n F dX24_put_0 rfl rfl (np := 1) rfl ?_
  refine g_getL F in_X24 (ci := 24) rfl 0 (by decide) rfl (Or.inl q1356) (v := .ref (Λ.1 4 sh)) (fun h hs => ⟨_, XH.rowC hs hrk, rfl⟩) dX24_put_1 (np := 4) rfl ?_
  refine g_iload_n F dX24_put_4 rfl rfl (np := 5) rfl ?_
  refine g_lload_n F dX24_put_5 rfl rfl (np := 6) rfl ?_
  refine g_l2i F dX24_put_6 (np := 7) rfl ?_
  refine g_i2b F dX24_put_7 (np := 8) rfl ?_
  refine g_bast F (S' := XH D Λ I L (sR σ (60 * sh + i) ((v.toInt32.toInt8.toInt32).toInt64))) (fun h hs => ⟨_, _, XH.itemC hs hrk, (m_in (L := lenN σ sh) (by omega) hi rfl).1, row_put hs hrk (by omega) (by rw [(m_in (L := lenN σ sh) (by omega) hi rfl).2]; exact it_i (by omega) (by rw [i64i32]; exact (i8i8 _).symm) rfl)⟩) dX24_put_8 (np := 9) rfl ?_
  refine g_iconst F (v := (nI 1)) dX24_put_9 (by decide) (np := 10) rfl ?_
  have hσ : (sR σ (60 * sh + i) ((v.toInt32.toInt8.toInt32).toInt64)) = (sR σ (60 * sh + i) (sKept (nI 0) v)) := by unfold sKept; rw [if_pos (by decide)]
  have hv : nI (1) = nI (1) := congrArg nI (by rfl)
  exact g_iret F hr rfl (Nat.le_of_ble_eq_true rfl) (Nat.le_of_ble_eq_true rfl) dX24_put_10 (fun h hs => by rw [← hT]; exact ⟨congrArg (fun z => some (Value.int z)) hv, (hσ ▸ hs)⟩)

set_option maxRecDepth 100000 in
theorem ct_X24_put_x {l : Launch} {D : va_G} {B : Nat} {Λ : LT} {I : AH} {L : LawT} (σ : MSt)  (sh : Nat) (i : Int32) (v : Int64) (hrk : rowK σ sh = some 0) (h60 : lenN σ sh ≤ 60) (hi : ¬ inN i (lenN σ sh)) : CtX l D B yX24_put cX24_put 4 (some .boolean) 8 10340 3 910 [.ref (Λ.1 3 sh), .int i, .long (v)] (XH D Λ I L σ) "java/lang/ArrayIndexOutOfBoundsException" (XH D Λ I L σ) := by
  refine CtX.of (nL := 4) (lv := [some (.ref (Λ.1 3 sh)), some (.int i), some (.long (v)), none]) (by decide) (Nat.le_of_ble_eq_true rfl) 0 rfl ?_
  intro zp ze zs zm zb zt zc F hZ hnm hnt
  generalize ([.ref (Λ.1 3 sh), .int i, .long (v)] : List Value).toArray = za at F ⊢
  refine g_aload_n F dX24_put_0 rfl rfl (np := 1) rfl ?_
  refine g_getL F in_X24 (ci := 24) rfl 0 (by decide) rfl (Or.inl q1356) (v := .ref (Λ.1 4 sh)) (fun h hs => ⟨_, XH.rowC hs hrk, rfl⟩) dX24_put_1 (np := 4) rfl ?_
  refine g_iload_n F dX24_put_4 rfl rfl (np := 5) rfl ?_
  refine g_lload_n F dX24_put_5 rfl rfl (np := 6) rfl ?_
  refine g_l2i F dX24_put_6 (np := 7) rfl ?_
  refine g_i2b F dX24_put_7 (np := 8) rfl ?_
  refine z_bast F hZ ⟨(Nat.le_of_ble_eq_true rfl), (Nat.le_of_ble_eq_true rfl), (Nat.le_of_ble_eq_true rfl), (Nat.le_of_ble_eq_true rfl)⟩ (by decide) (n := lenN σ sh) (by omega) (vin_out h60 hi) (fun h hs => ⟨_, XH.itemC hs hrk⟩) dX24_put_8 ?_
  exact z_out F hnt (Nat.le_of_ble_eq_true rfl) (Nat.le_of_ble_eq_true rfl) (fun h hs => hs)

set_option maxRecDepth 100000 in
theorem ct_X25_at {l : Launch} {D : va_G} {B : Nat} {Λ : LT} {I : AH} {L : LawT} (σ : MSt)  (sh : Nat) (i : Nat) (hrk : rowK σ sh = some 1) (h60 : lenN σ sh ≤ 60) (hi : i < lenN σ sh) : Ct l D ZE B yX25_at cX25_at 2 (some .long) 0 0 0 0 [.ref (Λ.1 3 sh), .int (nI i)] (XH D Λ I L σ) (RL (rowV 1 (σ.2.2 (60 * sh + i))) (XH D Λ I L σ)) := by
  refine Ct.of (nL := 2) (lv := [some (.ref (Λ.1 3 sh)), some (.int (nI i))]) (by decide) (Nat.le_of_ble_eq_true rfl) stZE 0 rfl ?_
  generalize hT : RL (rowV 1 (σ.2.2 (60 * sh + i))) (XH D Λ I L σ) = T
  intro zp ze zs zm zb zt zc F hr hnm
  generalize ([.ref (Λ.1 3 sh), .int (nI i)] : List Value).toArray = za at F ⊢
  refine g_aload_n F dX25_at_0 rfl rfl (np := 1) rfl ?_
  refine g_getL F in_X25 (ci := 25) rfl 0 (by decide) rfl (Or.inl q1366) (v := .ref (Λ.1 4 sh)) (fun h hs => ⟨_, XH.rowC hs hrk, rfl⟩) dX25_at_1 (np := 4) rfl ?_
  refine g_iload_n F dX25_at_4 rfl rfl (np := 5) rfl ?_
  refine g_sald F (v := (σ.2.2 (60 * sh + i)).toInt32) (fun h hs => ⟨_, _, XH.itemC hs hrk, (m_in (L := lenN σ sh) (by omega) hi rfl).1, by rw [(m_in (L := lenN σ sh) (by omega) hi rfl).2]; show (rowF σ sh i).toInt32 = _; rw [rowF_at (by omega)]⟩) dX25_at_5 (np := 6) rfl ?_
  refine g_i2l F dX25_at_6 (np := 7) rfl ?_
  have hv : (((σ.2.2 (60 * sh + i)).toInt32).toInt64) = (rowV 1 (σ.2.2 (60 * sh + i))) := by unfold rowV; rw [if_neg (by decide), if_neg (by decide)]
  exact g_lret F hr (Nat.le_of_ble_eq_true rfl) (Nat.le_of_ble_eq_true rfl) dX25_at_7 (fun h hs => by rw [← hT]; exact ⟨congrArg (fun z => some (Value.long z)) hv, hs⟩)

set_option maxRecDepth 100000 in
theorem ct_X25_at_x {l : Launch} {D : va_G} {B : Nat} {Λ : LT} {I : AH} {L : LawT} (σ : MSt)  (sh : Nat) (i : Int32) (hrk : rowK σ sh = some 1) (h60 : lenN σ sh ≤ 60) (hi : ¬ inN i (lenN σ sh)) : CtX l D B yX25_at cX25_at 2 (some .long) 8 10340 3 910 [.ref (Λ.1 3 sh), .int i] (XH D Λ I L σ) "java/lang/ArrayIndexOutOfBoundsException" (XH D Λ I L σ) := by
  refine CtX.of (nL := 2) (lv := [some (.ref (Λ.1 3 sh)), some (.int i)]) (by decide) (Nat.le_of_ble_eq_true rfl) 0 rfl ?_
  intro zp ze zs zm zb zt zc F hZ hnm hnt
  generalize ([.ref (Λ.1 3 sh), .int i] : List Value).toArray = za at F ⊢
  refine g_aload_n F dX25_at_0 rfl rfl (np := 1) rfl ?_
  refine g_getL F in_X25 (ci := 25) rfl 0 (by decide) rfl (Or.inl q1366) (v := .ref (Λ.1 4 sh)) (fun h hs => ⟨_, XH.rowC hs hrk, rfl⟩) dX25_at_1 (np := 4) rfl ?_
  refine g_iload_n F dX25_at_4 rfl rfl (np := 5) rfl ?_
  refine z_sald F hZ ⟨(Nat.le_of_ble_eq_true rfl), (Nat.le_of_ble_eq_true rfl), (Nat.le_of_ble_eq_true rfl), (Nat.le_of_ble_eq_true rfl)⟩ (by decide) (n := lenN σ sh) (by omega) (vin_out h60 hi) (fun h hs => ⟨_, XH.itemC hs hrk⟩) dX25_at_5 ?_
  exact z_out F hnt (Nat.le_of_ble_eq_true rfl) (Nat.le_of_ble_eq_true rfl) (fun h hs => hs)

set_option maxRecDepth 100000 in
theorem ct_X25_put {l : Launch} {D : va_G} {B : Nat} {Λ : LT} {I : AH} {L : LawT} (σ : MSt)  (sh : Nat) (i : Nat) (v : Int64) (hrk : rowK σ sh = some 1) (h60 : lenN σ sh ≤ 60) (hi : i < lenN σ sh) : Ct l D ZE B yX25_put cX25_put 4 (some .boolean) 0 0 0 0 [.ref (Λ.1 3 sh), .int (nI i), .long (v)] (XH D Λ I L σ) (RI (nI (1)) (XH D Λ I L (sR σ (60 * sh + i) (sKept (nI 1) v)))) := by
  refine Ct.of (nL := 4) (lv := [some (.ref (Λ.1 3 sh)), some (.int (nI i)), some (.long (v)), none]) (by decide) (Nat.le_of_ble_eq_true rfl) stZE 0 rfl ?_
  generalize hT : RI (nI (1)) (XH D Λ I L (sR σ (60 * sh + i) (sKept (nI 1) v))) = T
  intro zp ze zs zm zb zt zc F hr hnm
  generalize ([.ref (Λ.1 3 sh), .int (nI i), .long (v)] : List Value).toArray = za at F ⊢
  refine g_aload_n F dX25_put_0 rfl rfl (np := 1) rfl ?_
  refine g_getL F in_X25 (ci := 25) rfl 0 (by decide) rfl (Or.inl q1366) (v := .ref (Λ.1 4 sh)) (fun h hs => ⟨_, XH.rowC hs hrk, rfl⟩) dX25_put_1 (np := 4) rfl ?_
  refine g_iload_n F dX25_put_4 rfl rfl (np := 5) rfl ?_
  refine g_lload_n F dX25_put_5 rfl rfl (np := 6) rfl ?_
  refine g_l2i F dX25_put_6 (np := 7) rfl ?_
  refine g_i2s F dX25_put_7 (np := 8) rfl ?_
  refine g_sast F (S' := XH D Λ I L (sR σ (60 * sh + i) ((v.toInt32.toInt16.toInt32).toInt64))) (fun h hs => ⟨_, _, XH.itemC hs hrk, (m_in (L := lenN σ sh) (by omega) hi rfl).1, row_put hs hrk (by omega) (by rw [(m_in (L := lenN σ sh) (by omega) hi rfl).2]; exact it_i (by omega) (by rw [i64i32]; exact (i16i16 _).symm) rfl)⟩) dX25_put_8 (np := 9) rfl ?_
  refine g_iconst F (v := (nI 1)) dX25_put_9 (by decide) (np := 10) rfl ?_
  have hσ : (sR σ (60 * sh + i) ((v.toInt32.toInt16.toInt32).toInt64)) = (sR σ (60 * sh + i) (sKept (nI 1) v)) := by unfold sKept; rw [if_neg (by decide), if_pos (by decide)]
  have hv : nI (1) = nI (1) := congrArg nI (by rfl)
  exact g_iret F hr rfl (Nat.le_of_ble_eq_true rfl) (Nat.le_of_ble_eq_true rfl) dX25_put_10 (fun h hs => by rw [← hT]; exact ⟨congrArg (fun z => some (Value.int z)) hv, (hσ ▸ hs)⟩)

set_option maxRecDepth 100000 in
theorem ct_X25_put_x {l : Launch} {D : va_G} {B : Nat} {Λ : LT} {I : AH} {L : LawT} (σ : MSt)  (sh : Nat) (i : Int32) (v : Int64) (hrk : rowK σ sh = some 1) (h60 : lenN σ sh ≤ 60) (hi : ¬ inN i (lenN σ sh)) : CtX l D B yX25_put cX25_put 4 (some .boolean) 8 10340 3 910 [.ref (Λ.1 3 sh), .int i, .long (v)] (XH D Λ I L σ) "java/lang/ArrayIndexOutOfBoundsException" (XH D Λ I L σ) := by
  refine CtX.of (nL := 4) (lv := [some (.ref (Λ.1 3 sh)), some (.int i), some (.long (v)), none]) (by decide) (Nat.le_of_ble_eq_true rfl) 0 rfl ?_
  intro zp ze zs zm zb zt zc F hZ hnm hnt
  generalize ([.ref (Λ.1 3 sh), .int i, .long (v)] : List Value).toArray = za at F ⊢
  refine g_aload_n F dX25_put_0 rfl rfl (np := 1) rfl ?_
  refine g_getL F in_X25 (ci := 25) rfl 0 (by decide) rfl (Or.inl q1366) (v := .ref (Λ.1 4 sh)) (fun h hs => ⟨_, XH.rowC hs hrk, rfl⟩) dX25_put_1 (np := 4) rfl ?_
  refine g_iload_n F dX25_put_4 rfl rfl (np := 5) rfl ?_
  refine g_lload_n F dX25_put_5 rfl rfl (np := 6) rfl ?_
  refine g_l2i F dX25_put_6 (np := 7) rfl ?_
  refine g_i2s F dX25_put_7 (np := 8) rfl ?_
  refine z_sast F hZ ⟨(Nat.le_of_ble_eq_true rfl), (Nat.le_of_ble_eq_true rfl), (Nat.le_of_ble_eq_true rfl), (Nat.le_of_ble_eq_true rfl)⟩ (by decide) (n := lenN σ sh) (by omega) (vin_out h60 hi) (fun h hs => ⟨_, XH.itemC hs hrk⟩) dX25_put_8 ?_
  exact z_out F hnt (Nat.le_of_ble_eq_true rfl) (Nat.le_of_ble_eq_true rfl) (fun h hs => hs)

set_option maxRecDepth 100000 in
theorem ct_X26_at {l : Launch} {D : va_G} {B : Nat} {Λ : LT} {I : AH} {L : LawT} (σ : MSt)  (sh : Nat) (i : Nat) (hrk : rowK σ sh = some 2) (h60 : lenN σ sh ≤ 60) (hi : i < lenN σ sh) : Ct l D ZE B yX26_at cX26_at 2 (some .long) 0 0 0 0 [.ref (Λ.1 3 sh), .int (nI i)] (XH D Λ I L σ) (RL (rowV 2 (σ.2.2 (60 * sh + i))) (XH D Λ I L σ)) := by
  refine Ct.of (nL := 2) (lv := [some (.ref (Λ.1 3 sh)), some (.int (nI i))]) (by decide) (Nat.le_of_ble_eq_true rfl) stZE 0 rfl ?_
  generalize hT : RL (rowV 2 (σ.2.2 (60 * sh + i))) (XH D Λ I L σ) = T
  intro zp ze zs zm zb zt zc F hr hnm
  generalize ([.ref (Λ.1 3 sh), .int (nI i)] : List Value).toArray = za at F ⊢
  refine g_aload_n F dX26_at_0 rfl rfl (np := 1) rfl ?_
  refine g_getL F in_X26 (ci := 26) rfl 0 (by decide) rfl (Or.inl q1377) (v := .ref (Λ.1 4 sh)) (fun h hs => ⟨_, XH.rowC hs hrk, rfl⟩) dX26_at_1 (np := 4) rfl ?_
  refine g_iload_n F dX26_at_4 rfl rfl (np := 5) rfl ?_
  refine g_iald F (v := (σ.2.2 (60 * sh + i)).toInt32) (fun h hs => ⟨_, _, XH.itemC hs hrk, (m_in (L := lenN σ sh) (by omega) hi rfl).1, by rw [(m_in (L := lenN σ sh) (by omega) hi rfl).2]; show (rowF σ sh i).toInt32 = _; rw [rowF_at (by omega)]⟩) dX26_at_5 (np := 6) rfl ?_
  refine g_i2l F dX26_at_6 (np := 7) rfl ?_
  have hv : (((σ.2.2 (60 * sh + i)).toInt32).toInt64) = (rowV 2 (σ.2.2 (60 * sh + i))) := by unfold rowV; rw [if_neg (by decide), if_neg (by decide)]
  exact g_lret F hr (Nat.le_of_ble_eq_true rfl) (Nat.le_of_ble_eq_true rfl) dX26_at_7 (fun h hs => by rw [← hT]; exact ⟨congrArg (fun z => some (Value.long z)) hv, hs⟩)

set_option maxRecDepth 100000 in
theorem ct_X26_at_x {l : Launch} {D : va_G} {B : Nat} {Λ : LT} {I : AH} {L : LawT} (σ : MSt)  (sh : Nat) (i : Int32) (hrk : rowK σ sh = some 2) (h60 : lenN σ sh ≤ 60) (hi : ¬ inN i (lenN σ sh)) : CtX l D B yX26_at cX26_at 2 (some .long) 8 10340 3 910 [.ref (Λ.1 3 sh), .int i] (XH D Λ I L σ) "java/lang/ArrayIndexOutOfBoundsException" (XH D Λ I L σ) := by
  refine CtX.of (nL := 2) (lv := [some (.ref (Λ.1 3 sh)), some (.int i)]) (by decide) (Nat.le_of_ble_eq_true rfl) 0 rfl ?_
  intro zp ze zs zm zb zt zc F hZ hnm hnt
  generalize ([.ref (Λ.1 3 sh), .int i] : List Value).toArray = za at F ⊢
  refine g_aload_n F dX26_at_0 rfl rfl (np := 1) rfl ?_
  refine g_getL F in_X26 (ci := 26) rfl 0 (by decide) rfl (Or.inl q1377) (v := .ref (Λ.1 4 sh)) (fun h hs => ⟨_, XH.rowC hs hrk, rfl⟩) dX26_at_1 (np := 4) rfl ?_
  refine g_iload_n F dX26_at_4 rfl rfl (np := 5) rfl ?_
  refine z_iald F hZ ⟨(Nat.le_of_ble_eq_true rfl), (Nat.le_of_ble_eq_true rfl), (Nat.le_of_ble_eq_true rfl), (Nat.le_of_ble_eq_true rfl)⟩ (by decide) (n := lenN σ sh) (by omega) (vin_out h60 hi) (fun h hs => ⟨_, XH.itemC hs hrk⟩) dX26_at_5 ?_
  exact z_out F hnt (Nat.le_of_ble_eq_true rfl) (Nat.le_of_ble_eq_true rfl) (fun h hs => hs)

set_option maxRecDepth 100000 in
theorem ct_X26_put {l : Launch} {D : va_G} {B : Nat} {Λ : LT} {I : AH} {L : LawT} (σ : MSt)  (sh : Nat) (i : Nat) (v : Int64) (hrk : rowK σ sh = some 2) (h60 : lenN σ sh ≤ 60) (hi : i < lenN σ sh) : Ct l D ZE B yX26_put cX26_put 4 (some .boolean) 0 0 0 0 [.ref (Λ.1 3 sh), .int (nI i), .long (v)] (XH D Λ I L σ) (RI (nI (1)) (XH D Λ I L (sR σ (60 * sh + i) (sKept (nI 2) v)))) := by
  refine Ct.of (nL := 4) (lv := [some (.ref (Λ.1 3 sh)), some (.int (nI i)), some (.long (v)), none]) (by decide) (Nat.le_of_ble_eq_true rfl) stZE 0 rfl ?_
  generalize hT : RI (nI (1)) (XH D Λ I L (sR σ (60 * sh + i) (sKept (nI 2) v))) = T
  intro zp ze zs zm zb zt zc F hr hnm
  generalize ([.ref (Λ.1 3 sh), .int (nI i), .long (v)] : List Value).toArray = za at F ⊢
  refine g_aload_n F dX26_put_0 rfl rfl (np := 1) rfl ?_
  refine g_getL F in_X26 (ci := 26) rfl 0 (by decide) rfl (Or.inl q1377) (v := .ref (Λ.1 4 sh)) (fun h hs => ⟨_, XH.rowC hs hrk, rfl⟩) dX26_put_1 (np := 4) rfl ?_
  refine g_iload_n F dX26_put_4 rfl rfl (np := 5) rfl ?_
  refine g_lload_n F dX26_put_5 rfl rfl (np := 6) rfl ?_
  refine g_l2i F dX26_put_6 (np := 7) rfl ?_
  refine g_iast F (S' := XH D Λ I L (sR σ (60 * sh + i) ((v.toInt32).toInt64))) (fun h hs => ⟨_, _, XH.itemC hs hrk, (m_in (L := lenN σ sh) (by omega) hi rfl).1, row_put hs hrk (by omega) (by rw [(m_in (L := lenN σ sh) (by omega) hi rfl).2]; exact it_i (by omega) (by exact i64i32 _) rfl)⟩) dX26_put_7 (np := 8) rfl ?_
  refine g_iconst F (v := (nI 1)) dX26_put_8 (by decide) (np := 9) rfl ?_
  have hσ : (sR σ (60 * sh + i) ((v.toInt32).toInt64)) = (sR σ (60 * sh + i) (sKept (nI 2) v)) := by unfold sKept; rw [if_neg (by decide), if_neg (by decide), if_pos (by decide)]
  have hv : nI (1) = nI (1) := congrArg nI (by rfl)
  exact g_iret F hr rfl (Nat.le_of_ble_eq_true rfl) (Nat.le_of_ble_eq_true rfl) dX26_put_9 (fun h hs => by rw [← hT]; exact ⟨congrArg (fun z => some (Value.int z)) hv, (hσ ▸ hs)⟩)

set_option maxRecDepth 100000 in
theorem ct_X26_put_x {l : Launch} {D : va_G} {B : Nat} {Λ : LT} {I : AH} {L : LawT} (σ : MSt)  (sh : Nat) (i : Int32) (v : Int64) (hrk : rowK σ sh = some 2) (h60 : lenN σ sh ≤ 60) (hi : ¬ inN i (lenN σ sh)) : CtX l D B yX26_put cX26_put 4 (some .boolean) 8 10340 3 910 [.ref (Λ.1 3 sh), .int i, .long (v)] (XH D Λ I L σ) "java/lang/ArrayIndexOutOfBoundsException" (XH D Λ I L σ) := by
  refine CtX.of (nL := 4) (lv := [some (.ref (Λ.1 3 sh)), some (.int i), some (.long (v)), none]) (by decide) (Nat.le_of_ble_eq_true rfl) 0 rfl ?_
  intro zp ze zs zm zb zt zc F hZ hnm hnt
  generalize ([.ref (Λ.1 3 sh), .int i, .long (v)] : List Value).toArray = za at F ⊢
  refine g_aload_n F dX26_put_0 rfl rfl (np := 1) rfl ?_
  refine g_getL F in_X26 (ci := 26) rfl 0 (by decide) rfl (Or.inl q1377) (v := .ref (Λ.1 4 sh)) (fun h hs => ⟨_, XH.rowC hs hrk, rfl⟩) dX26_put_1 (np := 4) rfl ?_
  refine g_iload_n F dX26_put_4 rfl rfl (np := 5) rfl ?_
  refine g_lload_n F dX26_put_5 rfl rfl (np := 6) rfl ?_
  refine g_l2i F dX26_put_6 (np := 7) rfl ?_
  refine z_iast F hZ ⟨(Nat.le_of_ble_eq_true rfl), (Nat.le_of_ble_eq_true rfl), (Nat.le_of_ble_eq_true rfl), (Nat.le_of_ble_eq_true rfl)⟩ (by decide) (n := lenN σ sh) (by omega) (vin_out h60 hi) (fun h hs => ⟨_, XH.itemC hs hrk⟩) dX26_put_7 ?_
  exact z_out F hnt (Nat.le_of_ble_eq_true rfl) (Nat.le_of_ble_eq_true rfl) (fun h hs => hs)

set_option maxRecDepth 100000 in
theorem ct_X27_at {l : Launch} {D : va_G} {B : Nat} {Λ : LT} {I : AH} {L : LawT} (σ : MSt)  (sh : Nat) (i : Nat) (hrk : rowK σ sh = some 3) (h60 : lenN σ sh ≤ 60) (hi : i < lenN σ sh) : Ct l D ZE B yX27_at cX27_at 2 (some .long) 0 0 0 0 [.ref (Λ.1 3 sh), .int (nI i)] (XH D Λ I L σ) (RL (rowV 3 (σ.2.2 (60 * sh + i))) (XH D Λ I L σ)) := by
  refine Ct.of (nL := 2) (lv := [some (.ref (Λ.1 3 sh)), some (.int (nI i))]) (by decide) (Nat.le_of_ble_eq_true rfl) stZE 0 rfl ?_
  generalize hT : RL (rowV 3 (σ.2.2 (60 * sh + i))) (XH D Λ I L σ) = T
  intro zp ze zs zm zb zt zc F hr hnm
  generalize ([.ref (Λ.1 3 sh), .int (nI i)] : List Value).toArray = za at F ⊢
  refine g_aload_n F dX27_at_0 rfl rfl (np := 1) rfl ?_
  refine g_getL F in_X27 (ci := 27) rfl 0 (by decide) rfl (Or.inl q1387) (v := .ref (Λ.1 4 sh)) (fun h hs => ⟨_, XH.rowC hs hrk, rfl⟩) dX27_at_1 (np := 4) rfl ?_
  refine g_iload_n F dX27_at_4 rfl rfl (np := 5) rfl ?_
  refine g_lald F (v := σ.2.2 (60 * sh + i)) (fun h hs => ⟨_, _, XH.itemC hs hrk, (m_in (L := lenN σ sh) (by omega) hi rfl).1, by rw [(m_in (L := lenN σ sh) (by omega) hi rfl).2]; show (rowF σ sh i) = _; rw [rowF_at (by omega)]⟩) dX27_at_5 (np := 6) rfl ?_
  have hv : (σ.2.2 (60 * sh + i)) = (rowV 3 (σ.2.2 (60 * sh + i))) := by unfold rowV; rw [if_pos rfl]
  exact g_lret F hr (Nat.le_of_ble_eq_true rfl) (Nat.le_of_ble_eq_true rfl) dX27_at_6 (fun h hs => by rw [← hT]; exact ⟨congrArg (fun z => some (Value.long z)) hv, hs⟩)

set_option maxRecDepth 100000 in
theorem ct_X27_at_x {l : Launch} {D : va_G} {B : Nat} {Λ : LT} {I : AH} {L : LawT} (σ : MSt)  (sh : Nat) (i : Int32) (hrk : rowK σ sh = some 3) (h60 : lenN σ sh ≤ 60) (hi : ¬ inN i (lenN σ sh)) : CtX l D B yX27_at cX27_at 2 (some .long) 8 10340 3 910 [.ref (Λ.1 3 sh), .int i] (XH D Λ I L σ) "java/lang/ArrayIndexOutOfBoundsException" (XH D Λ I L σ) := by
  refine CtX.of (nL := 2) (lv := [some (.ref (Λ.1 3 sh)), some (.int i)]) (by decide) (Nat.le_of_ble_eq_true rfl) 0 rfl ?_
  intro zp ze zs zm zb zt zc F hZ hnm hnt
  generalize ([.ref (Λ.1 3 sh), .int i] : List Value).toArray = za at F ⊢
  refine g_aload_n F dX27_at_0 rfl rfl (np := 1) rfl ?_
  refine g_getL F in_X27 (ci := 27) rfl 0 (by decide) rfl (Or.inl q1387) (v := .ref (Λ.1 4 sh)) (fun h hs => ⟨_, XH.rowC hs hrk, rfl⟩) dX27_at_1 (np := 4) rfl ?_
  refine g_iload_n F dX27_at_4 rfl rfl (np := 5) rfl ?_
  refine z_lald F hZ ⟨(Nat.le_of_ble_eq_true rfl), (Nat.le_of_ble_eq_true rfl), (Nat.le_of_ble_eq_true rfl), (Nat.le_of_ble_eq_true rfl)⟩ (by decide) (n := lenN σ sh) (by omega) (vin_out h60 hi) (fun h hs => ⟨_, XH.itemC hs hrk⟩) dX27_at_5 ?_
  exact z_out F hnt (Nat.le_of_ble_eq_true rfl) (Nat.le_of_ble_eq_true rfl) (fun h hs => hs)

set_option maxRecDepth 100000 in
theorem ct_X27_put {l : Launch} {D : va_G} {B : Nat} {Λ : LT} {I : AH} {L : LawT} (σ : MSt)  (sh : Nat) (i : Nat) (v : Int64) (hrk : rowK σ sh = some 3) (h60 : lenN σ sh ≤ 60) (hi : i < lenN σ sh) : Ct l D ZE B yX27_put cX27_put 4 (some .boolean) 0 0 0 0 [.ref (Λ.1 3 sh), .int (nI i), .long (v)] (XH D Λ I L σ) (RI (nI (1)) (XH D Λ I L (sR σ (60 * sh + i) (sKept (nI 3) v)))) := by
  refine Ct.of (nL := 4) (lv := [some (.ref (Λ.1 3 sh)), some (.int (nI i)), some (.long (v)), none]) (by decide) (Nat.le_of_ble_eq_true rfl) stZE 0 rfl ?_
  generalize hT : RI (nI (1)) (XH D Λ I L (sR σ (60 * sh + i) (sKept (nI 3) v))) = T
  intro zp ze zs zm zb zt zc F hr hnm
  generalize ([.ref (Λ.1 3 sh), .int (nI i), .long (v)] : List Value).toArray = za at F ⊢
  refine g_aload_n F dX27_put_0 rfl rfl (np := 1) rfl ?_
  refine g_getL F in_X27 (ci := 27) rfl 0 (by decide) rfl (Or.inl q1387) (v := .ref (Λ.1 4 sh)) (fun h hs => ⟨_, XH.rowC hs hrk, rfl⟩) dX27_put_1 (np := 4) rfl ?_
  refine g_iload_n F dX27_put_4 rfl rfl (np := 5) rfl ?_
  refine g_lload_n F dX27_put_5 rfl rfl (np := 6) rfl ?_
  refine g_last F (S' := XH D Λ I L (sR σ (60 * sh + i) (v))) (fun h hs => ⟨_, _, XH.itemC hs hrk, (m_in (L := lenN σ sh) (by omega) hi rfl).1, row_put hs hrk (by omega) (by rw [(m_in (L := lenN σ sh) (by omega) hi rfl).2]; exact it_l (by omega) rfl)⟩) dX27_put_6 (np := 7) rfl ?_
  refine g_iconst F (v := (nI 1)) dX27_put_7 (by decide) (np := 8) rfl ?_
  have hσ : (sR σ (60 * sh + i) (v)) = (sR σ (60 * sh + i) (sKept (nI 3) v)) := by unfold sKept; rw [if_neg (by decide), if_neg (by decide), if_neg (by decide), if_pos (by decide)]
  have hv : nI (1) = nI (1) := congrArg nI (by rfl)
  exact g_iret F hr rfl (Nat.le_of_ble_eq_true rfl) (Nat.le_of_ble_eq_true rfl) dX27_put_8 (fun h hs => by rw [← hT]; exact ⟨congrArg (fun z => some (Value.int z)) hv, (hσ ▸ hs)⟩)

set_option maxRecDepth 100000 in
theorem ct_X27_put_x {l : Launch} {D : va_G} {B : Nat} {Λ : LT} {I : AH} {L : LawT} (σ : MSt)  (sh : Nat) (i : Int32) (v : Int64) (hrk : rowK σ sh = some 3) (h60 : lenN σ sh ≤ 60) (hi : ¬ inN i (lenN σ sh)) : CtX l D B yX27_put cX27_put 4 (some .boolean) 8 10340 3 910 [.ref (Λ.1 3 sh), .int i, .long (v)] (XH D Λ I L σ) "java/lang/ArrayIndexOutOfBoundsException" (XH D Λ I L σ) := by
  refine CtX.of (nL := 4) (lv := [some (.ref (Λ.1 3 sh)), some (.int i), some (.long (v)), none]) (by decide) (Nat.le_of_ble_eq_true rfl) 0 rfl ?_
  intro zp ze zs zm zb zt zc F hZ hnm hnt
  generalize ([.ref (Λ.1 3 sh), .int i, .long (v)] : List Value).toArray = za at F ⊢
  refine g_aload_n F dX27_put_0 rfl rfl (np := 1) rfl ?_
  refine g_getL F in_X27 (ci := 27) rfl 0 (by decide) rfl (Or.inl q1387) (v := .ref (Λ.1 4 sh)) (fun h hs => ⟨_, XH.rowC hs hrk, rfl⟩) dX27_put_1 (np := 4) rfl ?_
  refine g_iload_n F dX27_put_4 rfl rfl (np := 5) rfl ?_
  refine g_lload_n F dX27_put_5 rfl rfl (np := 6) rfl ?_
  refine z_last F hZ ⟨(Nat.le_of_ble_eq_true rfl), (Nat.le_of_ble_eq_true rfl), (Nat.le_of_ble_eq_true rfl), (Nat.le_of_ble_eq_true rfl)⟩ (by decide) (n := lenN σ sh) (by omega) (vin_out h60 hi) (fun h hs => ⟨_, XH.itemC hs hrk⟩) dX27_put_6 ?_
  exact z_out F hnt (Nat.le_of_ble_eq_true rfl) (Nat.le_of_ble_eq_true rfl) (fun h hs => hs)

set_option maxRecDepth 100000 in
theorem ct_X28_at {l : Launch} {D : va_G} {B : Nat} {Λ : LT} {I : AH} {L : LawT} (σ : MSt)  (sh : Nat) (i : Nat) (hrk : rowK σ sh = some 4) (h60 : lenN σ sh ≤ 60) (hi : i < lenN σ sh) : Ct l D ZE B yX28_at cX28_at 2 (some .long) 0 0 0 0 [.ref (Λ.1 3 sh), .int (nI i)] (XH D Λ I L σ) (RL (rowV 4 (σ.2.2 (60 * sh + i))) (XH D Λ I L σ)) := by
  refine Ct.of (nL := 2) (lv := [some (.ref (Λ.1 3 sh)), some (.int (nI i))]) (by decide) (Nat.le_of_ble_eq_true rfl) stZE 0 rfl ?_
  generalize hT : RL (rowV 4 (σ.2.2 (60 * sh + i))) (XH D Λ I L σ) = T
  intro zp ze zs zm zb zt zc F hr hnm
  generalize ([.ref (Λ.1 3 sh), .int (nI i)] : List Value).toArray = za at F ⊢
  refine g_aload_n F dX28_at_0 rfl rfl (np := 1) rfl ?_
  refine g_getL F in_X28 (ci := 28) rfl 0 (by decide) rfl (Or.inl q1398) (v := .ref (Λ.1 4 sh)) (fun h hs => ⟨_, XH.rowC hs hrk, rfl⟩) dX28_at_1 (np := 4) rfl ?_
  refine g_iload_n F dX28_at_4 rfl rfl (np := 5) rfl ?_
  refine g_zald F (v := (σ.2.2 (60 * sh + i)).toInt32) (fun h hs => ⟨_, _, XH.itemC hs hrk, (m_in (L := lenN σ sh) (by omega) hi rfl).1, by rw [(m_in (L := lenN σ sh) (by omega) hi rfl).2]; show (rowF σ sh i).toInt32 = _; rw [rowF_at (by omega)]⟩) dX28_at_5 (np := 6) rfl ?_
  refine g_if_eq F dX28_at_6 (tp := 13) (by decide) (np := 9) rfl (fun c6 => ?_) (fun c6 => ?_)
  · refine g_lconst F (v := 0) dX28_at_13 (by decide) (np := 14) rfl ?_
    have hv : 0 = (rowV 4 (σ.2.2 (60 * sh + i))) := by unfold rowV; rw [if_neg (by decide), if_pos rfl]; first | rw [if_pos c6] | rw [if_neg c6]
    exact g_lret F hr (Nat.le_of_ble_eq_true rfl) (Nat.le_of_ble_eq_true rfl) dX28_at_14 (fun h hs => by rw [← hT]; exact ⟨congrArg (fun z => some (Value.long z)) hv, hs⟩)
  · refine g_lconst F (v := 1) dX28_at_9 (by decide) (np := 10) rfl ?_
    refine g_goto F dX28_at_10 (np := 14) (by decide) ?_
    have hv : 1 = (rowV 4 (σ.2.2 (60 * sh + i))) := by unfold rowV; rw [if_neg (by decide), if_pos rfl]; first | rw [if_pos c6] | rw [if_neg c6]
    exact g_lret F hr (Nat.le_of_ble_eq_true rfl) (Nat.le_of_ble_eq_true rfl) dX28_at_14 (fun h hs => by rw [← hT]; exact ⟨congrArg (fun z => some (Value.long z)) hv, hs⟩)

set_option maxRecDepth 100000 in
theorem ct_X28_at_x {l : Launch} {D : va_G} {B : Nat} {Λ : LT} {I : AH} {L : LawT} (σ : MSt)  (sh : Nat) (i : Int32) (hrk : rowK σ sh = some 4) (h60 : lenN σ sh ≤ 60) (hi : ¬ inN i (lenN σ sh)) : CtX l D B yX28_at cX28_at 2 (some .long) 8 10340 3 910 [.ref (Λ.1 3 sh), .int i] (XH D Λ I L σ) "java/lang/ArrayIndexOutOfBoundsException" (XH D Λ I L σ) := by
  refine CtX.of (nL := 2) (lv := [some (.ref (Λ.1 3 sh)), some (.int i)]) (by decide) (Nat.le_of_ble_eq_true rfl) 0 rfl ?_
  intro zp ze zs zm zb zt zc F hZ hnm hnt
  generalize ([.ref (Λ.1 3 sh), .int i] : List Value).toArray = za at F ⊢
  refine g_aload_n F dX28_at_0 rfl rfl (np := 1) rfl ?_
  refine g_getL F in_X28 (ci := 28) rfl 0 (by decide) rfl (Or.inl q1398) (v := .ref (Λ.1 4 sh)) (fun h hs => ⟨_, XH.rowC hs hrk, rfl⟩) dX28_at_1 (np := 4) rfl ?_
  refine g_iload_n F dX28_at_4 rfl rfl (np := 5) rfl ?_
  refine z_zald F hZ ⟨(Nat.le_of_ble_eq_true rfl), (Nat.le_of_ble_eq_true rfl), (Nat.le_of_ble_eq_true rfl), (Nat.le_of_ble_eq_true rfl)⟩ (by decide) (n := lenN σ sh) (by omega) (vin_out h60 hi) (fun h hs => ⟨_, XH.itemC hs hrk⟩) dX28_at_5 ?_
  exact z_out F hnt (Nat.le_of_ble_eq_true rfl) (Nat.le_of_ble_eq_true rfl) (fun h hs => hs)

set_option maxRecDepth 100000 in
theorem ct_X28_put {l : Launch} {D : va_G} {B : Nat} {Λ : LT} {I : AH} {L : LawT} (σ : MSt)  (sh : Nat) (i : Nat) (v : Int64) (hrk : rowK σ sh = some 4) (h60 : lenN σ sh ≤ 60) (hi : i < lenN σ sh) : Ct l D ZE B yX28_put cX28_put 4 (some .boolean) 0 0 0 0 [.ref (Λ.1 3 sh), .int (nI i), .long (v)] (XH D Λ I L σ) (RI (nI (1)) (XH D Λ I L (sR σ (60 * sh + i) (sKept (nI 4) v)))) := by
  refine Ct.of (nL := 4) (lv := [some (.ref (Λ.1 3 sh)), some (.int (nI i)), some (.long (v)), none]) (by decide) (Nat.le_of_ble_eq_true rfl) stZE 0 rfl ?_
  generalize hT : RI (nI (1)) (XH D Λ I L (sR σ (60 * sh + i) (sKept (nI 4) v))) = T
  intro zp ze zs zm zb zt zc F hr hnm
  generalize ([.ref (Λ.1 3 sh), .int (nI i), .long (v)] : List Value).toArray = za at F ⊢
  refine g_aload_n F dX28_put_0 rfl rfl (np := 1) rfl ?_
  refine g_getL F in_X28 (ci := 28) rfl 0 (by decide) rfl (Or.inl q1398) (v := .ref (Λ.1 4 sh)) (fun h hs => ⟨_, XH.rowC hs hrk, rfl⟩) dX28_put_1 (np := 4) rfl ?_
  refine g_iload_n F dX28_put_4 rfl rfl (np := 5) rfl ?_
  refine g_lload_n F dX28_put_5 rfl rfl (np := 6) rfl ?_
  refine g_lconst F (v := 0) dX28_put_6 (by decide) (np := 7) rfl ?_
  refine g_lcmp F dX28_put_7 (np := 8) rfl ?_
  refine g_if_eq F dX28_put_8 (tp := 15) (by decide) (np := 11) rfl (fun c8 => ?_) (fun c8 => ?_)
  · refine g_iconst F (v := (nI 0)) dX28_put_15 (by decide) (np := 16) rfl ?_
    refine g_zast F (S' := XH D Λ I L (sR σ (60 * sh + i) (0))) (fun h hs => ⟨_, _, XH.itemC hs hrk, (m_in (L := lenN σ sh) (by omega) hi rfl).1, row_put hs hrk (by omega) (by rw [(m_in (L := lenN σ sh) (by omega) hi rfl).2]; exact it_i (by omega) (by decide) rfl)⟩) dX28_put_16 (np := 17) rfl ?_
    refine g_iconst F (v := (nI 1)) dX28_put_17 (by decide) (np := 18) rfl ?_
    have hσ : (sR σ (60 * sh + i) (0)) = (sR σ (60 * sh + i) (sKept (nI 4) v)) := by unfold sKept; rw [if_neg (by decide), if_neg (by decide), if_neg (by decide), if_neg (by decide)]; first | (rw [if_pos c8]; done) | (rw [if_neg c8]; done)
    have hv : nI (1) = nI (1) := congrArg nI (by rfl)
    exact g_iret F hr rfl (Nat.le_of_ble_eq_true rfl) (Nat.le_of_ble_eq_true rfl) dX28_put_18 (fun h hs => by rw [← hT]; exact ⟨congrArg (fun z => some (Value.int z)) hv, (hσ ▸ hs)⟩)
  · refine g_iconst F (v := (nI 1)) dX28_put_11 (by decide) (np := 12) rfl ?_
    refine g_goto F dX28_put_12 (np := 16) (by decide) ?_
    refine g_zast F (S' := XH D Λ I L (sR σ (60 * sh + i) (1))) (fun h hs => ⟨_, _, XH.itemC hs hrk, (m_in (L := lenN σ sh) (by omega) hi rfl).1, row_put hs hrk (by omega) (by rw [(m_in (L := lenN σ sh) (by omega) hi rfl).2]; exact it_i (by omega) (by decide) rfl)⟩) dX28_put_16 (np := 17) rfl ?_
    refine g_iconst F (v := (nI 1)) dX28_put_17 (by decide) (np := 18) rfl ?_
    have hσ : (sR σ (60 * sh + i) (1)) = (sR σ (60 * sh + i) (sKept (nI 4) v)) := by unfold sKept; rw [if_neg (by decide), if_neg (by decide), if_neg (by decide), if_neg (by decide)]; first | (rw [if_pos c8]; done) | (rw [if_neg c8]; done)
    have hv : nI (1) = nI (1) := congrArg nI (by rfl)
    exact g_iret F hr rfl (Nat.le_of_ble_eq_true rfl) (Nat.le_of_ble_eq_true rfl) dX28_put_18 (fun h hs => by rw [← hT]; exact ⟨congrArg (fun z => some (Value.int z)) hv, (hσ ▸ hs)⟩)

set_option maxRecDepth 100000 in
theorem ct_X28_put_x {l : Launch} {D : va_G} {B : Nat} {Λ : LT} {I : AH} {L : LawT} (σ : MSt)  (sh : Nat) (i : Int32) (v : Int64) (hrk : rowK σ sh = some 4) (h60 : lenN σ sh ≤ 60) (hi : ¬ inN i (lenN σ sh)) : CtX l D B yX28_put cX28_put 4 (some .boolean) 8 10340 3 910 [.ref (Λ.1 3 sh), .int i, .long (v)] (XH D Λ I L σ) "java/lang/ArrayIndexOutOfBoundsException" (XH D Λ I L σ) := by
  refine CtX.of (nL := 4) (lv := [some (.ref (Λ.1 3 sh)), some (.int i), some (.long (v)), none]) (by decide) (Nat.le_of_ble_eq_true rfl) 0 rfl ?_
  intro zp ze zs zm zb zt zc F hZ hnm hnt
  generalize ([.ref (Λ.1 3 sh), .int i, .long (v)] : List Value).toArray = za at F ⊢
  refine g_aload_n F dX28_put_0 rfl rfl (np := 1) rfl ?_
  refine g_getL F in_X28 (ci := 28) rfl 0 (by decide) rfl (Or.inl q1398) (v := .ref (Λ.1 4 sh)) (fun h hs => ⟨_, XH.rowC hs hrk, rfl⟩) dX28_put_1 (np := 4) rfl ?_
  refine g_iload_n F dX28_put_4 rfl rfl (np := 5) rfl ?_
  refine g_lload_n F dX28_put_5 rfl rfl (np := 6) rfl ?_
  refine g_lconst F (v := 0) dX28_put_6 (by decide) (np := 7) rfl ?_
  refine g_lcmp F dX28_put_7 (np := 8) rfl ?_
  refine g_if_eq F dX28_put_8 (tp := 15) (by decide) (np := 11) rfl (fun c8 => ?_) (fun c8 => ?_)
  · refine g_iconst F (v := (nI 0)) dX28_put_15 (by decide) (np := 16) rfl ?_
    refine z_zast F hZ ⟨(Nat.le_of_ble_eq_true rfl), (Nat.le_of_ble_eq_true rfl), (Nat.le_of_ble_eq_true rfl), (Nat.le_of_ble_eq_true rfl)⟩ (by decide) (n := lenN σ sh) (by omega) (vin_out h60 hi) (fun h hs => ⟨_, XH.itemC hs hrk⟩) dX28_put_16 ?_
    exact z_out F hnt (Nat.le_of_ble_eq_true rfl) (Nat.le_of_ble_eq_true rfl) (fun h hs => hs)
  · refine g_iconst F (v := (nI 1)) dX28_put_11 (by decide) (np := 12) rfl ?_
    refine g_goto F dX28_put_12 (np := 16) (by decide) ?_
    refine z_zast F hZ ⟨(Nat.le_of_ble_eq_true rfl), (Nat.le_of_ble_eq_true rfl), (Nat.le_of_ble_eq_true rfl), (Nat.le_of_ble_eq_true rfl)⟩ (by decide) (n := lenN σ sh) (by omega) (vin_out h60 hi) (fun h hs => ⟨_, XH.itemC hs hrk⟩) dX28_put_16 ?_
    exact z_out F hnt (Nat.le_of_ble_eq_true rfl) (Nat.le_of_ble_eq_true rfl) (fun h hs => hs)

set_option maxRecDepth 100000 in
theorem ct_X24_size {l : Launch} {D : va_G} {B : Nat} {Λ : LT} {I : AH} {L : LawT} (σ : MSt)  (sh : Nat)  (hrk : rowK σ sh = some 0) (h60 : lenN σ sh ≤ 60) : Ct l D ZE B yX24_size cX24_size 1 (some .int) 0 0 0 0 [.ref (Λ.1 3 sh)] (XH D Λ I L σ) (RI (nI (lenN σ sh)) (XH D Λ I L σ)) := by
  refine Ct.of (nL := 1) (lv := [some (.ref (Λ.1 3 sh))]) (by decide) (Nat.le_of_ble_eq_true rfl) stZE 0 rfl ?_
  generalize hT : RI (nI (lenN σ sh)) (XH D Λ I L σ) = T
  intro zp ze zs zm zb zt zc F hr hnm
  generalize ([.ref (Λ.1 3 sh)] : List Value).toArray = za at F ⊢
  refine g_aload_n F dX24_size_0 rfl rfl (np := 1) rfl ?_
  refine g_getL F in_X24 (ci := 24) rfl 0 (by decide) rfl (Or.inl q1356) (v := .ref (Λ.1 4 sh)) (fun h hs => ⟨_, XH.rowC hs hrk, rfl⟩) dX24_size_1 (np := 4) rfl ?_
  refine g_alen F (t0 := 1) (ty := .byte) (v := nI (lenN σ sh)) (fun h hs => ⟨_, _, XH.itemC hs hrk, rfl⟩) rfl dX24_size_4 (np := 5) rfl ?_
  have hv : nI (lenN σ sh) = nI (lenN σ sh) := congrArg nI (by rfl)
  exact g_iret F hr rfl (Nat.le_of_ble_eq_true rfl) (Nat.le_of_ble_eq_true rfl) dX24_size_5 (fun h hs => by rw [← hT]; exact ⟨congrArg (fun z => some (Value.int z)) hv, hs⟩)
