/-! WALKS (printed by walk.py): init, init, init, init, init, init, init, init, init -/
set_option maxRecDepth 100000
set_option maxRecDepth 100000 in
theorem ct_X14_init {l : Launch} {D : va_G} {B : Nat} {S : AH → Prop}  (a : Nat) : Ct l D ZE B yX14_init cX14_init 1 none 1 12 0 0 [.ref (a)] (S) (RV (S)) := by
  refine Ct.of (nL := 1) (lv := [some (.ref (a))]) (by decide) (Nat.le_of_ble_eq_true rfl) stZE 0 rfl ?_
  generalize hT : RV (S) = T
  intro zp ze zs zm zb zt zc F hr hnm
  generalize ([.ref (a)] : List Value).toArray = za at F ⊢
  refine g_aload_n F dX14_init_0 rfl rfl (np := 1) rfl ?_
  refine g_objInit F q1078 q151 q152 (by decide) (Nat.le_of_ble_eq_true rfl) dX14_init_1 (np := 4) rfl ?_
  exact g_vret F hr (Nat.le_of_ble_eq_true rfl) (Nat.le_of_ble_eq_true rfl) dX14_init_4 (fun h hs => by rw [← hT]; exact ⟨rfl, hs⟩)

set_option maxRecDepth 100000 in
theorem ct_X15_init_0 {l : Launch} {D : va_G} {B : Nat} {S : AH → Prop}  (a : Nat) (x : Nat) (n : Nat) : Ct l D ZE B yX15_init cX15_init 3 none 2 32 0 0 [.ref (a), .ref (x), .int (nI n)] (Fr B S a ((.inr (15, [.int 0, .null])))) (RV (Fr B S a ((.inr (15, [.int (nI n), .ref (x)]))))) := by
  refine Ct.of (nL := 3) (lv := [some (.ref (a)), some (.ref (x)), some (.int (nI n))]) (by decide) (Nat.le_of_ble_eq_true rfl) stZE 0 rfl ?_
  generalize hT : RV (Fr B S a ((.inr (15, [.int (nI n), .ref (x)])))) = T
  intro zp ze zs zm zb zt zc F hr hnm
  generalize ([.ref (a), .ref (x), .int (nI n)] : List Value).toArray = za at F ⊢
  refine g_aload_n F dX15_init_0 rfl rfl (np := 1) rfl ?_
  refine g_aload_n F dX15_init_1 rfl rfl (np := 2) rfl ?_
  refine fr_putFX F hnm (ci := 15) in_X15 tyX15 tyX15_ok apX15 rfl 1 (by decide) rfl q1081 rfl (ty := (.object "PromiseRoofs")) rfl rfl (by first | rfl | exact va_fitQ _ _) (show 1 < 2 by decide) dX15_init_2 (np := 5) rfl ?_
  refine g_aload_n F dX15_init_5 rfl rfl (np := 6) rfl ?_
  refine g_runIN F (rest := []) (ct_X14_init a ) ze1075 q1076 q128 q1077 rfl hcS_X14_init ⟨Nat.le_of_ble_eq_true rfl, Nat.le_of_ble_eq_true rfl⟩ rfl rfl (Nat.le_of_ble_eq_true rfl) dX15_init_6 ⟨Nat.le_of_ble_eq_true rfl, Nat.le_of_ble_eq_true rfl⟩ (np := 9) rfl (k_RV ?_)
  refine g_aload_n F dX15_init_9 rfl rfl (np := 10) rfl ?_
  refine g_iload_n F dX15_init_10 rfl rfl (np := 11) rfl ?_
  refine fr_putFX F hnm (ci := 15) in_X15 tyX15 tyX15_ok apX15 rfl 0 (by decide) rfl q1080 rfl (ty := .int) rfl rfl (by first | rfl | exact va_fitQ _ _) (show 0 < 2 by decide) dX15_init_11 (np := 14) rfl ?_
  exact g_vret F hr (Nat.le_of_ble_eq_true rfl) (Nat.le_of_ble_eq_true rfl) dX15_init_14 (fun h hs => by rw [← hT]; exact ⟨rfl, hs⟩)

set_option maxRecDepth 100000 in
theorem ct_X15_init_1 {l : Launch} {D : va_G} {B : Nat} {S : AH → Prop}  (a : Nat) (x : Nat) (n : Nat) : Ct l D ZE B yX15_init cX15_init 3 none 2 32 0 0 [.ref (a), .ref (x), .int (nI n)] (Fr B S a ((.inr (16, [.int 0, .null, .ref (x)])))) (RV (Fr B S a ((.inr (16, [.int (nI n), .ref (x), .ref (x)]))))) := by
  refine Ct.of (nL := 3) (lv := [some (.ref (a)), some (.ref (x)), some (.int (nI n))]) (by decide) (Nat.le_of_ble_eq_true rfl) stZE 0 rfl ?_
  generalize hT : RV (Fr B S a ((.inr (16, [.int (nI n), .ref (x), .ref (x)])))) = T
  intro zp ze zs zm zb zt zc F hr hnm
  generalize ([.ref (a), .ref (x), .int (nI n)] : List Value).toArray = za at F ⊢
  refine g_aload_n F dX15_init_0 rfl rfl (np := 1) rfl ?_
  refine g_aload_n F dX15_init_1 rfl rfl (np := 2) rfl ?_
  refine fr_putFX F hnm (ci := 16) in_X16 tyX16 tyX16_ok apX16 rfl 1 (by decide) rfl q1081 rfl (ty := (.object "PromiseRoofs")) rfl rfl (by first | rfl | exact va_fitQ _ _) (show 1 < 3 by decide) dX15_init_2 (np := 5) rfl ?_
  refine g_aload_n F dX15_init_5 rfl rfl (np := 6) rfl ?_
  refine g_runIN F (rest := []) (ct_X14_init a ) ze1075 q1076 q128 q1077 rfl hcS_X14_init ⟨Nat.le_of_ble_eq_true rfl, Nat.le_of_ble_eq_true rfl⟩ rfl rfl (Nat.le_of_ble_eq_true rfl) dX15_init_6 ⟨Nat.le_of_ble_eq_true rfl, Nat.le_of_ble_eq_true rfl⟩ (np := 9) rfl (k_RV ?_)
  refine g_aload_n F dX15_init_9 rfl rfl (np := 10) rfl ?_
  refine g_iload_n F dX15_init_10 rfl rfl (np := 11) rfl ?_
  refine fr_putFX F hnm (ci := 16) in_X16 tyX16 tyX16_ok apX16 rfl 0 (by decide) rfl q1080 rfl (ty := .int) rfl rfl (by first | rfl | exact va_fitQ _ _) (show 0 < 3 by decide) dX15_init_11 (np := 14) rfl ?_
  exact g_vret F hr (Nat.le_of_ble_eq_true rfl) (Nat.le_of_ble_eq_true rfl) dX15_init_14 (fun h hs => by rw [← hT]; exact ⟨rfl, hs⟩)

set_option maxRecDepth 100000 in
theorem ct_X15_init_2 {l : Launch} {D : va_G} {B : Nat} {S : AH → Prop}  (a : Nat) (x : Nat) (n : Nat) : Ct l D ZE B yX15_init cX15_init 3 none 2 32 0 0 [.ref (a), .ref (x), .int (nI n)] (Fr B S a ((.inr (17, [.int 0, .null, .ref (x)])))) (RV (Fr B S a ((.inr (17, [.int (nI n), .ref (x), .ref (x)]))))) := by
  refine Ct.of (nL := 3) (lv := [some (.ref (a)), some (.ref (x)), some (.int (nI n))]) (by decide) (Nat.le_of_ble_eq_true rfl) stZE 0 rfl ?_
  generalize hT : RV (Fr B S a ((.inr (17, [.int (nI n), .ref (x), .ref (x)])))) = T
  intro zp ze zs zm zb zt zc F hr hnm
  generalize ([.ref (a), .ref (x), .int (nI n)] : List Value).toArray = za at F ⊢
  refine g_aload_n F dX15_init_0 rfl rfl (np := 1) rfl ?_
  refine g_aload_n F dX15_init_1 rfl rfl (np := 2) rfl ?_
  refine fr_putFX F hnm (ci := 17) in_X17 tyX17 tyX17_ok apX17 rfl 1 (by decide) rfl q1081 rfl (ty := (.object "PromiseRoofs")) rfl rfl (by first | rfl | exact va_fitQ _ _) (show 1 < 3 by decide) dX15_init_2 (np := 5) rfl ?_
  refine g_aload_n F dX15_init_5 rfl rfl (np := 6) rfl ?_
  refine g_runIN F (rest := []) (ct_X14_init a ) ze1075 q1076 q128 q1077 rfl hcS_X14_init ⟨Nat.le_of_ble_eq_true rfl, Nat.le_of_ble_eq_true rfl⟩ rfl rfl (Nat.le_of_ble_eq_true rfl) dX15_init_6 ⟨Nat.le_of_ble_eq_true rfl, Nat.le_of_ble_eq_true rfl⟩ (np := 9) rfl (k_RV ?_)
  refine g_aload_n F dX15_init_9 rfl rfl (np := 10) rfl ?_
  refine g_iload_n F dX15_init_10 rfl rfl (np := 11) rfl ?_
  refine fr_putFX F hnm (ci := 17) in_X17 tyX17 tyX17_ok apX17 rfl 0 (by decide) rfl q1080 rfl (ty := .int) rfl rfl (by first | rfl | exact va_fitQ _ _) (show 0 < 3 by decide) dX15_init_11 (np := 14) rfl ?_
  exact g_vret F hr (Nat.le_of_ble_eq_true rfl) (Nat.le_of_ble_eq_true rfl) dX15_init_14 (fun h hs => by rw [← hT]; exact ⟨rfl, hs⟩)

set_option maxRecDepth 100000 in
theorem ct_X15_init_3 {l : Launch} {D : va_G} {B : Nat} {S : AH → Prop}  (a : Nat) (x : Nat) (n : Nat) : Ct l D ZE B yX15_init cX15_init 3 none 2 32 0 0 [.ref (a), .ref (x), .int (nI n)] (Fr B S a ((.inr (18, [.int 0, .null, .ref (x), .ref (x)])))) (RV (Fr B S a ((.inr (18, [.int (nI n), .ref (x), .ref (x), .ref (x)]))))) := by
  refine Ct.of (nL := 3) (lv := [some (.ref (a)), some (.ref (x)), some (.int (nI n))]) (by decide) (Nat.le_of_ble_eq_true rfl) stZE 0 rfl ?_
  generalize hT : RV (Fr B S a ((.inr (18, [.int (nI n), .ref (x), .ref (x), .ref (x)])))) = T
  intro zp ze zs zm zb zt zc F hr hnm
  generalize ([.ref (a), .ref (x), .int (nI n)] : List Value).toArray = za at F ⊢
  refine g_aload_n F dX15_init_0 rfl rfl (np := 1) rfl ?_
  refine g_aload_n F dX15_init_1 rfl rfl (np := 2) rfl ?_
  refine fr_putFX F hnm (ci := 18) in_X18 tyX18 tyX18_ok apX18 rfl 1 (by decide) rfl q1081 rfl (ty := (.object "PromiseRoofs")) rfl rfl (by first | rfl | exact va_fitQ _ _) (show 1 < 4 by decide) dX15_init_2 (np := 5) rfl ?_
  refine g_aload_n F dX15_init_5 rfl rfl (np := 6) rfl ?_
  refine g_runIN F (rest := []) (ct_X14_init a ) ze1075 q1076 q128 q1077 rfl hcS_X14_init ⟨Nat.le_of_ble_eq_true rfl, Nat.le_of_ble_eq_true rfl⟩ rfl rfl (Nat.le_of_ble_eq_true rfl) dX15_init_6 ⟨Nat.le_of_ble_eq_true rfl, Nat.le_of_ble_eq_true rfl⟩ (np := 9) rfl (k_RV ?_)
  refine g_aload_n F dX15_init_9 rfl rfl (np := 10) rfl ?_
  refine g_iload_n F dX15_init_10 rfl rfl (np := 11) rfl ?_
  refine fr_putFX F hnm (ci := 18) in_X18 tyX18 tyX18_ok apX18 rfl 0 (by decide) rfl q1080 rfl (ty := .int) rfl rfl (by first | rfl | exact va_fitQ _ _) (show 0 < 4 by decide) dX15_init_11 (np := 14) rfl ?_
  exact g_vret F hr (Nat.le_of_ble_eq_true rfl) (Nat.le_of_ble_eq_true rfl) dX15_init_14 (fun h hs => by rw [← hT]; exact ⟨rfl, hs⟩)

set_option maxRecDepth 100000 in
theorem ct_X15_init_4 {l : Launch} {D : va_G} {B : Nat} {S : AH → Prop}  (a : Nat) (x : Nat) (n : Nat) : Ct l D ZE B yX15_init cX15_init 3 none 2 32 0 0 [.ref (a), .ref (x), .int (nI n)] (Fr B S a ((.inr (19, [.int 0, .null, .ref (x), .ref (x)])))) (RV (Fr B S a ((.inr (19, [.int (nI n), .ref (x), .ref (x), .ref (x)]))))) := by
  refine Ct.of (nL := 3) (lv := [some (.ref (a)), some (.ref (x)), some (.int (nI n))]) (by decide) (Nat.le_of_ble_eq_true rfl) stZE 0 rfl ?_
  generalize hT : RV (Fr B S a ((.inr (19, [.int (nI n), .ref (x), .ref (x), .ref (x)])))) = T
  intro zp ze zs zm zb zt zc F hr hnm
  generalize ([.ref (a), .ref (x), .int (nI n)] : List Value).toArray = za at F ⊢
  refine g_aload_n F dX15_init_0 rfl rfl (np := 1) rfl ?_
  refine g_aload_n F dX15_init_1 rfl rfl (np := 2) rfl ?_
  refine fr_putFX F hnm (ci := 19) in_X19 tyX19 tyX19_ok apX19 rfl 1 (by decide) rfl q1081 rfl (ty := (.object "PromiseRoofs")) rfl rfl (by first | rfl | exact va_fitQ _ _) (show 1 < 4 by decide) dX15_init_2 (np := 5) rfl ?_
  refine g_aload_n F dX15_init_5 rfl rfl (np := 6) rfl ?_
  refine g_runIN F (rest := []) (ct_X14_init a ) ze1075 q1076 q128 q1077 rfl hcS_X14_init ⟨Nat.le_of_ble_eq_true rfl, Nat.le_of_ble_eq_true rfl⟩ rfl rfl (Nat.le_of_ble_eq_true rfl) dX15_init_6 ⟨Nat.le_of_ble_eq_true rfl, Nat.le_of_ble_eq_true rfl⟩ (np := 9) rfl (k_RV ?_)
  refine g_aload_n F dX15_init_9 rfl rfl (np := 10) rfl ?_
  refine g_iload_n F dX15_init_10 rfl rfl (np := 11) rfl ?_
  refine fr_putFX F hnm (ci := 19) in_X19 tyX19 tyX19_ok apX19 rfl 0 (by decide) rfl q1080 rfl (ty := .int) rfl rfl (by first | rfl | exact va_fitQ _ _) (show 0 < 4 by decide) dX15_init_11 (np := 14) rfl ?_
  exact g_vret F hr (Nat.le_of_ble_eq_true rfl) (Nat.le_of_ble_eq_true rfl) dX15_init_14 (fun h hs => by rw [← hT]; exact ⟨rfl, hs⟩)

set_option maxRecDepth 100000 in
theorem ct_X15_init_5 {l : Launch} {D : va_G} {B : Nat} {S : AH → Prop}  (a : Nat) (x : Nat) (n : Nat) : Ct l D ZE B yX15_init cX15_init 3 none 2 32 0 0 [.ref (a), .ref (x), .int (nI n)] (Fr B S a ((.inr (20, [.int 0, .null, .ref (x), .ref (x), .ref (x)])))) (RV (Fr B S a ((.inr (20, [.int (nI n), .ref (x), .ref (x), .ref (x), .ref (x)]))))) := by
  refine Ct.of (nL := 3) (lv := [some (.ref (a)), some (.ref (x)), some (.int (nI n))]) (by decide) (Nat.le_of_ble_eq_true rfl) stZE 0 rfl ?_
  generalize hT : RV (Fr B S a ((.inr (20, [.int (nI n), .ref (x), .ref (x), .ref (x), .ref (x)])))) = T
  intro zp ze zs zm zb zt zc F hr hnm
  generalize ([.ref (a), .ref (x), .int (nI n)] : List Value).toArray = za at F ⊢
  refine g_aload_n F dX15_init_0 rfl rfl (np := 1) rfl ?_
  refine g_aload_n F dX15_init_1 rfl rfl (np := 2) rfl ?_
  refine fr_putFX F hnm (ci := 20) in_X20 tyX20 tyX20_ok apX20 rfl 1 (by decide) rfl q1081 rfl (ty := (.object "PromiseRoofs")) rfl rfl (by first | rfl | exact va_fitQ _ _) (show 1 < 5 by decide) dX15_init_2 (np := 5) rfl ?_
  refine g_aload_n F dX15_init_5 rfl rfl (np := 6) rfl ?_
  refine g_runIN F (rest := []) (ct_X14_init a ) ze1075 q1076 q128 q1077 rfl hcS_X14_init ⟨Nat.le_of_ble_eq_true rfl, Nat.le_of_ble_eq_true rfl⟩ rfl rfl (Nat.le_of_ble_eq_true rfl) dX15_init_6 ⟨Nat.le_of_ble_eq_true rfl, Nat.le_of_ble_eq_true rfl⟩ (np := 9) rfl (k_RV ?_)
  refine g_aload_n F dX15_init_9 rfl rfl (np := 10) rfl ?_
  refine g_iload_n F dX15_init_10 rfl rfl (np := 11) rfl ?_
  refine fr_putFX F hnm (ci := 20) in_X20 tyX20 tyX20_ok apX20 rfl 0 (by decide) rfl q1080 rfl (ty := .int) rfl rfl (by first | rfl | exact va_fitQ _ _) (show 0 < 5 by decide) dX15_init_11 (np := 14) rfl ?_
  exact g_vret F hr (Nat.le_of_ble_eq_true rfl) (Nat.le_of_ble_eq_true rfl) dX15_init_14 (fun h hs => by rw [← hT]; exact ⟨rfl, hs⟩)

set_option maxRecDepth 100000 in
theorem ct_X15_init_6 {l : Launch} {D : va_G} {B : Nat} {S : AH → Prop}  (a : Nat) (x : Nat) (n : Nat) : Ct l D ZE B yX15_init cX15_init 3 none 2 32 0 0 [.ref (a), .ref (x), .int (nI n)] (Fr B S a ((.inr (21, [.int 0, .null, .ref (x)])))) (RV (Fr B S a ((.inr (21, [.int (nI n), .ref (x), .ref (x)]))))) := by
  refine Ct.of (nL := 3) (lv := [some (.ref (a)), some (.ref (x)), some (.int (nI n))]) (by decide) (Nat.le_of_ble_eq_true rfl) stZE 0 rfl ?_
  generalize hT : RV (Fr B S a ((.inr (21, [.int (nI n), .ref (x), .ref (x)])))) = T
  intro zp ze zs zm zb zt zc F hr hnm
  generalize ([.ref (a), .ref (x), .int (nI n)] : List Value).toArray = za at F ⊢
  refine g_aload_n F dX15_init_0 rfl rfl (np := 1) rfl ?_
  refine g_aload_n F dX15_init_1 rfl rfl (np := 2) rfl ?_
  refine fr_putFX F hnm (ci := 21) in_X21 tyX21 tyX21_ok apX21 rfl 1 (by decide) rfl q1081 rfl (ty := (.object "PromiseRoofs")) rfl rfl (by first | rfl | exact va_fitQ _ _) (show 1 < 3 by decide) dX15_init_2 (np := 5) rfl ?_
  refine g_aload_n F dX15_init_5 rfl rfl (np := 6) rfl ?_
  refine g_runIN F (rest := []) (ct_X14_init a ) ze1075 q1076 q128 q1077 rfl hcS_X14_init ⟨Nat.le_of_ble_eq_true rfl, Nat.le_of_ble_eq_true rfl⟩ rfl rfl (Nat.le_of_ble_eq_true rfl) dX15_init_6 ⟨Nat.le_of_ble_eq_true rfl, Nat.le_of_ble_eq_true rfl⟩ (np := 9) rfl (k_RV ?_)
  refine g_aload_n F dX15_init_9 rfl rfl (np := 10) rfl ?_
  refine g_iload_n F dX15_init_10 rfl rfl (np := 11) rfl ?_
  refine fr_putFX F hnm (ci := 21) in_X21 tyX21 tyX21_ok apX21 rfl 0 (by decide) rfl q1080 rfl (ty := .int) rfl rfl (by first | rfl | exact va_fitQ _ _) (show 0 < 3 by decide) dX15_init_11 (np := 14) rfl ?_
  exact g_vret F hr (Nat.le_of_ble_eq_true rfl) (Nat.le_of_ble_eq_true rfl) dX15_init_14 (fun h hs => by rw [← hT]; exact ⟨rfl, hs⟩)

set_option maxRecDepth 100000 in
theorem ct_X15_init_7 {l : Launch} {D : va_G} {B : Nat} {S : AH → Prop}  (a : Nat) (x : Nat) (n : Nat) : Ct l D ZE B yX15_init cX15_init 3 none 2 32 0 0 [.ref (a), .ref (x), .int (nI n)] (Fr B S a ((.inr (22, [.int 0, .null, .ref (x), .ref (x), .ref (x)])))) (RV (Fr B S a ((.inr (22, [.int (nI n), .ref (x), .ref (x), .ref (x), .ref (x)]))))) := by
  refine Ct.of (nL := 3) (lv := [some (.ref (a)), some (.ref (x)), some (.int (nI n))]) (by decide) (Nat.le_of_ble_eq_true rfl) stZE 0 rfl ?_
  generalize hT : RV (Fr B S a ((.inr (22, [.int (nI n), .ref (x), .ref (x), .ref (x), .ref (x)])))) = T
  intro zp ze zs zm zb zt zc F hr hnm
  generalize ([.ref (a), .ref (x), .int (nI n)] : List Value).toArray = za at F ⊢
  refine g_aload_n F dX15_init_0 rfl rfl (np := 1) rfl ?_
  refine g_aload_n F dX15_init_1 rfl rfl (np := 2) rfl ?_
  refine fr_putFX F hnm (ci := 22) in_X22 tyX22 tyX22_ok apX22 rfl 1 (by decide) rfl q1081 rfl (ty := (.object "PromiseRoofs")) rfl rfl (by first | rfl | exact va_fitQ _ _) (show 1 < 5 by decide) dX15_init_2 (np := 5) rfl ?_
  refine g_aload_n F dX15_init_5 rfl rfl (np := 6) rfl ?_
  refine g_runIN F (rest := []) (ct_X14_init a ) ze1075 q1076 q128 q1077 rfl hcS_X14_init ⟨Nat.le_of_ble_eq_true rfl, Nat.le_of_ble_eq_true rfl⟩ rfl rfl (Nat.le_of_ble_eq_true rfl) dX15_init_6 ⟨Nat.le_of_ble_eq_true rfl, Nat.le_of_ble_eq_true rfl⟩ (np := 9) rfl (k_RV ?_)
  refine g_aload_n F dX15_init_9 rfl rfl (np := 10) rfl ?_
  refine g_iload_n F dX15_init_10 rfl rfl (np := 11) rfl ?_
  refine fr_putFX F hnm (ci := 22) in_X22 tyX22 tyX22_ok apX22 rfl 0 (by decide) rfl q1080 rfl (ty := .int) rfl rfl (by first | rfl | exact va_fitQ _ _) (show 0 < 5 by decide) dX15_init_11 (np := 14) rfl ?_
  exact g_vret F hr (Nat.le_of_ble_eq_true rfl) (Nat.le_of_ble_eq_true rfl) dX15_init_14 (fun h hs => by rw [← hT]; exact ⟨rfl, hs⟩)

set_option maxRecDepth 100000 in
theorem ct_X16_init_1 {l : Launch} {D : va_G} {B : Nat} {S : AH → Prop}  (a : Nat) (x : Nat) (n : Nat) : Ct l D ZE B yX16_init cX16_init 3 none 3 54 0 0 [.ref (a), .ref (x), .int (nI n)] (Fr B S a ((.inr (16, [.int 0, .null, .null])))) (RV (Fr B S a ((.inr (16, [.int (nI n), .ref (x), .ref (x)]))))) := by
  refine Ct.of (nL := 3) (lv := [some (.ref (a)), some (.ref (x)), some (.int (nI n))]) (by decide) (Nat.le_of_ble_eq_true rfl) stZE 0 rfl ?_
  generalize hT : RV (Fr B S a ((.inr (16, [.int (nI n), .ref (x), .ref (x)])))) = T
  intro zp ze zs zm zb zt zc F hr hnm
  generalize ([.ref (a), .ref (x), .int (nI n)] : List Value).toArray = za at F ⊢
  refine g_aload_n F dX16_init_0 rfl rfl (np := 1) rfl ?_
  refine g_aload_n F dX16_init_1 rfl rfl (np := 2) rfl ?_
  refine fr_putFX F hnm (ci := 16) in_X16 tyX16 tyX16_ok apX16 rfl 2 (by decide) rfl q1079 rfl (ty := (.object "PromiseRoofs")) rfl rfl (by first | rfl | exact va_fitQ _ _) (show 2 < 3 by decide) dX16_init_2 (np := 5) rfl ?_
  refine g_aload_n F dX16_init_5 rfl rfl (np := 6) rfl ?_
  refine g_aload_n F dX16_init_6 rfl rfl (np := 7) rfl ?_
  refine g_iload_n F dX16_init_7 rfl rfl (np := 8) rfl ?_
  refine g_runI F (rest := []) (ct_X15_init_1 a x n ) q1074 q129 q1072 q1073 rfl hcS_X15_init ⟨Nat.le_of_ble_eq_true rfl, Nat.le_of_ble_eq_true rfl⟩ rfl rfl (Nat.le_of_ble_eq_true rfl) dX16_init_8 ⟨Nat.le_of_ble_eq_true rfl, Nat.le_of_ble_eq_true rfl⟩ (np := 11) rfl (k_RV ?_)
  exact g_vret F hr (Nat.le_of_ble_eq_true rfl) (Nat.le_of_ble_eq_true rfl) dX16_init_11 (fun h hs => by rw [← hT]; exact ⟨rfl, hs⟩)

set_option maxRecDepth 100000 in
theorem ct_X16_init_4 {l : Launch} {D : va_G} {B : Nat} {S : AH → Prop}  (a : Nat) (x : Nat) (n : Nat) : Ct l D ZE B yX16_init cX16_init 3 none 3 54 0 0 [.ref (a), .ref (x), .int (nI n)] (Fr B S a ((.inr (19, [.int 0, .null, .null, .ref (x)])))) (RV (Fr B S a ((.inr (19, [.int (nI n), .ref (x), .ref (x), .ref (x)]))))) := by
  refine Ct.of (nL := 3) (lv := [some (.ref (a)), some (.ref (x)), some (.int (nI n))]) (by decide) (Nat.le_of_ble_eq_true rfl) stZE 0 rfl ?_
  generalize hT : RV (Fr B S a ((.inr (19, [.int (nI n), .ref (x), .ref (x), .ref (x)])))) = T
  intro zp ze zs zm zb zt zc F hr hnm
  generalize ([.ref (a), .ref (x), .int (nI n)] : List Value).toArray = za at F ⊢
  refine g_aload_n F dX16_init_0 rfl rfl (np := 1) rfl ?_
  refine g_aload_n F dX16_init_1 rfl rfl (np := 2) rfl ?_
  refine fr_putFX F hnm (ci := 19) in_X19 tyX19 tyX19_ok apX19 rfl 2 (by decide) rfl q1079 rfl (ty := (.object "PromiseRoofs")) rfl rfl (by first | rfl | exact va_fitQ _ _) (show 2 < 4 by decide) dX16_init_2 (np := 5) rfl ?_
  refine g_aload_n F dX16_init_5 rfl rfl (np := 6) rfl ?_
  refine g_aload_n F dX16_init_6 rfl rfl (np := 7) rfl ?_
  refine g_iload_n F dX16_init_7 rfl rfl (np := 8) rfl ?_
  refine g_runI F (rest := []) (ct_X15_init_4 a x n ) q1074 q129 q1072 q1073 rfl hcS_X15_init ⟨Nat.le_of_ble_eq_true rfl, Nat.le_of_ble_eq_true rfl⟩ rfl rfl (Nat.le_of_ble_eq_true rfl) dX16_init_8 ⟨Nat.le_of_ble_eq_true rfl, Nat.le_of_ble_eq_true rfl⟩ (np := 11) rfl (k_RV ?_)
  exact g_vret F hr (Nat.le_of_ble_eq_true rfl) (Nat.le_of_ble_eq_true rfl) dX16_init_11 (fun h hs => by rw [← hT]; exact ⟨rfl, hs⟩)

set_option maxRecDepth 100000 in
theorem ct_X16_init_7 {l : Launch} {D : va_G} {B : Nat} {S : AH → Prop}  (a : Nat) (x : Nat) (n : Nat) : Ct l D ZE B yX16_init cX16_init 3 none 3 54 0 0 [.ref (a), .ref (x), .int (nI n)] (Fr B S a ((.inr (22, [.int 0, .null, .null, .ref (x), .ref (x)])))) (RV (Fr B S a ((.inr (22, [.int (nI n), .ref (x), .ref (x), .ref (x), .ref (x)]))))) := by
  refine Ct.of (nL := 3) (lv := [some (.ref (a)), some (.ref (x)), some (.int (nI n))]) (by decide) (Nat.le_of_ble_eq_true rfl) stZE 0 rfl ?_
  generalize hT : RV (Fr B S a ((.inr (22, [.int (nI n), .ref (x), .ref (x), .ref (x), .ref (x)])))) = T
  intro zp ze zs zm zb zt zc F hr hnm
  generalize ([.ref (a), .ref (x), .int (nI n)] : List Value).toArray = za at F ⊢
  refine g_aload_n F dX16_init_0 rfl rfl (np := 1) rfl ?_
  refine g_aload_n F dX16_init_1 rfl rfl (np := 2) rfl ?_
  refine fr_putFX F hnm (ci := 22) in_X22 tyX22 tyX22_ok apX22 rfl 2 (by decide) rfl q1079 rfl (ty := (.object "PromiseRoofs")) rfl rfl (by first | rfl | exact va_fitQ _ _) (show 2 < 5 by decide) dX16_init_2 (np := 5) rfl ?_
  refine g_aload_n F dX16_init_5 rfl rfl (np := 6) rfl ?_
  refine g_aload_n F dX16_init_6 rfl rfl (np := 7) rfl ?_
  refine g_iload_n F dX16_init_7 rfl rfl (np := 8) rfl ?_
  refine g_runI F (rest := []) (ct_X15_init_7 a x n ) q1074 q129 q1072 q1073 rfl hcS_X15_init ⟨Nat.le_of_ble_eq_true rfl, Nat.le_of_ble_eq_true rfl⟩ rfl rfl (Nat.le_of_ble_eq_true rfl) dX16_init_8 ⟨Nat.le_of_ble_eq_true rfl, Nat.le_of_ble_eq_true rfl⟩ (np := 11) rfl (k_RV ?_)
  exact g_vret F hr (Nat.le_of_ble_eq_true rfl) (Nat.le_of_ble_eq_true rfl) dX16_init_11 (fun h hs => by rw [← hT]; exact ⟨rfl, hs⟩)

set_option maxRecDepth 100000 in
theorem ct_X17_init_2 {l : Launch} {D : va_G} {B : Nat} {S : AH → Prop}  (a : Nat) (x : Nat) (n : Nat) : Ct l D ZE B yX17_init cX17_init 3 none 3 54 0 0 [.ref (a), .ref (x), .int (nI n)] (Fr B S a ((.inr (17, [.int 0, .null, .null])))) (RV (Fr B S a ((.inr (17, [.int (nI n), .ref (x), .ref (x)]))))) := by
  refine Ct.of (nL := 3) (lv := [some (.ref (a)), some (.ref (x)), some (.int (nI n))]) (by decide) (Nat.le_of_ble_eq_true rfl) stZE 0 rfl ?_
  generalize hT : RV (Fr B S a ((.inr (17, [.int (nI n), .ref (x), .ref (x)])))) = T
  intro zp ze zs zm zb zt zc F hr hnm
  generalize ([.ref (a), .ref (x), .int (nI n)] : List Value).toArray = za at F ⊢
  refine g_aload_n F dX17_init_0 rfl rfl (np := 1) rfl ?_
  refine g_aload_n F dX17_init_1 rfl rfl (np := 2) rfl ?_
  refine fr_putFX F hnm (ci := 17) in_X17 tyX17 tyX17_ok apX17 rfl 2 (by decide) rfl q1095 rfl (ty := (.object "PromiseRoofs")) rfl rfl (by first | rfl | exact va_fitQ _ _) (show 2 < 3 by decide) dX17_init_2 (np := 5) rfl ?_
  refine g_aload_n F dX17_init_5 rfl rfl (np := 6) rfl ?_
  refine g_aload_n F dX17_init_6 rfl rfl (np := 7) rfl ?_
  refine g_iload_n F dX17_init_7 rfl rfl (np := 8) rfl ?_
  refine g_runI F (rest := []) (ct_X15_init_2 a x n ) q1074 q129 q1094 q1073 rfl hcS_X15_init ⟨Nat.le_of_ble_eq_true rfl, Nat.le_of_ble_eq_true rfl⟩ rfl rfl (Nat.le_of_ble_eq_true rfl) dX17_init_8 ⟨Nat.le_of_ble_eq_true rfl, Nat.le_of_ble_eq_true rfl⟩ (np := 11) rfl (k_RV ?_)
  exact g_vret F hr (Nat.le_of_ble_eq_true rfl) (Nat.le_of_ble_eq_true rfl) dX17_init_11 (fun h hs => by rw [← hT]; exact ⟨rfl, hs⟩)

set_option maxRecDepth 100000 in
theorem ct_X17_init_3 {l : Launch} {D : va_G} {B : Nat} {S : AH → Prop}  (a : Nat) (x : Nat) (n : Nat) : Ct l D ZE B yX17_init cX17_init 3 none 3 54 0 0 [.ref (a), .ref (x), .int (nI n)] (Fr B S a ((.inr (18, [.int 0, .null, .null, .ref (x)])))) (RV (Fr B S a ((.inr (18, [.int (nI n), .ref (x), .ref (x), .ref (x)]))))) := by
  refine Ct.of (nL := 3) (lv := [some (.ref (a)), some (.ref (x)), some (.int (nI n))]) (by decide) (Nat.le_of_ble_eq_true rfl) stZE 0 rfl ?_
  generalize hT : RV (Fr B S a ((.inr (18, [.int (nI n), .ref (x), .ref (x), .ref (x)])))) = T
  intro zp ze zs zm zb zt zc F hr hnm
  generalize ([.ref (a), .ref (x), .int (nI n)] : List Value).toArray = za at F ⊢
  refine g_aload_n F dX17_init_0 rfl rfl (np := 1) rfl ?_
  refine g_aload_n F dX17_init_1 rfl rfl (np := 2) rfl ?_
  refine fr_putFX F hnm (ci := 18) in_X18 tyX18 tyX18_ok apX18 rfl 2 (by decide) rfl q1095 rfl (ty := (.object "PromiseRoofs")) rfl rfl (by first | rfl | exact va_fitQ _ _) (show 2 < 4 by decide) dX17_init_2 (np := 5) rfl ?_
  refine g_aload_n F dX17_init_5 rfl rfl (np := 6) rfl ?_
  refine g_aload_n F dX17_init_6 rfl rfl (np := 7) rfl ?_
  refine g_iload_n F dX17_init_7 rfl rfl (np := 8) rfl ?_
  refine g_runI F (rest := []) (ct_X15_init_3 a x n ) q1074 q129 q1094 q1073 rfl hcS_X15_init ⟨Nat.le_of_ble_eq_true rfl, Nat.le_of_ble_eq_true rfl⟩ rfl rfl (Nat.le_of_ble_eq_true rfl) dX17_init_8 ⟨Nat.le_of_ble_eq_true rfl, Nat.le_of_ble_eq_true rfl⟩ (np := 11) rfl (k_RV ?_)
  exact g_vret F hr (Nat.le_of_ble_eq_true rfl) (Nat.le_of_ble_eq_true rfl) dX17_init_11 (fun h hs => by rw [← hT]; exact ⟨rfl, hs⟩)

set_option maxRecDepth 100000 in
theorem ct_X17_init_5 {l : Launch} {D : va_G} {B : Nat} {S : AH → Prop}  (a : Nat) (x : Nat) (n : Nat) : Ct l D ZE B yX17_init cX17_init 3 none 3 54 0 0 [.ref (a), .ref (x), .int (nI n)] (Fr B S a ((.inr (20, [.int 0, .null, .null, .ref (x), .ref (x)])))) (RV (Fr B S a ((.inr (20, [.int (nI n), .ref (x), .ref (x), .ref (x), .ref (x)]))))) := by
  refine Ct.of (nL := 3) (lv := [some (.ref (a)), some (.ref (x)), some (.int (nI n))]) (by decide) (Nat.le_of_ble_eq_true rfl) stZE 0 rfl ?_
  generalize hT : RV (Fr B S a ((.inr (20, [.int (nI n), .ref (x), .ref (x), .ref (x), .ref (x)])))) = T
  intro zp ze zs zm zb zt zc F hr hnm
  generalize ([.ref (a), .ref (x), .int (nI n)] : List Value).toArray = za at F ⊢
  refine g_aload_n F dX17_init_0 rfl rfl (np := 1) rfl ?_
  refine g_aload_n F dX17_init_1 rfl rfl (np := 2) rfl ?_
  refine fr_putFX F hnm (ci := 20) in_X20 tyX20 tyX20_ok apX20 rfl 2 (by decide) rfl q1095 rfl (ty := (.object "PromiseRoofs")) rfl rfl (by first | rfl | exact va_fitQ _ _) (show 2 < 5 by decide) dX17_init_2 (np := 5) rfl ?_
  refine g_aload_n F dX17_init_5 rfl rfl (np := 6) rfl ?_
  refine g_aload_n F dX17_init_6 rfl rfl (np := 7) rfl ?_
  refine g_iload_n F dX17_init_7 rfl rfl (np := 8) rfl ?_
  refine g_runI F (rest := []) (ct_X15_init_5 a x n ) q1074 q129 q1094 q1073 rfl hcS_X15_init ⟨Nat.le_of_ble_eq_true rfl, Nat.le_of_ble_eq_true rfl⟩ rfl rfl (Nat.le_of_ble_eq_true rfl) dX17_init_8 ⟨Nat.le_of_ble_eq_true rfl, Nat.le_of_ble_eq_true rfl⟩ (np := 11) rfl (k_RV ?_)
  exact g_vret F hr (Nat.le_of_ble_eq_true rfl) (Nat.le_of_ble_eq_true rfl) dX17_init_11 (fun h hs => by rw [← hT]; exact ⟨rfl, hs⟩)

set_option maxRecDepth 100000 in
theorem ct_X18_init_3 {l : Launch} {D : va_G} {B : Nat} {S : AH → Prop}  (a : Nat) (x : Nat) (n : Nat) : Ct l D ZE B yX18_init cX18_init 3 none 4 76 0 0 [.ref (a), .ref (x), .int (nI n)] (Fr B S a ((.inr (18, [.int 0, .null, .null, .null])))) (RV (Fr B S a ((.inr (18, [.int (nI n), .ref (x), .ref (x), .ref (x)]))))) := by
  refine Ct.of (nL := 3) (lv := [some (.ref (a)), some (.ref (x)), some (.int (nI n))]) (by decide) (Nat.le_of_ble_eq_true rfl) stZE 0 rfl ?_
  generalize hT : RV (Fr B S a ((.inr (18, [.int (nI n), .ref (x), .ref (x), .ref (x)])))) = T
  intro zp ze zs zm zb zt zc F hr hnm
  generalize ([.ref (a), .ref (x), .int (nI n)] : List Value).toArray = za at F ⊢
  refine g_aload_n F dX18_init_0 rfl rfl (np := 1) rfl ?_
  refine g_aload_n F dX18_init_1 rfl rfl (np := 2) rfl ?_
  refine fr_putFX F hnm (ci := 18) in_X18 tyX18 tyX18_ok apX18 rfl 3 (by decide) rfl q1107 rfl (ty := (.object "PromiseRoofs")) rfl rfl (by first | rfl | exact va_fitQ _ _) (show 3 < 4 by decide) dX18_init_2 (np := 5) rfl ?_
  refine g_aload_n F dX18_init_5 rfl rfl (np := 6) rfl ?_
  refine g_aload_n F dX18_init_6 rfl rfl (np := 7) rfl ?_
  refine g_iload_n F dX18_init_7 rfl rfl (np := 8) rfl ?_
  refine g_runI F (rest := []) (ct_X17_init_3 a x n ) q1093 q131 q1106 q1092 rfl hcS_X17_init ⟨Nat.le_of_ble_eq_true rfl, Nat.le_of_ble_eq_true rfl⟩ rfl rfl (Nat.le_of_ble_eq_true rfl) dX18_init_8 ⟨Nat.le_of_ble_eq_true rfl, Nat.le_of_ble_eq_true rfl⟩ (np := 11) rfl (k_RV ?_)
  exact g_vret F hr (Nat.le_of_ble_eq_true rfl) (Nat.le_of_ble_eq_true rfl) dX18_init_11 (fun h hs => by rw [← hT]; exact ⟨rfl, hs⟩)

set_option maxRecDepth 100000 in
theorem ct_X18_init_5 {l : Launch} {D : va_G} {B : Nat} {S : AH → Prop}  (a : Nat) (x : Nat) (n : Nat) : Ct l D ZE B yX18_init cX18_init 3 none 4 76 0 0 [.ref (a), .ref (x), .int (nI n)] (Fr B S a ((.inr (20, [.int 0, .null, .null, .null, .ref (x)])))) (RV (Fr B S a ((.inr (20, [.int (nI n), .ref (x), .ref (x), .ref (x), .ref (x)]))))) := by
  refine Ct.of (nL := 3) (lv := [some (.ref (a)), some (.ref (x)), some (.int (nI n))]) (by decide) (Nat.le_of_ble_eq_true rfl) stZE 0 rfl ?_
  generalize hT : RV (Fr B S a ((.inr (20, [.int (nI n), .ref (x), .ref (x), .ref (x), .ref (x)])))) = T
  intro zp ze zs zm zb zt zc F hr hnm
  generalize ([.ref (a), .ref (x), .int (nI n)] : List Value).toArray = za at F ⊢
  refine g_aload_n F dX18_init_0 rfl rfl (np := 1) rfl ?_
  refine g_aload_n F dX18_init_1 rfl rfl (np := 2) rfl ?_
  refine fr_putFX F hnm (ci := 20) in_X20 tyX20 tyX20_ok apX20 rfl 3 (by decide) rfl q1107 rfl (ty := (.object "PromiseRoofs")) rfl rfl (by first | rfl | exact va_fitQ _ _) (show 3 < 5 by decide) dX18_init_2 (np := 5) rfl ?_
  refine g_aload_n F dX18_init_5 rfl rfl (np := 6) rfl ?_
  refine g_aload_n F dX18_init_6 rfl rfl (np := 7) rfl ?_
  refine g_iload_n F dX18_init_7 rfl rfl (np := 8) rfl ?_
  refine g_runI F (rest := []) (ct_X17_init_5 a x n ) q1093 q131 q1106 q1092 rfl hcS_X17_init ⟨Nat.le_of_ble_eq_true rfl, Nat.le_of_ble_eq_true rfl⟩ rfl rfl (Nat.le_of_ble_eq_true rfl) dX18_init_8 ⟨Nat.le_of_ble_eq_true rfl, Nat.le_of_ble_eq_true rfl⟩ (np := 11) rfl (k_RV ?_)
  exact g_vret F hr (Nat.le_of_ble_eq_true rfl) (Nat.le_of_ble_eq_true rfl) dX18_init_11 (fun h hs => by rw [← hT]; exact ⟨rfl, hs⟩)

set_option maxRecDepth 100000 in
theorem ct_X19_init_4 {l : Launch} {D : va_G} {B : Nat} {S : AH → Prop}  (a : Nat) (x : Nat) (n : Nat) : Ct l D ZE B yX19_init cX19_init 3 none 4 76 0 0 [.ref (a), .ref (x), .int (nI n)] (Fr B S a ((.inr (19, [.int 0, .null, .null, .null])))) (RV (Fr B S a ((.inr (19, [.int (nI n), .ref (x), .ref (x), .ref (x)]))))) := by
  refine Ct.of (nL := 3) (lv := [some (.ref (a)), some (.ref (x)), some (.int (nI n))]) (by decide) (Nat.le_of_ble_eq_true rfl) stZE 0 rfl ?_
  generalize hT : RV (Fr B S a ((.inr (19, [.int (nI n), .ref (x), .ref (x), .ref (x)])))) = T
  intro zp ze zs zm zb zt zc F hr hnm
  generalize ([.ref (a), .ref (x), .int (nI n)] : List Value).toArray = za at F ⊢
  refine g_aload_n F dX19_init_0 rfl rfl (np := 1) rfl ?_
  refine g_aload_n F dX19_init_1 rfl rfl (np := 2) rfl ?_
  refine fr_putFX F hnm (ci := 19) in_X19 tyX19 tyX19_ok apX19 rfl 3 (by decide) rfl q1120 rfl (ty := (.object "PromiseRoofs")) rfl rfl (by first | rfl | exact va_fitQ _ _) (show 3 < 4 by decide) dX19_init_2 (np := 5) rfl ?_
  refine g_aload_n F dX19_init_5 rfl rfl (np := 6) rfl ?_
  refine g_aload_n F dX19_init_6 rfl rfl (np := 7) rfl ?_
  refine g_iload_n F dX19_init_7 rfl rfl (np := 8) rfl ?_
  refine g_runI F (rest := []) (ct_X16_init_4 a x n ) q1071 q130 q1119 q1070 rfl hcS_X16_init ⟨Nat.le_of_ble_eq_true rfl, Nat.le_of_ble_eq_true rfl⟩ rfl rfl (Nat.le_of_ble_eq_true rfl) dX19_init_8 ⟨Nat.le_of_ble_eq_true rfl, Nat.le_of_ble_eq_true rfl⟩ (np := 11) rfl (k_RV ?_)
  exact g_vret F hr (Nat.le_of_ble_eq_true rfl) (Nat.le_of_ble_eq_true rfl) dX19_init_11 (fun h hs => by rw [← hT]; exact ⟨rfl, hs⟩)

set_option maxRecDepth 100000 in
theorem ct_X19_init_7 {l : Launch} {D : va_G} {B : Nat} {S : AH → Prop}  (a : Nat) (x : Nat) (n : Nat) : Ct l D ZE B yX19_init cX19_init 3 none 4 76 0 0 [.ref (a), .ref (x), .int (nI n)] (Fr B S a ((.inr (22, [.int 0, .null, .null, .null, .ref (x)])))) (RV (Fr B S a ((.inr (22, [.int (nI n), .ref (x), .ref (x), .ref (x), .ref (x)]))))) := by
  refine Ct.of (nL := 3) (lv := [some (.ref (a)), some (.ref (x)), some (.int (nI n))]) (by decide) (Nat.le_of_ble_eq_true rfl) stZE 0 rfl ?_
  generalize hT : RV (Fr B S a ((.inr (22, [.int (nI n), .ref (x), .ref (x), .ref (x), .ref (x)])))) = T
  intro zp ze zs zm zb zt zc F hr hnm
  generalize ([.ref (a), .ref (x), .int (nI n)] : List Value).toArray = za at F ⊢
  refine g_aload_n F dX19_init_0 rfl rfl (np := 1) rfl ?_
  refine g_aload_n F dX19_init_1 rfl rfl (np := 2) rfl ?_
  refine fr_putFX F hnm (ci := 22) in_X22 tyX22 tyX22_ok apX22 rfl 3 (by decide) rfl q1120 rfl (ty := (.object "PromiseRoofs")) rfl rfl (by first | rfl | exact va_fitQ _ _) (show 3 < 5 by decide) dX19_init_2 (np := 5) rfl ?_
  refine g_aload_n F dX19_init_5 rfl rfl (np := 6) rfl ?_
  refine g_aload_n F dX19_init_6 rfl rfl (np := 7) rfl ?_
  refine g_iload_n F dX19_init_7 rfl rfl (np := 8) rfl ?_
  refine g_runI F (rest := []) (ct_X16_init_7 a x n ) q1071 q130 q1119 q1070 rfl hcS_X16_init ⟨Nat.le_of_ble_eq_true rfl, Nat.le_of_ble_eq_true rfl⟩ rfl rfl (Nat.le_of_ble_eq_true rfl) dX19_init_8 ⟨Nat.le_of_ble_eq_true rfl, Nat.le_of_ble_eq_true rfl⟩ (np := 11) rfl (k_RV ?_)
  exact g_vret F hr (Nat.le_of_ble_eq_true rfl) (Nat.le_of_ble_eq_true rfl) dX19_init_11 (fun h hs => by rw [← hT]; exact ⟨rfl, hs⟩)

set_option maxRecDepth 100000 in
theorem ct_X20_init_5 {l : Launch} {D : va_G} {B : Nat} {S : AH → Prop}  (a : Nat) (x : Nat) (n : Nat) : Ct l D ZE B yX20_init cX20_init 3 none 5 98 0 0 [.ref (a), .ref (x), .int (nI n)] (Fr B S a ((.inr (20, [.int 0, .null, .null, .null, .null])))) (RV (Fr B S a ((.inr (20, [.int (nI n), .ref (x), .ref (x), .ref (x), .ref (x)]))))) := by
  refine Ct.of (nL := 3) (lv := [some (.ref (a)), some (.ref (x)), some (.int (nI n))]) (by decide) (Nat.le_of_ble_eq_true rfl) stZE 0 rfl ?_
  generalize hT : RV (Fr B S a ((.inr (20, [.int (nI n), .ref (x), .ref (x), .ref (x), .ref (x)])))) = T
  intro zp ze zs zm zb zt zc F hr hnm
  generalize ([.ref (a), .ref (x), .int (nI n)] : List Value).toArray = za at F ⊢
  refine g_aload_n F dX20_init_0 rfl rfl (np := 1) rfl ?_
  refine g_aload_n F dX20_init_1 rfl rfl (np := 2) rfl ?_
  refine fr_putFX F hnm (ci := 20) in_X20 tyX20 tyX20_ok apX20 rfl 4 (by decide) rfl q1133 rfl (ty := (.object "PromiseRoofs")) rfl rfl (by first | rfl | exact va_fitQ _ _) (show 4 < 5 by decide) dX20_init_2 (np := 5) rfl ?_
  refine g_aload_n F dX20_init_5 rfl rfl (np := 6) rfl ?_
  refine g_aload_n F dX20_init_6 rfl rfl (np := 7) rfl ?_
  refine g_iload_n F dX20_init_7 rfl rfl (np := 8) rfl ?_
  refine g_runI F (rest := []) (ct_X18_init_5 a x n ) q1105 q132 q1132 q1104 rfl hcS_X18_init ⟨Nat.le_of_ble_eq_true rfl, Nat.le_of_ble_eq_true rfl⟩ rfl rfl (Nat.le_of_ble_eq_true rfl) dX20_init_8 ⟨Nat.le_of_ble_eq_true rfl, Nat.le_of_ble_eq_true rfl⟩ (np := 11) rfl (k_RV ?_)
  exact g_vret F hr (Nat.le_of_ble_eq_true rfl) (Nat.le_of_ble_eq_true rfl) dX20_init_11 (fun h hs => by rw [← hT]; exact ⟨rfl, hs⟩)

set_option maxRecDepth 100000 in
theorem ct_X21_init_6 {l : Launch} {D : va_G} {B : Nat} {S : AH → Prop}  (a : Nat) (x : Nat) (n : Nat) : Ct l D ZE B yX21_init cX21_init 3 none 3 54 0 0 [.ref (a), .ref (x), .int (nI n)] (Fr B S a ((.inr (21, [.int 0, .null, .null])))) (RV (Fr B S a ((.inr (21, [.int (nI n), .ref (x), .ref (x)]))))) := by
  refine Ct.of (nL := 3) (lv := [some (.ref (a)), some (.ref (x)), some (.int (nI n))]) (by decide) (Nat.le_of_ble_eq_true rfl) stZE 0 rfl ?_
  generalize hT : RV (Fr B S a ((.inr (21, [.int (nI n), .ref (x), .ref (x)])))) = T
  intro zp ze zs zm zb zt zc F hr hnm
  generalize ([.ref (a), .ref (x), .int (nI n)] : List Value).toArray = za at F ⊢
  refine g_aload_n F dX21_init_0 rfl rfl (np := 1) rfl ?_
  refine g_aload_n F dX21_init_1 rfl rfl (np := 2) rfl ?_
  refine fr_putFX F hnm (ci := 21) in_X21 tyX21 tyX21_ok apX21 rfl 2 (by decide) rfl q1147 rfl (ty := (.object "PromiseRoofs")) rfl rfl (by first | rfl | exact va_fitQ _ _) (show 2 < 3 by decide) dX21_init_2 (np := 5) rfl ?_
  refine g_aload_n F dX21_init_5 rfl rfl (np := 6) rfl ?_
  refine g_aload_n F dX21_init_6 rfl rfl (np := 7) rfl ?_
  refine g_iload_n F dX21_init_7 rfl rfl (np := 8) rfl ?_
  refine g_runI F (rest := []) (ct_X15_init_6 a x n ) q1074 q129 q1146 q1073 rfl hcS_X15_init ⟨Nat.le_of_ble_eq_true rfl, Nat.le_of_ble_eq_true rfl⟩ rfl rfl (Nat.le_of_ble_eq_true rfl) dX21_init_8 ⟨Nat.le_of_ble_eq_true rfl, Nat.le_of_ble_eq_true rfl⟩ (np := 11) rfl (k_RV ?_)
  exact g_vret F hr (Nat.le_of_ble_eq_true rfl) (Nat.le_of_ble_eq_true rfl) dX21_init_11 (fun h hs => by rw [← hT]; exact ⟨rfl, hs⟩)

set_option maxRecDepth 100000 in
theorem ct_X22_init_7 {l : Launch} {D : va_G} {B : Nat} {S : AH → Prop}  (a : Nat) (x : Nat) (n : Nat) : Ct l D ZE B yX22_init cX22_init 3 none 5 98 0 0 [.ref (a), .ref (x), .int (nI n)] (Fr B S a ((.inr (22, [.int 0, .null, .null, .null, .null])))) (RV (Fr B S a ((.inr (22, [.int (nI n), .ref (x), .ref (x), .ref (x), .ref (x)]))))) := by
  refine Ct.of (nL := 3) (lv := [some (.ref (a)), some (.ref (x)), some (.int (nI n))]) (by decide) (Nat.le_of_ble_eq_true rfl) stZE 0 rfl ?_
  generalize hT : RV (Fr B S a ((.inr (22, [.int (nI n), .ref (x), .ref (x), .ref (x), .ref (x)])))) = T
  intro zp ze zs zm zb zt zc F hr hnm
  generalize ([.ref (a), .ref (x), .int (nI n)] : List Value).toArray = za at F ⊢
  refine g_aload_n F dX22_init_0 rfl rfl (np := 1) rfl ?_
  refine g_aload_n F dX22_init_1 rfl rfl (np := 2) rfl ?_
  refine fr_putFX F hnm (ci := 22) in_X22 tyX22 tyX22_ok apX22 rfl 4 (by decide) rfl q1159 rfl (ty := (.object "PromiseRoofs")) rfl rfl (by first | rfl | exact va_fitQ _ _) (show 4 < 5 by decide) dX22_init_2 (np := 5) rfl ?_
  refine g_aload_n F dX22_init_5 rfl rfl (np := 6) rfl ?_
  refine g_aload_n F dX22_init_6 rfl rfl (np := 7) rfl ?_
  refine g_iload_n F dX22_init_7 rfl rfl (np := 8) rfl ?_
  refine g_runI F (rest := []) (ct_X19_init_7 a x n ) q1118 q133 q1158 q1117 rfl hcS_X19_init ⟨Nat.le_of_ble_eq_true rfl, Nat.le_of_ble_eq_true rfl⟩ rfl rfl (Nat.le_of_ble_eq_true rfl) dX22_init_8 ⟨Nat.le_of_ble_eq_true rfl, Nat.le_of_ble_eq_true rfl⟩ (np := 11) rfl (k_RV ?_)
  exact g_vret F hr (Nat.le_of_ble_eq_true rfl) (Nat.le_of_ble_eq_true rfl) dX22_init_11 (fun h hs => by rw [← hT]; exact ⟨rfl, hs⟩)
