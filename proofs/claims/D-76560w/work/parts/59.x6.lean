/-! WALKS (printed by walk.py): init, init, init, owner, addPromise -/
set_option maxRecDepth 100000
set_option maxRecDepth 100000 in
theorem ct_X3_init {l : Launch} {D : va_G} {B : Nat} {S : AH → Prop} (a : Nat) (v : Int32) : Ct l D ZE B yX3_init cX3_init 2 none 1 12 0 0 [.ref (a), .int v] (Fr B S a ((.inr (3, [.int 0])))) (RV (Fr B S a ((.inr (3, [.int v]))))) := by
  refine Ct.of (nL := 2) (lv := [some (.ref (a)), some (.int v)]) (by decide) (Nat.le_of_ble_eq_true rfl) stZE 0 rfl ?_
  generalize hT : RV (Fr B S a ((.inr (3, [.int v])))) = T
  intro zp ze zs zm zb zt zc F hr hnm
  generalize ([.ref (a), .int v] : List Value).toArray = za at F ⊢
  refine g_aload_n F dX3_init_0 rfl rfl (np := 1) rfl ?_
  refine g_objInit F q305 q151 q152 (by decide) (Nat.le_of_ble_eq_true rfl) dX3_init_1 (np := 4) rfl ?_
  refine g_aload_n F dX3_init_4 rfl rfl (np := 5) rfl ?_
  refine g_iload_n F dX3_init_5 rfl rfl (np := 6) rfl ?_
  refine fr_put F (ci := 3) in_X3 tyX3 tyX3_ok nmX3 rfl 0 (by decide) rfl (Or.inl q306) rfl (ty := .int) rfl rfl (by first | rfl | exact va_fitQ _ _) (show 0 < 1 by decide) dX3_init_6 (np := 9) rfl ?_
  exact g_vret F hr (Nat.le_of_ble_eq_true rfl) (Nat.le_of_ble_eq_true rfl) dX3_init_9 (fun h hs => by rw [← hT]; exact ⟨rfl, hs⟩)

set_option maxRecDepth 100000 in
theorem ct_X4_init {l : Launch} {D : va_G} {B : Nat} {S : AH → Prop} (a : Nat) (b : Int32) (t : Int32) (w : Int32) (kd : Int32) (md : Int32) : Ct l D ZE B yX4_init cX4_init 6 none 1 12 0 0 [.ref (a), .int b, .int t, .int w, .int kd, .int md] (Fr B S a ((.inr (4, [.int 0, .int 0, .int 0, .int 0, .int 0, .int 0, .int 0])))) (RV (Fr B S a ((.inr (4, [.int b, .int t, .int w, .int kd, .int (nI 30), .int md, .int 0]))))) := by
  refine Ct.of (nL := 6) (lv := [some (.ref (a)), some (.int b), some (.int t), some (.int w), some (.int kd), some (.int md)]) (by decide) (Nat.le_of_ble_eq_true rfl) stZE 0 rfl ?_
  generalize hT : RV (Fr B S a ((.inr (4, [.int b, .int t, .int w, .int kd, .int (nI 30), .int md, .int 0])))) = T
  intro zp ze zs zm zb zt zc F hr hnm
  generalize ([.ref (a), .int b, .int t, .int w, .int kd, .int md] : List Value).toArray = za at F ⊢
  refine g_aload_n F dX4_init_0 rfl rfl (np := 1) rfl ?_
  refine g_objInit F q331 q151 q152 (by decide) (Nat.le_of_ble_eq_true rfl) dX4_init_1 (np := 4) rfl ?_
  refine g_aload_n F dX4_init_4 rfl rfl (np := 5) rfl ?_
  refine g_bipush F (v := (nI 30)) dX4_init_5 (by decide) (np := 7) rfl ?_
  refine fr_put F (ci := 4) in_X4 tyX4 tyX4_ok nmX4 rfl 4 (by decide) rfl (Or.inl q340) rfl (ty := .int) rfl rfl (by first | rfl | exact va_fitQ _ _) (show 4 < 7 by decide) dX4_init_7 (np := 10) rfl ?_
  refine g_aload_n F dX4_init_10 rfl rfl (np := 11) rfl ?_
  refine g_iload_n F dX4_init_11 rfl rfl (np := 12) rfl ?_
  refine fr_putF F hnm (ci := 4) in_X4 tyX4 tyX4_ok nmX4 rfl 0 (by decide) rfl rfl q332 rfl (ty := .int) rfl rfl (by first | rfl | exact va_fitQ _ _) (show 0 < 7 by decide) dX4_init_12 (np := 15) rfl ?_
  refine g_aload_n F dX4_init_15 rfl rfl (np := 16) rfl ?_
  refine g_iload_n F dX4_init_16 rfl rfl (np := 17) rfl ?_
  refine fr_putF F hnm (ci := 4) in_X4 tyX4 tyX4_ok nmX4 rfl 1 (by decide) rfl rfl q334 rfl (ty := .int) rfl rfl (by first | rfl | exact va_fitQ _ _) (show 1 < 7 by decide) dX4_init_17 (np := 20) rfl ?_
  refine g_aload_n F dX4_init_20 rfl rfl (np := 21) rfl ?_
  refine g_iload_n F dX4_init_21 rfl rfl (np := 22) rfl ?_
  refine fr_put F (ci := 4) in_X4 tyX4 tyX4_ok nmX4 rfl 2 (by decide) rfl (Or.inl q336) rfl (ty := .int) rfl rfl (by first | rfl | exact va_fitQ _ _) (show 2 < 7 by decide) dX4_init_22 (np := 25) rfl ?_
  refine g_aload_n F dX4_init_25 rfl rfl (np := 26) rfl ?_
  refine g_iload F dX4_init_26 rfl (np := 28) rfl ?_
  refine fr_put F (ci := 4) in_X4 tyX4 tyX4_ok nmX4 rfl 3 (by decide) rfl (Or.inl q338) rfl (ty := .int) rfl rfl (by first | rfl | exact va_fitQ _ _) (show 3 < 7 by decide) dX4_init_28 (np := 31) rfl ?_
  refine g_aload_n F dX4_init_31 rfl rfl (np := 32) rfl ?_
  refine g_iload F dX4_init_32 rfl (np := 34) rfl ?_
  refine fr_put F (ci := 4) in_X4 tyX4 tyX4_ok nmX4 rfl 5 (by decide) rfl (Or.inl q342) rfl (ty := .int) rfl rfl (by first | rfl | exact va_fitQ _ _) (show 5 < 7 by decide) dX4_init_34 (np := 37) rfl ?_
  exact g_vret F hr (Nat.le_of_ble_eq_true rfl) (Nat.le_of_ble_eq_true rfl) dX4_init_37 (fun h hs => by rw [← hT]; exact ⟨rfl, hs⟩)

set_option maxRecDepth 100000 in
theorem ct_X5_init {l : Launch} {D : va_G} {B : Nat} {S : AH → Prop} (a : Nat) (w : Int32) (n : Int32) (v : Int32) (u : Int32) : Ct l D ZE B yX5_init cX5_init 5 none 1 12 0 0 [.ref (a), .int w, .int n, .int v, .int u] (Fr B S a ((.inr (5, [.int 0, .int 0, .int 0, .int 0])))) (RV (Fr B S a ((.inr (5, [.int w, .int n, .int v, .int u]))))) := by
  refine Ct.of (nL := 5) (lv := [some (.ref (a)), some (.int w), some (.int n), some (.int v), some (.int u)]) (by decide) (Nat.le_of_ble_eq_true rfl) stZE 0 rfl ?_
  generalize hT : RV (Fr B S a ((.inr (5, [.int w, .int n, .int v, .int u])))) = T
  intro zp ze zs zm zb zt zc F hr hnm
  generalize ([.ref (a), .int w, .int n, .int v, .int u] : List Value).toArray = za at F ⊢
  refine g_aload_n F dX5_init_0 rfl rfl (np := 1) rfl ?_
  refine g_objInit F q540 q151 q152 (by decide) (Nat.le_of_ble_eq_true rfl) dX5_init_1 (np := 4) rfl ?_
  refine g_aload_n F dX5_init_4 rfl rfl (np := 5) rfl ?_
  refine g_iload_n F dX5_init_5 rfl rfl (np := 6) rfl ?_
  refine fr_putF F hnm (ci := 5) in_X5 tyX5 tyX5_ok nmX5 rfl 0 (by decide) rfl rfl q541 rfl (ty := .int) rfl rfl (by first | rfl | exact va_fitQ _ _) (show 0 < 4 by decide) dX5_init_6 (np := 9) rfl ?_
  refine g_aload_n F dX5_init_9 rfl rfl (np := 10) rfl ?_
  refine g_iload_n F dX5_init_10 rfl rfl (np := 11) rfl ?_
  refine fr_putF F hnm (ci := 5) in_X5 tyX5 tyX5_ok nmX5 rfl 1 (by decide) rfl rfl q543 rfl (ty := .int) rfl rfl (by first | rfl | exact va_fitQ _ _) (show 1 < 4 by decide) dX5_init_11 (np := 14) rfl ?_
  refine g_aload_n F dX5_init_14 rfl rfl (np := 15) rfl ?_
  refine g_iload_n F dX5_init_15 rfl rfl (np := 16) rfl ?_
  refine fr_putF F hnm (ci := 5) in_X5 tyX5 tyX5_ok nmX5 rfl 2 (by decide) rfl rfl q545 rfl (ty := .int) rfl rfl (by first | rfl | exact va_fitQ _ _) (show 2 < 4 by decide) dX5_init_16 (np := 19) rfl ?_
  refine g_aload_n F dX5_init_19 rfl rfl (np := 20) rfl ?_
  refine g_iload F dX5_init_20 rfl (np := 22) rfl ?_
  refine fr_putF F hnm (ci := 5) in_X5 tyX5 tyX5_ok nmX5 rfl 3 (by decide) rfl rfl q547 rfl (ty := .int) rfl rfl (by first | rfl | exact va_fitQ _ _) (show 3 < 4 by decide) dX5_init_22 (np := 25) rfl ?_
  exact g_vret F hr (Nat.le_of_ble_eq_true rfl) (Nat.le_of_ble_eq_true rfl) dX5_init_25 (fun h hs => by rw [← hT]; exact ⟨rfl, hs⟩)

set_option maxRecDepth 100000 in
theorem ct_X0_owner {l : Launch} {D : va_G} {B : Nat} {Λ : LT} {I : AH} {L : LawT} (σ : MSt)  (x : Int32) (hno : σ.1 0 ≤ 8) : Ct l D ZE B yX0_owner cX0_owner 2 (some .int) 2 33 1 1 [.ref (Λ.1 0 38), .int x] (XH D Λ I L σ) (RE (fun (r : Int32) (Λ' : LT) => r = rOwner σ x ∧ (Λ' = Λ ∨ ∃ a, Λ' = (upL Λ.1 1 (σ.1 0) a, upR Λ.2 0 (σ.1 0) (some a)))) (fun _ Λ' => XH D Λ' I L (gOwner σ x))) := by
  refine Ct.of (nL := 2) (lv := [some (.ref (Λ.1 0 38)), some (.int x)]) (by decide) (Nat.le_of_ble_eq_true rfl) stZE 0 rfl ?_
  generalize hT : RE (fun (r : Int32) (Λ' : LT) => r = rOwner σ x ∧ (Λ' = Λ ∨ ∃ a, Λ' = (upL Λ.1 1 (σ.1 0) a, upR Λ.2 0 (σ.1 0) (some a)))) (fun _ Λ' => XH D Λ' I L (gOwner σ x)) = T
  intro zp ze zs zm zb zt zc F hr hnm
  generalize ([.ref (Λ.1 0 38), .int x] : List Value).toArray = za at F ⊢
  refine g_iload_n F dX0_owner_0 rfl rfl (np := 1) rfl ?_
  refine g_iconst F (v := (nI 0)) dX0_owner_1 (by decide) (np := 2) rfl ?_
  refine g_sipush F (v := (nI 999)) dX0_owner_2 (by decide) (np := 5) rfl ?_
  refine g_runS F (rest := []) (ct_X0_in x (nI (0)) (nI (999)) ) (lw_S q298 q299 q100 q300) hcS_X0_in ⟨Nat.le_of_ble_eq_true rfl, Nat.le_of_ble_eq_true rfl⟩ rfl rfl (Nat.le_of_ble_eq_true rfl) dX0_owner_5 ⟨Nat.le_of_ble_eq_true rfl, Nat.le_of_ble_eq_true rfl⟩ (np := 8) rfl (k_RI ?_)
  refine g_if_neB F dX0_owner_8 (tp := 13) (by decide) (np := 11) rfl (fun c8 => ?_) (fun c8 => ?_)
  · refine g_aload_n F dX0_owner_13 rfl rfl (np := 14) rfl ?_
    refine x_get F (k := 2) (v := .int (nI (σ.1 0))) (by decide) rfl (Or.inl q179) dX0_owner_14 (np := 17) rfl ?_
    refine g_bipush F (v := (nI 8)) dX0_owner_17 (by decide) (np := 19) rfl ?_
    refine g_icmp_neN F (by omega) (by decide) dX0_owner_19 (tp := 25) (by decide) (np := 22) rfl (fun c19 => ?_) (fun c19 => ?_)
    · refine g_aload_n F dX0_owner_25 rfl rfl (np := 26) rfl ?_
      refine x_get F (k := 0) (v := .ref (Λ.1 0 0)) (by decide) rfl (Or.inl q177) dX0_owner_26 (np := 29) rfl ?_
      refine g_aload_n F dX0_owner_29 rfl rfl (np := 30) rfl ?_
      refine x_get F (k := 2) (v := .int (nI (σ.1 0))) (by decide) rfl (Or.inl q179) dX0_owner_30 (np := 33) rfl ?_
      refine g_new F in_X3 tyX3 tyX3_ok q153 q301 q103 (ci := 3) rfl (fs := [.int 0]) (fun j hj => by match j, hj with | 0, _ => rfl) (Nat.le_of_ble_eq_true rfl) (Nat.le_of_ble_eq_true rfl) dX0_owner_33 (np := 36) rfl (fun a => ?_)
      refine WG.weak (S' := Fr B (XH D Λ I L σ) a ((.inr (3, [.int 0])))) (fun h hs => hs) ?_
      refine g_dup F dX0_owner_36 rfl (np := 37) rfl ?_
      refine g_iload_n F dX0_owner_37 rfl rfl (np := 38) rfl ?_
      refine g_runI F (rest := [.ref (a), .int (nI (σ.1 0)), .ref (Λ.1 0 0)]) (ct_X3_init a x ) q304 q103 q302 q303 rfl hcS_X3_init ⟨Nat.le_of_ble_eq_true rfl, Nat.le_of_ble_eq_true rfl⟩ rfl rfl (Nat.le_of_ble_eq_true rfl) dX0_owner_38 ⟨Nat.le_of_ble_eq_true rfl, Nat.le_of_ble_eq_true rfl⟩ (np := 41) rfl (k_RV ?_)
      refine x_astq F (k := 0) (i := σ.1 0) (n := 8) (t0 := 5) (ci := 3) rfl rfl (by decide) (by decide) (fun _ _ => rfl) (by decide) (by omega) rfl dX0_owner_41 (np := 42) rfl (fun hIa => ?_)
      refine g_aload_n F dX0_owner_42 rfl rfl (np := 43) rfl ?_
      refine g_dup F dX0_owner_43 rfl (np := 44) rfl ?_
      refine p_get F (Λ' := (Λ.1, upR Λ.2 0 (σ.1 0) (some a))) (k := 2) (v := .int (nI (σ.1 0))) (by decide) rfl (Or.inl q179) dX0_owner_44 (np := 47) rfl ?_
      refine g_iconst F (v := (nI 1)) dX0_owner_47 (by decide) (np := 48) rfl ?_
      refine g_iaddN F dX0_owner_48 (np := 49) rfl ?_
      refine p_put F (Λ' := (Λ.1, upR Λ.2 0 (σ.1 0) (some a))) (k := 2) (ty := .int) (S' := XH D (upL Λ.1 1 (σ.1 0) a, upR Λ.2 0 (σ.1 0) (some a)) I L ((sN (sA σ 1 (σ.1 0) x) 0 (σ.1 0 + 1)))) (by decide) (fun h nm km kd hr hw => new_owner hIa hr hw) rfl rfl rfl rfl (Or.inl q179) dX0_owner_49 (np := 52) rfl ?_
      refine g_aload_n F dX0_owner_52 rfl rfl (np := 53) rfl ?_
      refine x_get F (k := 2) (v := .int (nI (σ.1 0 + 1))) (by decide) rfl (Or.inl q179) dX0_owner_53 (np := 56) rfl ?_
      refine g_iconst F (v := (nI 1)) dX0_owner_56 (by decide) (np := 57) rfl ?_
      refine g_isubN F (by omega) dX0_owner_57 (np := 58) rfl ?_
      refine WG.eqv (st' := [.int (nI (σ.1 0))]) (congrArg (fun z => ([.int z] : List Value)) (show (nI ((σ.1 0 + 1) - 1)) = (nI (σ.1 0)) from by exact congrArg nI (Nat.add_sub_cancel _ _))) rfl ?_
      exact g_iret F hr rfl (Nat.le_of_ble_eq_true rfl) (Nat.le_of_ble_eq_true rfl) dX0_owner_58 (fun h hs => by rw [← hT]; exact ⟨_, (upL Λ.1 1 (σ.1 0) a, upR Λ.2 0 (σ.1 0) (some a)), ⟨(by unfold rOwner; rw [pif_t (bt999.mp c8), if_neg c19]), Or.inr ⟨a, rfl⟩⟩, rfl, (by unfold gOwner; rw [pif_t ⟨bt999.mp c8, c19⟩]; exact hs)⟩)
    · refine g_bipush F (v := (-3)) dX0_owner_22 (by decide) (np := 24) rfl ?_
      exact g_iret F hr rfl (Nat.le_of_ble_eq_true rfl) (Nat.le_of_ble_eq_true rfl) dX0_owner_24 (fun h hs => by rw [← hT]; exact ⟨_, Λ, ⟨(by unfold rOwner; rw [pif_t (bt999.mp c8), if_pos c19]), Or.inl rfl⟩, rfl, (by unfold gOwner; rw [pif_f (fun z => z.2 c19)]; exact hs)⟩)
  · refine g_iconst F (v := (-1)) dX0_owner_11 (by decide) (np := 12) rfl ?_
    exact g_iret F hr rfl (Nat.le_of_ble_eq_true rfl) (Nat.le_of_ble_eq_true rfl) dX0_owner_12 (fun h hs => by rw [← hT]; exact ⟨_, Λ, ⟨(by unfold rOwner; rw [pif_f (fun z => c8 (bt999.mpr z))]), Or.inl rfl⟩, rfl, (by unfold gOwner; rw [pif_f (fun z => c8 (bt999.mpr z.1))]; exact hs)⟩)

set_option maxRecDepth 100000 in
theorem ct_X0_addPromise {l : Launch} {D : va_G} {B : Nat} {Λ : LT} {I : AH} {L : LawT} (σ : MSt)  (b : Int32) (t : Int32) (w : Int32) (kd : Int32) (hlt : σ.1 2 < 14) : Ct l D ZE B yX0_addPromise cX0_addPromise 5 (some .int) 2 37 1 7 [.ref (Λ.1 0 38), .int b, .int t, .int w, .int kd] (XH D Λ I L σ) (RE (fun (r : Int32) (_ : Nat) => r = nI (σ.1 2)) (fun _ a => XH D (upL Λ.1 2 (σ.1 2) a, upR Λ.2 1 (σ.1 2) (some a)) I L (addS σ b t w kd))) := by
  refine Ct.of (nL := 5) (lv := [some (.ref (Λ.1 0 38)), some (.int b), some (.int t), some (.int w), some (.int kd)]) (by decide) (Nat.le_of_ble_eq_true rfl) stZE 0 rfl ?_
  generalize hT : RE (fun (r : Int32) (_ : Nat) => r = nI (σ.1 2)) (fun _ a => XH D (upL Λ.1 2 (σ.1 2) a, upR Λ.2 1 (σ.1 2) (some a)) I L (addS σ b t w kd)) = T
  intro zp ze zs zm zb zt zc F hr hnm
  generalize ([.ref (Λ.1 0 38), .int b, .int t, .int w, .int kd] : List Value).toArray = za at F ⊢
  refine g_aload_n F dX0_addPromise_0 rfl rfl (np := 1) rfl ?_
  refine x_get F (k := 1) (v := .ref (Λ.1 0 1)) (by decide) rfl (Or.inl q178) dX0_addPromise_1 (np := 4) rfl ?_
  refine g_aload_n F dX0_addPromise_4 rfl rfl (np := 5) rfl ?_
  refine x_get F (k := 3) (v := .int (nI (σ.1 2))) (by decide) rfl (Or.inl q180) dX0_addPromise_5 (np := 8) rfl ?_
  refine g_new F in_X4 tyX4 tyX4_ok q155 q327 q104 (ci := 4) rfl (fs := [.int 0, .int 0, .int 0, .int 0, .int 0, .int 0, .int 0]) (fun j hj => by match j, hj with | 0, _ => rfl | 1, _ => rfl | 2, _ => rfl | 3, _ => rfl | 4, _ => rfl | 5, _ => rfl | 6, _ => rfl) (Nat.le_of_ble_eq_true rfl) (Nat.le_of_ble_eq_true rfl) dX0_addPromise_8 (np := 11) rfl (fun a => ?_)
  refine WG.weak (S' := Fr B (XH D Λ I L σ) a ((.inr (4, [.int 0, .int 0, .int 0, .int 0, .int 0, .int 0, .int 0])))) (fun h hs => hs) ?_
  refine g_dup F dX0_addPromise_11 rfl (np := 12) rfl ?_
  refine g_iload_n F dX0_addPromise_12 rfl rfl (np := 13) rfl ?_
  refine g_iload_n F dX0_addPromise_13 rfl rfl (np := 14) rfl ?_
  refine g_iload_n F dX0_addPromise_14 rfl rfl (np := 15) rfl ?_
  refine g_iload F dX0_addPromise_15 rfl (np := 17) rfl ?_
  refine g_aload_n F dX0_addPromise_17 rfl rfl (np := 18) rfl ?_
  refine g_getL F in_X0 (ci := 0) rfl 4 (by decide) rfl (Or.inl q181) (v := .int (nI (σ.1 6))) (fun h hs => ⟨_, XFr.fld hs, rfl⟩) dX0_addPromise_18 (np := 21) rfl ?_
  refine g_runI F (rest := [.ref (a), .int (nI (σ.1 2)), .ref (Λ.1 0 1)]) (ct_X4_init a b t w kd (nI (σ.1 6)) ) q330 q104 q328 q329 rfl hcS_X4_init ⟨Nat.le_of_ble_eq_true rfl, Nat.le_of_ble_eq_true rfl⟩ rfl rfl (Nat.le_of_ble_eq_true rfl) dX0_addPromise_21 ⟨Nat.le_of_ble_eq_true rfl, Nat.le_of_ble_eq_true rfl⟩ (np := 24) rfl (k_RV ?_)
  refine x_astq F (k := 1) (i := σ.1 2) (n := 14) (t0 := 6) (ci := 4) rfl rfl (by decide) (by decide) (fun _ _ => rfl) (by decide) (by omega) rfl dX0_addPromise_24 (np := 25) rfl (fun hIa => ?_)
  refine g_aload_n F dX0_addPromise_25 rfl rfl (np := 26) rfl ?_
  refine g_dup F dX0_addPromise_26 rfl (np := 27) rfl ?_
  refine p_get F (Λ' := (Λ.1, upR Λ.2 1 (σ.1 2) (some a))) (k := 3) (v := .int (nI (σ.1 2))) (by decide) rfl (Or.inl q180) dX0_addPromise_27 (np := 30) rfl ?_
  refine g_iconst F (v := (nI 1)) dX0_addPromise_30 (by decide) (np := 31) rfl ?_
  refine g_iaddN F dX0_addPromise_31 (np := 32) rfl ?_
  refine p_put F (Λ' := (Λ.1, upR Λ.2 1 (σ.1 2) (some a))) (k := 3) (ty := .int) (S' := XH D (upL Λ.1 2 (σ.1 2) a, upR Λ.2 1 (σ.1 2) (some a)) I L (addS σ b t w kd)) (by decide) (fun h nm km kd hr hw => new_prom hlt hIa hr hw) rfl rfl rfl rfl (Or.inl q180) dX0_addPromise_32 (np := 35) rfl ?_
  refine g_aload_n F dX0_addPromise_35 rfl rfl (np := 36) rfl ?_
  refine x_get F (k := 3) (v := .int (nI (σ.1 2 + 1))) (by decide) rfl (Or.inl q180) dX0_addPromise_36 (np := 39) rfl ?_
  refine g_iconst F (v := (nI 1)) dX0_addPromise_39 (by decide) (np := 40) rfl ?_
  refine WG.eqv (st' := [.int (nI 1), .int (nI (σ.1 2 + 1))]) (congrArg (fun z => ([.int (nI 1), .int z] : List Value)) (show (nI (σ.1 2 + 1)) = (nI (σ.1 2 + 1)) from by rfl)) rfl ?_
  refine g_isubN F (by show 1 ≤ σ.1 2 + 1; omega) dX0_addPromise_40 (np := 41) rfl ?_
  refine WG.eqv (st' := [.int (nI (σ.1 2))]) (congrArg (fun z => ([.int z] : List Value)) (show (nI ((σ.1 2 + 1) - 1)) = (nI (σ.1 2)) from by exact congrArg nI (Nat.add_sub_cancel _ _))) rfl ?_
  exact g_iret F hr rfl (Nat.le_of_ble_eq_true rfl) (Nat.le_of_ble_eq_true rfl) dX0_addPromise_41 (fun h hs => by rw [← hT]; exact ⟨_, a, rfl, rfl, hs⟩)
