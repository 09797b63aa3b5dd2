/-! WALKS (printed by walk.py): redo, become, mend, back -/
set_option maxRecDepth 100000
set_option maxRecDepth 100000 in
theorem ct_X0_redo {l : Launch} {D : va_G} {B : Nat} {Λ : LT} {I : AH} {L : LawT} (σ : MSt)   (hno : σ.1 0 ≤ 8) (hm14 : σ.1 2 ≤ 14) (hch : chOK σ) : Ct l D ZE B yX0_redo cX0_redo 1 (some .int) 1 23 0 0 [.ref (Λ.1 0 38)] (XH D Λ I L σ) (RI (rRedo σ) (XH D Λ I L (gRedo σ))) := by
  refine Ct.of (nL := 1) (lv := [some (.ref (Λ.1 0 38))]) (by decide) (Nat.le_of_ble_eq_true rfl) stZE 0 rfl ?_
  generalize hT : RI (rRedo σ) (XH D Λ I L (gRedo σ)) = T
  intro zp ze zs zm zb zt zc F hr hnm
  generalize ([.ref (Λ.1 0 38)] : List Value).toArray = za at F ⊢
  obtain ⟨ch1, ch2, ch3⟩ := hch
  refine g_aload_n F dX0_redo_0 rfl rfl (np := 1) rfl ?_
  refine x_get F (k := 8) (v := .int (nI (σ.1 31 - σ.1 32))) (by decide) rfl (Or.inl q185) dX0_redo_1 (np := 4) rfl ?_
  refine g_if_neN F (by omega) dX0_redo_4 (tp := 10) (by decide) (np := 7) rfl (fun c4 => ?_) (fun c4 => ?_)
  · refine WG.obt (fun h hs => XH.chg hs (e := σ.1 32) (show σ.1 32 < σ.1 31 by omega)) (fun hcx => ?_)
    obtain ⟨ca, hca, hcI⟩ := hcx
    obtain ⟨nn, ww, e1, e2, e3, e4, e5⟩ := ch3 (σ.1 32) (by omega)
    have hsl := e3
    refine g_aload_n F dX0_redo_10 rfl rfl (np := 11) rfl ?_
    refine g_aload_n F dX0_redo_11 rfl rfl (np := 12) rfl ?_
    refine x_get F (k := 6) (v := .ref (Λ.1 0 6)) (by decide) rfl (Or.inl q183) dX0_redo_12 (np := 15) rfl ?_
    refine g_aload_n F dX0_redo_15 rfl rfl (np := 16) rfl ?_
    refine x_get F (k := 7) (v := .int (nI (σ.1 32))) (by decide) rfl (Or.inl q184) dX0_redo_16 (np := 19) rfl ?_
    refine x_ald F (k := 6) (i := (σ.1 32)) (n := 40) (t0 := 7) rfl (fun _ _ _ => rfl) (by decide) (by decide) (by omega) rfl (v := some ca) (fun _ _ _ _ => hca) dX0_redo_19 (np := 20) rfl ?_
    refine g_getL F in_X5 (ci := 5) rfl 0 (by decide) rfl (Or.inr ⟨_, ze542⟩) (v := .int (σ.2.1 33 (4 * (σ.1 32) + 1))) (fun h hs => ⟨_, XH.kn hs hcI, rfl⟩) dX0_redo_20 (np := 23) rfl ?_
    refine g_aload_n F dX0_redo_23 rfl rfl (np := 24) rfl ?_
    refine x_get F (k := 6) (v := .ref (Λ.1 0 6)) (by decide) rfl (Or.inl q183) dX0_redo_24 (np := 27) rfl ?_
    refine g_aload_n F dX0_redo_27 rfl rfl (np := 28) rfl ?_
    refine x_get F (k := 7) (v := .int (nI (σ.1 32))) (by decide) rfl (Or.inl q184) dX0_redo_28 (np := 31) rfl ?_
    refine x_ald F (k := 6) (i := (σ.1 32)) (n := 40) (t0 := 7) rfl (fun _ _ _ => rfl) (by decide) (by decide) (by omega) rfl (v := some ca) (fun _ _ _ _ => hca) dX0_redo_31 (np := 32) rfl ?_
    refine g_getL F in_X5 (ci := 5) rfl 1 (by decide) rfl (Or.inr ⟨_, ze544⟩) (v := .int (σ.2.1 33 (4 * (σ.1 32)))) (fun h hs => ⟨_, XH.kn hs hcI, rfl⟩) dX0_redo_32 (np := 35) rfl ?_
    refine g_aload_n F dX0_redo_35 rfl rfl (np := 36) rfl ?_
    refine x_get F (k := 6) (v := .ref (Λ.1 0 6)) (by decide) rfl (Or.inl q183) dX0_redo_36 (np := 39) rfl ?_
    refine g_aload_n F dX0_redo_39 rfl rfl (np := 40) rfl ?_
    refine x_get F (k := 7) (v := .int (nI (σ.1 32))) (by decide) rfl (Or.inl q184) dX0_redo_40 (np := 43) rfl ?_
    refine x_ald F (k := 6) (i := (σ.1 32)) (n := 40) (t0 := 7) rfl (fun _ _ _ => rfl) (by decide) (by decide) (by omega) rfl (v := some ca) (fun _ _ _ _ => hca) dX0_redo_43 (np := 44) rfl ?_
    refine g_getL F in_X5 (ci := 5) rfl 3 (by decide) rfl (Or.inr ⟨_, ze548⟩) (v := .int (σ.2.1 33 (4 * (σ.1 32) + 3))) (fun h hs => ⟨_, XH.kn hs hcI, rfl⟩) dX0_redo_44 (np := 47) rfl ?_
    refine WG.eqv (st' := [.int (σ.2.1 33 (4 * (σ.1 32) + 3)), .int (σ.2.1 33 (4 * (σ.1 32))), .int (nI ww), .ref (Λ.1 0 38)]) (congrArg (fun z => ([.int (σ.2.1 33 (4 * (σ.1 32) + 3)), .int (σ.2.1 33 (4 * (σ.1 32))), .int z, .ref (Λ.1 0 38)] : List Value)) (show (σ.2.1 33 (4 * (σ.1 32) + 1)) = (nI ww) from by exact e2)) rfl ?_
    refine WG.eqv (st' := [.int (σ.2.1 33 (4 * (σ.1 32) + 3)), .int (nI nn), .int (nI ww), .ref (Λ.1 0 38)]) (congrArg (fun z => ([.int (σ.2.1 33 (4 * (σ.1 32) + 3)), .int z, .int (nI ww), .ref (Λ.1 0 38)] : List Value)) (show (σ.2.1 33 (4 * (σ.1 32))) = (nI nn) from by exact e1)) rfl ?_
    refine g_runV F (C := RX0) (ci := 0) (T0 := TX0) (N := 38) (rest := []) (ct_X0_setTo σ ww nn (σ.2.1 33 (4 * (σ.1 32) + 3)) (by exact hno) (by exact hm14) (by rcases hsl with z | z | z <;> omega) (by intro q; show nn < σ.1 0; rcases hsl with z | z | z <;> omega) (by intro q1 q2; show nn < σ.1 2; rcases hsl with z | z | z <;> omega) (by intro hw; subst hw; exact (valOK_6 e5).1)) (lw_V q505 q507 qs5 q100 q508) hcV_X0_setTo ⟨Nat.le_of_ble_eq_true rfl, Nat.le_of_ble_eq_true rfl⟩ rfl (fun h hs => hs.obj) rfl rfl (Nat.le_of_ble_eq_true rfl) dX0_redo_47 ⟨Nat.le_of_ble_eq_true rfl, Nat.le_of_ble_eq_true rfl⟩ (np := 50) rfl (k_RV ?_)
    obtain ⟨τ, hτ⟩ : ∃ z : MSt, z = sSet σ nn ww (σ.2.1 33 (4 * (σ.1 32) + 3)) := ⟨_, rfl⟩
    refine WG.weak (S' := XH D Λ I L τ) (fun h hs => by rw [show τ = (sSet σ nn ww (σ.2.1 33 (4 * (σ.1 32) + 3))) from by exact hτ]; exact hs) ?_
    have t31 : τ.1 31 = σ.1 31 := by rw [hτ]; exact sSet_n _ _ _ _ (by decide)
    have t32 : τ.1 32 = σ.1 32 := by rw [hτ]; exact sSet_n _ _ _ _ (by decide)
    refine WG.ex (fun nm0 => ?_)
    refine WG.ex (fun km0 => ?_)
    refine WG.ex (fun kd0 => ?_)
    refine WG.pr (fun hXR => ?_)
    refine g_aload_n F dX0_redo_50 rfl rfl (np := 51) rfl ?_
    refine g_dup F dX0_redo_51 rfl (np := 52) rfl ?_
    refine w_get F (k := 7) (v := .int (nI (τ.1 32))) (by decide) rfl (Or.inl q184) dX0_redo_52 (np := 55) rfl ?_
    refine g_iconst F (v := (nI 1)) dX0_redo_55 (by decide) (np := 56) rfl ?_
    refine g_iaddN F dX0_redo_56 (np := 57) rfl ?_
    refine w_put F (k := 7) (ty := .int) (by decide) put7 rfl rfl rfl rfl (Or.inl q184) dX0_redo_57 (np := 60) rfl ?_
    refine g_aload_n F dX0_redo_60 rfl rfl (np := 61) rfl ?_
    refine g_dup F dX0_redo_61 rfl (np := 62) rfl ?_
    refine w_get F (k := 8) (v := .int (nI (τ.1 31 - τ.1 32))) (by decide) (show some (Value.int (nI (τ.1 31 - τ.1 32 + (τ.1 32 + 1) - (τ.1 32 + 1)))) = _ by rw [Nat.add_sub_cancel]) (Or.inl q185) dX0_redo_62 (np := 65) rfl ?_
    refine g_iconst F (v := (nI 1)) dX0_redo_65 (by decide) (np := 66) rfl ?_
    refine g_isubN F (by omega) dX0_redo_66 (np := 67) rfl ?_
    refine w_put F (k := 8) (ty := .int) (by decide) put8 rfl rfl rfl rfl (Or.inl q185) dX0_redo_67 (np := 70) rfl ?_
    refine WG.weak (S' := XW D Λ I (hid (sN τ 32 (τ.1 32 + 1)) nm0 km0 kd0)) (fun h hs => by rw [show (hid (sN τ 32 (τ.1 32 + 1)) nm0 km0 kd0) = (hid (sN (sN (sN τ 32 (τ.1 32 + 1)) 31 (τ.1 31 - τ.1 32 + (τ.1 32 + 1))) 31 (τ.1 32 + 1 + (τ.1 31 - τ.1 32 - 1))) nm0 km0 kd0) from by rw [sN_sN, show τ.1 32 + 1 + (τ.1 31 - τ.1 32 - 1) = (sN τ 32 (τ.1 32 + 1)).1 31 from by show _ = τ.1 31; omega, sN_same]]; exact hs) ?_
    refine WG.weak (S' := XH D Λ I L (sN τ 32 (τ.1 32 + 1))) (fun h hs => undo_close hXR (fun j hj => va_up_ne _ _ hj) rfl hs) ?_
    refine g_aload_n F dX0_redo_70 rfl rfl (np := 71) rfl ?_
    refine x_get F (k := 8) (v := .int (nI (τ.1 31 - (τ.1 32 + 1)))) (by decide) rfl (Or.inl q185) dX0_redo_71 (np := 74) rfl ?_
    have hσ : (sN τ 32 (τ.1 32 + 1)) = (gRedo σ) := by unfold gRedo; rw [if_neg (by omega)]; unfold chE; simp only; rw [t32, hτ, e1, e2, nI_clamp (by rcases hsl with z | z | z <;> omega), nI_clamp (by rcases hsl with z | z | z <;> omega)]
    have hv : nI (τ.1 31 - (τ.1 32 + 1)) = rRedo σ := by unfold rRedo; rw [if_neg (by omega)]; show nI (τ.1 31 - (τ.1 32 + 1)) = _; rw [t31, t32]
    exact g_iret F hr rfl (Nat.le_of_ble_eq_true rfl) (Nat.le_of_ble_eq_true rfl) dX0_redo_74 (fun h hs => by rw [← hT]; exact ⟨congrArg (fun z => some (Value.int z)) hv, (hσ ▸ hs)⟩)
  · refine g_bipush F (v := (-5)) dX0_redo_7 (by decide) (np := 9) rfl ?_
    have hσ : σ = (gRedo σ) := by unfold gRedo; rw [if_pos (by omega)]
    have hv : -5 = rRedo σ := by unfold rRedo; rw [if_pos (by omega)]
    exact g_iret F hr rfl (Nat.le_of_ble_eq_true rfl) (Nat.le_of_ble_eq_true rfl) dX0_redo_9 (fun h hs => by rw [← hT]; exact ⟨congrArg (fun z => some (Value.int z)) hv, (hσ ▸ hs)⟩)

set_option maxRecDepth 100000 in
theorem ct_X0_become {l : Launch} {D : va_G} {B : Nat} {Λ : LT} {I : AH} {L : LawT} (σ : MSt)  (w : Nat) (n : Nat) (was : Int32) (v : Int32) (hno : σ.1 0 ≤ 8) (hm14 : σ.1 2 ≤ 14) (hcd : σ.1 32 ≤ σ.1 31) (hc4 : σ.1 31 ≤ 40) (hw : w ≤ 6) (hw0 : w = 0 → n < σ.1 0) (hw1 : 1 ≤ w → w ≤ 5 → n < σ.1 2) (hw6 : w = 6 → v = nI v.toNatClampNeg) : Ct l D ZE B yX0_become cX0_become 6 (some .int) 2 36 1 4 [.ref (Λ.1 0 38), .int (nI w), .int (nI n), .int was, .int v] (XH D Λ I L σ) (RE (fun (r : Int32) (u : LT × AH) => r = was ∧ IE I u.2 ∧ u.1.1 = Λ.1) (fun _ u => XH D u.1 u.2 L (gBecome σ n w was v))) := by
  refine Ct.of (nL := 6) (lv := [some (.ref (Λ.1 0 38)), some (.int (nI w)), some (.int (nI n)), some (.int was), some (.int v), none]) (by decide) (Nat.le_of_ble_eq_true rfl) stZE 1 rfl ?_
  generalize hT : RE (fun (r : Int32) (u : LT × AH) => r = was ∧ IE I u.2 ∧ u.1.1 = Λ.1) (fun _ u => XH D u.1 u.2 L (gBecome σ n w was v)) = T
  intro zp ze zs zm zb zt zc F hr hnm
  generalize ([.ref (Λ.1 0 38), .int (nI w), .int (nI n), .int was, .int v] : List Value).toArray = za at F ⊢
  refine g_iload_n F dX0_become_0 rfl rfl (np := 1) rfl ?_
  refine g_iload F dX0_become_1 rfl (np := 3) rfl ?_
  refine g_icmp_ne F dX0_become_3 (tp := 8) (by decide) (np := 6) rfl (fun c3 => ?_) (fun c3 => ?_)
  · have J64 : ∀ (τ : MSt) (Λ1 : LT), (τ.1 31 = τ.1 32) → (τ.1 32 < 40) → (Λ1.1 = Λ.1) → (chPush τ n w was v = chPush (if σ.1 32 = 40 then shX σ else σ) n w was v) → (τ.1 0 = σ.1 0) → (τ.1 2 = σ.1 2) → WG zp l ze ({ frames := 2, cells := 1, slots := 4, locals := 36 } : Room) zs zm za zb zt zc D B 6 (MQ zb (QT D B T) za zs 1 4 (zA B)) (XH D Λ1 I L τ) 0 0 64 [some (.ref (Λ1.1 0 38)), some (.int (nI w)), some (.int (nI n)), some (.int was), some (.int v), none] [] := by
      intro τ Λ1 j1 j2 j3 j4 j5 j6
      refine g_aload_n F dX0_become_64 rfl rfl (np := 65) rfl ?_
      refine x_get F (k := 6) (v := .ref (Λ1.1 0 6)) (by decide) rfl (Or.inl q183) dX0_become_65 (np := 68) rfl ?_
      refine g_aload_n F dX0_become_68 rfl rfl (np := 69) rfl ?_
      refine x_get F (k := 7) (v := .int (nI (τ.1 32))) (by decide) rfl (Or.inl q184) dX0_become_69 (np := 72) rfl ?_
      refine g_new F in_X5 tyX5 tyX5_ok q157 q536 q113 (ci := 5) rfl (fs := [.int 0, .int 0, .int 0, .int 0]) (fun j hj => by match j, hj with | 0, _ => rfl | 1, _ => rfl | 2, _ => rfl | 3, _ => rfl) (Nat.le_of_ble_eq_true rfl) (Nat.le_of_ble_eq_true rfl) dX0_become_72 (np := 75) rfl (fun a => ?_)
      refine WG.weak (S' := Fr B (XH D Λ1 I L τ) a ((.inr (5, [.int 0, .int 0, .int 0, .int 0])))) (fun h hs => hs) ?_
      refine g_dup F dX0_become_75 rfl (np := 76) rfl ?_
      refine g_iload_n F dX0_become_76 rfl rfl (np := 77) rfl ?_
      refine g_iload_n F dX0_become_77 rfl rfl (np := 78) rfl ?_
      refine g_iload_n F dX0_become_78 rfl rfl (np := 79) rfl ?_
      refine g_iload F dX0_become_79 rfl (np := 81) rfl ?_
      refine g_runI F (rest := [.ref (a), .int (nI (τ.1 32)), .ref (Λ1.1 0 6)]) (ct_X5_init a (nI (w)) (nI (n)) was v ) q539 q113 q537 q538 rfl hcS_X5_init ⟨Nat.le_of_ble_eq_true rfl, Nat.le_of_ble_eq_true rfl⟩ rfl rfl (Nat.le_of_ble_eq_true rfl) dX0_become_81 ⟨Nat.le_of_ble_eq_true rfl, Nat.le_of_ble_eq_true rfl⟩ (np := 84) rfl (k_RV ?_)
      refine x_astq F (k := 6) (i := τ.1 32) (n := 40) (t0 := 7) (ci := 5) rfl rfl (by decide) (by decide) (fun _ _ => rfl) (by decide) (by omega) rfl dX0_become_84 (np := 85) rfl (fun hIa => ?_)
      refine g_aload_n F dX0_become_85 rfl rfl (np := 86) rfl ?_
      refine g_dup F dX0_become_86 rfl (np := 87) rfl ?_
      refine p_get F (Λ' := (Λ1.1, upR Λ1.2 6 (τ.1 32) (some a))) (k := 7) (v := .int (nI (τ.1 32))) (by decide) rfl (Or.inl q184) dX0_become_87 (np := 90) rfl ?_
      refine g_iconst F (v := (nI 1)) dX0_become_90 (by decide) (np := 91) rfl ?_
      refine g_iaddN F dX0_become_91 (np := 92) rfl ?_
      refine p_put F (Λ' := (Λ1.1, upR Λ1.2 6 (τ.1 32) (some a))) (k := 7) (ty := .int) (S' := XH D (Λ1.1, upR Λ1.2 6 (τ.1 32) (some a)) (hup I a (.inr (5, [.int (nI w), .int (nI n), .int (was), .int (v)]))) L (chPush τ n w was v)) (by decide) (fun h nm km kd hr hw => new_chg j1 hIa hr hw) rfl rfl rfl rfl (Or.inl q184) dX0_become_92 (np := 95) rfl ?_
      refine g_aload_n F dX0_become_95 rfl rfl (np := 96) rfl ?_
      refine g_iload_n F dX0_become_96 rfl rfl (np := 97) rfl ?_
      refine g_iload_n F dX0_become_97 rfl rfl (np := 98) rfl ?_
      refine g_iload F dX0_become_98 rfl (np := 100) rfl ?_
      refine g_runV F (C := RX0) (ci := 0) (T0 := TX0) (N := 38) (rest := []) (ct_X0_setTo (chPush τ n w was v) w n v (by show τ.1 0 ≤ 8; omega) (by show τ.1 2 ≤ 14; omega) (by exact hw) (by intro q; show n < τ.1 0; have := hw0 q; omega) (by intro q1 q2; show n < τ.1 2; have := hw1 q1 q2; omega) (by exact hw6)) (lw_V q505 q507 qs5 q100 q508) hcV_X0_setTo ⟨Nat.le_of_ble_eq_true rfl, Nat.le_of_ble_eq_true rfl⟩ rfl (fun h hs => hs.obj) rfl rfl (Nat.le_of_ble_eq_true rfl) dX0_become_100 ⟨Nat.le_of_ble_eq_true rfl, Nat.le_of_ble_eq_true rfl⟩ (np := 103) rfl (k_RV ?_)
      refine g_iload_n F dX0_become_103 rfl rfl (np := 104) rfl ?_
      exact g_iret F hr rfl (Nat.le_of_ble_eq_true rfl) (Nat.le_of_ble_eq_true rfl) dX0_become_104 (fun h hs => by rw [← hT]; exact ⟨_, ((Λ1.1, upR Λ1.2 6 (τ.1 32) (some a)), hup I a (.inr (5, [.int (nI w), .int (nI n), .int (was), .int (v)]))), ⟨rfl, IE.hup hIa, j3⟩, rfl, (by unfold gBecome; rw [pif_f c3, ← j4]; exact hs)⟩)
    refine WG.ex (fun nm0 => ?_)
    refine WG.ex (fun km0 => ?_)
    refine WG.ex (fun kd0 => ?_)
    refine WG.pr (fun hXR => ?_)
    refine g_aload_n F dX0_become_8 rfl rfl (np := 9) rfl ?_
    refine g_iconst F (v := (nI 0)) dX0_become_9 (by decide) (np := 10) rfl ?_
    refine w_put F (k := 8) (ty := .int) (by decide) (put8 (u := 0)) rfl rfl rfl rfl (Or.inl q185) dX0_become_10 (np := 13) rfl ?_
    refine WG.weak (S' := XH D Λ I L (sN σ 31 (σ.1 32))) (fun h hs => less31 hcd hXR hs) ?_
    obtain ⟨σ1, hσ1⟩ : ∃ z : MSt, z = sN σ 31 (σ.1 32) := ⟨_, rfl⟩
    refine WG.weak (S' := XH D Λ I L σ1) (fun h hs => by rw [show σ1 = (sN σ 31 (σ.1 32)) from by exact hσ1]; exact hs) ?_
    have h311 : σ1.1 31 = σ.1 32 := by rw [hσ1]; rfl
    have h321 : σ1.1 32 = σ.1 32 := by rw [hσ1]; rfl
    refine g_aload_n F dX0_become_13 rfl rfl (np := 14) rfl ?_
    refine x_get F (k := 7) (v := .int (nI (σ1.1 32))) (by decide) rfl (Or.inl q184) dX0_become_14 (np := 17) rfl ?_
    refine g_bipush F (v := (nI 40)) dX0_become_17 (by decide) (np := 19) rfl ?_
    refine g_icmp_neN F (by omega) (by decide) dX0_become_19 (tp := 64) (by decide) (np := 22) rfl (fun c19 => ?_) (fun c19 => ?_)
    · exact J64 σ1 Λ (by first | rfl | (rw [hσ1]; rfl)) (by first | (show 39 < 40; decide) | omega) (by rfl) (by first | (rw [hσ1, push_31, if_neg (by omega)]; done) | (rw [hσ1, shX_31, if_pos (by omega)]; done)) (by rw [hσ1]; rfl) (by rw [hσ1]; rfl)
    · refine WG.ex (fun nm1 => ?_)
      refine WG.ex (fun km1 => ?_)
      refine WG.ex (fun kd1 => ?_)
      refine WG.pr (fun hXR1 => ?_)
      refine WG.weak (S' := XW D (Λ.1, va_up Λ.2 6 (Λ.2 6)) I (hid σ1 nm1 km1 kd1)) (fun h hs => by rw [lam_id]; exact hs) ?_
      refine g_iconst F (v := (nI 1)) dX0_become_22 (by decide) (np := 23) rfl ?_
      refine g_istore F (lv' := [some (.ref (Λ.1 0 38)), some (.int (nI w)), some (.int (nI n)), some (.int was), some (.int v), some (.int (nI 1))]) dX0_become_23 (by decide) rfl rfl (np := 25) rfl ?_
      have L25 : ∀ (zn : Nat) (k : Nat) (r : Nat → Option Nat), (∀ e, r e = if e + 1 < k then Λ.2 6 (e + 1) else Λ.2 6 e) → (1 ≤ k) → (k ≤ 40) → 40 - k < zn → WG zp l ze ({ frames := 2, cells := 1, slots := 4, locals := 36 } : Room) zs zm za zb zt zc D B 6 (MQ zb (QT D B T) za zs 1 4 (zA B)) (XW D (Λ.1, va_up Λ.2 6 r) I (hid σ1 nm1 km1 kd1)) 0 0 25 [some (.ref (Λ.1 0 38)), some (.int (nI w)), some (.int (nI n)), some (.int was), some (.int v), some (.int (nI k))] [] := by
        intro zn
        induction zn with
        | zero => intro k r r1 r2 r3 hm; exact absurd hm (Nat.not_lt_zero _)
        | succ zn ih25 =>
          intro k r r1 r2 r3 hm
          refine g_iload F dX0_become_25 rfl (np := 27) rfl ?_
          refine g_bipush F (v := (nI 40)) dX0_become_27 (by decide) (np := 29) rfl ?_
          refine g_icmp_geN F (by omega) (by decide) dX0_become_29 (tp := 54) (by decide) (np := 32) rfl (fun c29 => ?_) (fun c29 => ?_)
          · refine g_aload_n F dX0_become_54 rfl rfl (np := 55) rfl ?_
            refine g_dup F dX0_become_55 rfl (np := 56) rfl ?_
            refine w_get F (k := 7) (v := .int (nI (σ1.1 32))) (by decide) rfl (Or.inl q184) dX0_become_56 (np := 59) rfl ?_
            refine g_iconst F (v := (nI 1)) dX0_become_59 (by decide) (np := 60) rfl ?_
            refine g_isubN F (by omega) dX0_become_60 (np := 61) rfl ?_
            refine w_put F (k := 7) (ty := .int) (by decide) put7 rfl rfl rfl rfl (Or.inl q184) dX0_become_61 (np := 64) rfl (WG.weak (S' := XH D (Λ.1, va_up Λ.2 6 r) I L (shX σ1)) (fun h hs => shift_close (σ := σ1) (nm := nm1) (km := km1) (kd := kd1) (by omega) hXR1 (fun e he => by rw [r1, if_pos (by omega)]) (by rw [show σ1.1 32 - 1 = 39 from by omega, show (hid σ1 nm1 km1 kd1).1 31 - (hid σ1 nm1 km1 kd1).1 32 + 39 = 39 from by show σ1.1 31 - σ1.1 32 + 39 = 39; omega] at hs; exact hs)) ?_)
            refine WG.dropL (i := 5) (lv' := [some (.ref (Λ.1 0 38)), some (.int (nI w)), some (.int (nI n)), some (.int was), some (.int v), none]) rfl ?_
            exact J64 ((shX σ1)) (((Λ.1, va_up Λ.2 6 r))) (by first | rfl | (rw [hσ1]; rfl)) (by first | (show 39 < 40; decide) | omega) (by rfl) (by first | (rw [hσ1, push_31, if_neg (by omega)]; done) | (rw [hσ1, shX_31, if_pos (by omega)]; done)) (by rw [hσ1]; rfl) (by rw [hσ1]; rfl)
          · obtain ⟨ca, hca, hcI⟩ := hXR1.2.2.1 k (show k < σ1.1 31 by omega)
            have hrk : r k = some ca := by rw [r1, if_neg (by omega)]; exact hca
            refine g_aload_n F dX0_become_32 rfl rfl (np := 33) rfl ?_
            refine w_get F (k := 6) (v := .ref (Λ.1 0 6)) (by decide) rfl (Or.inl q183) dX0_become_33 (np := 36) rfl ?_
            refine g_iload F dX0_become_36 rfl (np := 38) rfl ?_
            refine g_iconst F (v := (nI 1)) dX0_become_38 (by decide) (np := 39) rfl ?_
            refine g_isubN F (by omega) dX0_become_39 (np := 40) rfl ?_
            refine g_aload_n F dX0_become_40 rfl rfl (np := 41) rfl ?_
            refine w_get F (k := 6) (v := .ref (Λ.1 0 6)) (by decide) rfl (Or.inl q183) dX0_become_41 (np := 44) rfl ?_
            refine g_iload F dX0_become_44 rfl (np := 46) rfl ?_
            refine w_ald F (k := 6) (i := k) (n := 40) (t0 := 7) (v := some ca) rfl rfl (by decide) (by decide) (by omega) rfl (by show va_up Λ.2 6 r 6 k = _; rw [va_up_self]; exact hrk) dX0_become_46 (np := 47) rfl ?_
            refine w_ast6 F (i := k - 1) (r := r) hcI (by omega) rfl dX0_become_47 (np := 48) rfl ?_
            refine g_iinc F (v := (nI (k + 1))) (lv' := [some (.ref (Λ.1 0 38)), some (.int (nI w)), some (.int (nI n)), some (.int was), some (.int v), some (.int (nI (k + 1)))]) dX0_become_48 rfl (nI_add _ _) (by decide) rfl rfl (np := 51) rfl ?_
            refine g_goto F dX0_become_51 (np := 25) (by decide) ?_
            exact ih25 (k + 1) ((va_up r (k - 1) (some ca))) (by exact sh_step r1 r2 hca) (by omega) (by omega) (by omega)
      exact L25 _ 1 ((Λ.2 6)) (by intro e; rw [if_neg (by omega)]) (by omega) (by omega) (Nat.lt_succ_self _)
  · refine g_iload_n F dX0_become_6 rfl rfl (np := 7) rfl ?_
    exact g_iret F hr rfl (Nat.le_of_ble_eq_true rfl) (Nat.le_of_ble_eq_true rfl) dX0_become_7 (fun h hs => by rw [← hT]; exact ⟨_, (Λ, I), ⟨rfl, IE.rf I, rfl⟩, rfl, (by unfold gBecome; rw [pif_t c3]; exact hs)⟩)

set_option maxRecDepth 100000 in
theorem ct_X0_mend {l : Launch} {D : va_G} {B : Nat} {Λ : LT} {I : AH} {L : LawT} (σ : MSt)  (n : Int32) (w : Int32) (v : Int32) (hno : σ.1 0 ≤ 8) (hm14 : σ.1 2 ≤ 14) (hch : chOK σ) : Ct l D ZE B yX0_mend cX0_mend 4 (some .int) 3 65 1 4 [.ref (Λ.1 0 38), .int n, .int w, .int v] (XH D Λ I L σ) (RE (fun (r : Int32) (u : LT × AH) => r = rMend σ n w v ∧ IE I u.2 ∧ u.1.1 = Λ.1) (fun _ u => XH D u.1 u.2 L (gMend σ n w v))) := by
  refine Ct.of (nL := 4) (lv := [some (.ref (Λ.1 0 38)), some (.int n), some (.int w), some (.int v)]) (by decide) (Nat.le_of_ble_eq_true rfl) stZE 0 rfl ?_
  generalize hT : RE (fun (r : Int32) (u : LT × AH) => r = rMend σ n w v ∧ IE I u.2 ∧ u.1.1 = Λ.1) (fun _ u => XH D u.1 u.2 L (gMend σ n w v)) = T
  intro zp ze zs zm zb zt zc F hr hnm
  generalize ([.ref (Λ.1 0 38), .int n, .int w, .int v] : List Value).toArray = za at F ⊢
  obtain ⟨ch1, ch2, ch3⟩ := hch
  refine g_aload_n F dX0_mend_0 rfl rfl (np := 1) rfl ?_
  refine g_iload_n F dX0_mend_1 rfl rfl (np := 2) rfl ?_
  refine g_iload_n F dX0_mend_2 rfl rfl (np := 3) rfl ?_
  refine g_runV F (C := RX0) (ci := 0) (T0 := TX0) (N := 38) (rest := []) (ct_X0_isOf σ n w (by first | assumption | omega) (by first | assumption | omega)) (lw_V q517 q519 qs6 q100 q520) hcV_X0_isOf ⟨Nat.le_of_ble_eq_true rfl, Nat.le_of_ble_eq_true rfl⟩ rfl (fun h hs => hs.obj) rfl rfl (Nat.le_of_ble_eq_true rfl) dX0_mend_3 ⟨Nat.le_of_ble_eq_true rfl, Nat.le_of_ble_eq_true rfl⟩ (np := 6) rfl (k_RI ?_)
  refine g_if_eqB F dX0_mend_6 (tp := 33) (by decide) (np := 9) rfl (fun c6 => ?_) (fun c6 => ?_)
  · refine g_ldc F q558 dX0_mend_33 (np := 35) rfl ?_
    exact g_iret F hr rfl (Nat.le_of_ble_eq_true rfl) (Nat.le_of_ble_eq_true rfl) dX0_mend_35 (fun h hs => by rw [← hT]; exact ⟨_, (Λ, I), ⟨(by unfold rMend; first | (rw [pif_f (fun z => c6 z.1)]; done) | (rw [pif_f (fun z => c14 z.2)]; done)), IE.rf I, rfl⟩, rfl, (by unfold gMend; first | (rw [pif_f (fun z => c6 z.1)]; exact hs) | (rw [pif_f (fun z => c14 z.2.1)]; exact hs))⟩)
  · refine g_iload_n F dX0_mend_9 rfl rfl (np := 10) rfl ?_
    refine g_iload_n F dX0_mend_10 rfl rfl (np := 11) rfl ?_
    refine g_runS F (rest := []) (ct_X0_mayBe w v ) (lw_S q525 q526 q100 q527) hcS_X0_mayBe ⟨Nat.le_of_ble_eq_true rfl, Nat.le_of_ble_eq_true rfl⟩ rfl rfl (Nat.le_of_ble_eq_true rfl) dX0_mend_11 ⟨Nat.le_of_ble_eq_true rfl, Nat.le_of_ble_eq_true rfl⟩ (np := 14) rfl (k_RI ?_)
    refine g_if_eqB F dX0_mend_14 (tp := 33) (by decide) (np := 17) rfl (fun c14 => ?_) (fun c14 => ?_)
    · refine g_ldc F q558 dX0_mend_33 (np := 35) rfl ?_
      exact g_iret F hr rfl (Nat.le_of_ble_eq_true rfl) (Nat.le_of_ble_eq_true rfl) dX0_mend_35 (fun h hs => by rw [← hT]; exact ⟨_, (Λ, I), ⟨(by unfold rMend; first | (rw [pif_f (fun z => c6 z.1)]; done) | (rw [pif_f (fun z => c14 z.2)]; done)), IE.rf I, rfl⟩, rfl, (by unfold gMend; first | (rw [pif_f (fun z => c6 z.1)]; exact hs) | (rw [pif_f (fun z => c14 z.2.1)]; exact hs))⟩)
    · obtain ⟨z1, z2, z3, z4, z5, z6⟩ := ofP_cl hno (by omega) c6
      refine WG.eqv (lv' := [some (.ref (Λ.1 0 38)), some (.int (nI (n.toNatClampNeg))), some (.int w), some (.int v)]) rfl (congrArg (fun z => ([some (.ref (Λ.1 0 38)), some (.int z), some (.int w), some (.int v)] : List (Option Value))) (show n = (nI (n.toNatClampNeg)) from by exact z1)) ?_
      refine WG.eqv (lv' := [some (.ref (Λ.1 0 38)), some (.int (nI (n.toNatClampNeg))), some (.int (nI (w.toNatClampNeg))), some (.int v)]) rfl (congrArg (fun z => ([some (.ref (Λ.1 0 38)), some (.int (nI (n.toNatClampNeg))), some (.int z), some (.int v)] : List (Option Value))) (show w = (nI (w.toNatClampNeg)) from by exact z2)) ?_
      refine g_aload_n F dX0_mend_17 rfl rfl (np := 18) rfl ?_
      refine g_iload_n F dX0_mend_18 rfl rfl (np := 19) rfl ?_
      refine g_iload_n F dX0_mend_19 rfl rfl (np := 20) rfl ?_
      refine g_aload_n F dX0_mend_20 rfl rfl (np := 21) rfl ?_
      refine g_iload_n F dX0_mend_21 rfl rfl (np := 22) rfl ?_
      refine g_iload_n F dX0_mend_22 rfl rfl (np := 23) rfl ?_
      refine g_runV F (C := RX0) (ci := 0) (T0 := TX0) (N := 38) (rest := [.int (nI (n.toNatClampNeg)), .int (nI (w.toNatClampNeg)), .ref (Λ.1 0 38)]) (ct_X0_valueOf σ n.toNatClampNeg w.toNatClampNeg (by exact hno) (by exact hm14) (by exact z3) (by exact z4) (by exact z5)) (lw_V q528 q530 qs8 q100 q531) hcV_X0_valueOf ⟨Nat.le_of_ble_eq_true rfl, Nat.le_of_ble_eq_true rfl⟩ rfl (fun h hs => hs.obj) rfl rfl (Nat.le_of_ble_eq_true rfl) dX0_mend_23 ⟨Nat.le_of_ble_eq_true rfl, Nat.le_of_ble_eq_true rfl⟩ (np := 26) rfl (k_RI ?_)
      refine g_iload_n F dX0_mend_26 rfl rfl (np := 27) rfl ?_
      refine g_runV F (C := RX0) (ci := 0) (T0 := TX0) (N := 38) (rest := []) (ct_X0_become σ w.toNatClampNeg n.toNatClampNeg (sGet σ n.toNatClampNeg w.toNatClampNeg) v (by exact hno) (by exact hm14) (by exact ch1) (by exact ch2) (by exact z3) (by exact z4) (by exact z5) (by intro hw; rw [z2, hw] at c14; exact (valOK_6 c14).1)) (lw_V q532 q534 qs9 q100 q535) hcV_X0_become ⟨Nat.le_of_ble_eq_true rfl, Nat.le_of_ble_eq_true rfl⟩ rfl (fun h hs => hs.obj) rfl rfl (Nat.le_of_ble_eq_true rfl) dX0_mend_27 ⟨Nat.le_of_ble_eq_true rfl, Nat.le_of_ble_eq_true rfl⟩ (np := 30) rfl (k_RE (fun r27 σ27 hp27 => ?_))
      refine g_goto F dX0_mend_30 (np := 35) (by decide) ?_
      exact g_iret F hr rfl (Nat.le_of_ble_eq_true rfl) (Nat.le_of_ble_eq_true rfl) dX0_mend_35 (fun h hs => by rw [← hT]; exact ⟨_, σ27, ⟨(by unfold rMend; rw [pif_t ⟨c6, c14⟩]; exact hp27.1), hp27.2.1, hp27.2.2⟩, rfl, (by rw [← become_mend c6 c14]; exact hs)⟩)

set_option maxRecDepth 100000 in
theorem ct_X0_back {l : Launch} {D : va_G} {B : Nat} {Λ : LT} {I : AH} {L : LawT} (σ : MSt)   (hno : σ.1 0 ≤ 8) (hm14 : σ.1 2 ≤ 14) (him : imOK σ) (hil : imL σ) : Ct l D ZE B yX0_back cX0_back 2 (some .int) 0 0 0 0 [.ref (Λ.1 0 38)] (XH D Λ I L σ) (RI (rBack σ) (XH D Λ I L (gBack σ))) := by
  refine Ct.of (nL := 2) (lv := [some (.ref (Λ.1 0 38)), none]) (by decide) (Nat.le_of_ble_eq_true rfl) stZE 1 rfl ?_
  generalize hT : RI (rBack σ) (XH D Λ I L (gBack σ)) = T
  intro zp ze zs zm zb zt zc F hr hnm
  generalize ([.ref (Λ.1 0 38)] : List Value).toArray = za at F ⊢
  obtain ⟨hl1, hl2⟩ := hil
  obtain ⟨i0, i1, i2, td, i3, i4⟩ := him
  refine g_aload_n F dX0_back_0 rfl rfl (np := 1) rfl ?_
  refine x_get F (k := 22) (v := .int (nI (σ.1 26))) (by decide) rfl (Or.inl q201) dX0_back_1 (np := 4) rfl ?_
  refine g_if_neN F (by omega) dX0_back_4 (tp := 10) (by decide) (np := 7) rfl (fun c4 => ?_) (fun c4 => ?_)
  · refine WG.ex (fun nm0 => ?_)
    refine WG.ex (fun km0 => ?_)
    refine WG.ex (fun kd0 => ?_)
    refine WG.pr (fun hXR => ?_)
    refine g_iconst F (v := (nI 0)) dX0_back_10 (by decide) (np := 11) rfl ?_
    refine g_istore_n F (lv' := [some (.ref (Λ.1 0 38)), some (.int (nI 0))]) dX0_back_11 rfl (by decide) rfl rfl (np := 12) rfl ?_
    have L12 : ∀ (zn : Nat) (i : Nat) (f : Nat → Int32), (∀ j, f j = if j < i then σ.2.1 29 j else σ.2.1 1 j) → (i ≤ σ.1 27) → σ.1 27 - i < zn → WG zp l ze ({ frames := 0, cells := 0, slots := 0, locals := 0 } : Room) zs zm za zb zt zc D B 2 (MQ zb (QT D B T) za zs 0 0 (zA B)) (XW D Λ I (hid (cpS σ 1 f) nm0 km0 kd0)) 0 0 12 [some (.ref (Λ.1 0 38)), some (.int (nI i))] [] := by
      intro zn
      induction zn with
      | zero => intro i f h1 h2 hm; exact absurd hm (Nat.not_lt_zero _)
      | succ zn ih12 =>
        intro i f h1 h2 hm
        refine g_iload_n F dX0_back_12 rfl rfl (np := 13) rfl ?_
        refine g_aload_n F dX0_back_13 rfl rfl (np := 14) rfl ?_
        refine w_get F (k := 25) (v := .int (nI (σ.1 27))) (by decide) rfl (Or.inl q204) dX0_back_14 (np := 17) rfl ?_
        refine g_icmp_geN F (by omega) (by omega) dX0_back_17 (tp := 41) (by decide) (np := 20) rfl (fun c17 => ?_) (fun c17 => ?_)
        · refine g_iconst F (v := (nI 0)) dX0_back_41 (by decide) (np := 42) rfl ?_
          refine g_istore_n F (lv' := [some (.ref (Λ.1 0 38)), some (.int (nI 0))]) dX0_back_42 rfl (by decide) rfl rfl (np := 43) rfl ?_
          have L43 : ∀ (zn : Nat) (k : Nat) (g : Nat → Int32), (∀ j, g j = if 60 ≤ j ∧ j < 60 + k then σ.2.1 29 (8 + (j - 60)) else σ.2.1 3 j) → (k ≤ σ.1 28) → σ.1 28 - k < zn → WG zp l ze ({ frames := 0, cells := 0, slots := 0, locals := 0 } : Room) zs zm za zb zt zc D B 2 (MQ zb (QT D B T) za zs 0 0 (zA B)) (XW D Λ I (hid (cpS (cpS σ 1 f) 3 g) nm0 km0 kd0)) 0 0 43 [some (.ref (Λ.1 0 38)), some (.int (nI k))] [] := by
            intro zn
            induction zn with
            | zero => intro k g g1 g2 hm; exact absurd hm (Nat.not_lt_zero _)
            | succ zn ih43 =>
              intro k g g1 g2 hm
              refine g_iload_n F dX0_back_43 rfl rfl (np := 44) rfl ?_
              refine g_aload_n F dX0_back_44 rfl rfl (np := 45) rfl ?_
              refine w_get F (k := 26) (v := .int (nI (σ.1 28))) (by decide) rfl (Or.inl q205) dX0_back_45 (np := 48) rfl ?_
              refine g_icmp_geN F (by omega) (by omega) dX0_back_48 (tp := 72) (by decide) (np := 51) rfl (fun c48 => ?_) (fun c48 => ?_)
              · refine g_aload_n F dX0_back_72 rfl rfl (np := 73) rfl ?_
                refine g_aload_n F dX0_back_73 rfl rfl (np := 74) rfl ?_
                refine w_get F (k := 27) (v := .int (σ.2.1 29 22)) (by decide) rfl (Or.inl q206) dX0_back_74 (np := 77) rfl ?_
                refine WG.eqv (st' := [.int (nI td), .ref (Λ.1 0 38)]) (congrArg (fun z => ([.int z, .ref (Λ.1 0 38)] : List Value)) (show (σ.2.1 29 22) = (nI td) from by exact i4)) rfl ?_
                refine w_put F (k := 4) (ty := .int) (by decide) (PutOK.of (σ' := sN (hid (cpS (cpS σ 1 f) 3 g) nm0 km0 kd0) 6 td) rfl rfl rfl (fun _ _ => rfl) rfl) rfl rfl rfl rfl (Or.inl q181) dX0_back_77 (np := 80) rfl ?_
                refine g_aload_n F dX0_back_80 rfl rfl (np := 81) rfl ?_
                refine g_aload_n F dX0_back_81 rfl rfl (np := 82) rfl ?_
                refine w_get F (k := 28) (v := .int (σ.2.1 30 0)) (by decide) rfl (Or.inl q207) dX0_back_82 (np := 85) rfl ?_
                refine w_put F (k := 5) (ty := .int) (by decide) (PutOK.of (σ' := sA (hid (sN (cpS (cpS σ 1 f) 3 g) 6 td) nm0 km0 kd0) 25 0 (σ.2.1 30 0)) rfl rfl rfl (fun j hj => up2_n _ _ _ (by rintro rfl; cases hj)) rfl) rfl rfl rfl rfl (Or.inl q182) dX0_back_85 (np := 88) rfl ?_
                refine WG.weak (S' := XW D Λ I (hid (sA (sN (cpS (cpS σ 1 f) 3 g) 6 td) 25 0 (σ.2.1 30 0)) nm0 km0 kd0)) (fun h hs => by rw [← hid_sA _ _ _ _ _ _ (by decide) (by decide) (by decide)]; exact hs) ?_
                refine g_aload_n F dX0_back_88 rfl rfl (np := 89) rfl ?_
                refine g_aload_n F dX0_back_89 rfl rfl (np := 90) rfl ?_
                refine w_get F (k := 29) (v := .int (σ.2.1 30 1)) (by decide) rfl (Or.inl q208) dX0_back_90 (np := 93) rfl ?_
                refine w_put F (k := 18) (ty := .int) (by decide) (PutOK.of (σ' := sA (hid (sA (sN (cpS (cpS σ 1 f) 3 g) 6 td) 25 0 (σ.2.1 30 0)) nm0 km0 kd0) 25 1 (σ.2.1 30 1)) rfl rfl rfl (fun j hj => up2_n _ _ _ (by rintro rfl; cases hj)) rfl) rfl rfl rfl rfl (Or.inl q197) dX0_back_93 (np := 96) rfl ?_
                refine WG.weak (S' := XW D Λ I (hid (sA (sA (sN (cpS (cpS σ 1 f) 3 g) 6 td) 25 0 (σ.2.1 30 0)) 25 1 (σ.2.1 30 1)) nm0 km0 kd0)) (fun h hs => by rw [← hid_sA _ _ _ _ _ _ (by decide) (by decide) (by decide)]; exact hs) ?_
                refine g_aload_n F dX0_back_96 rfl rfl (np := 97) rfl ?_
                refine g_aload_n F dX0_back_97 rfl rfl (np := 98) rfl ?_
                refine w_get F (k := 30) (v := .int (σ.2.1 30 2)) (by decide) rfl (Or.inl q209) dX0_back_98 (np := 101) rfl ?_
                refine w_put F (k := 19) (ty := .int) (by decide) (PutOK.of (σ' := sA (hid (sA (sA (sN (cpS (cpS σ 1 f) 3 g) 6 td) 25 0 (σ.2.1 30 0)) 25 1 (σ.2.1 30 1)) nm0 km0 kd0) 25 2 (σ.2.1 30 2)) rfl rfl rfl (fun j hj => up2_n _ _ _ (by rintro rfl; cases hj)) rfl) rfl rfl rfl rfl (Or.inl q198) dX0_back_101 (np := 104) rfl ?_
                refine WG.weak (S' := XW D Λ I (hid (sA (sA (sA (sN (cpS (cpS σ 1 f) 3 g) 6 td) 25 0 (σ.2.1 30 0)) 25 1 (σ.2.1 30 1)) 25 2 (σ.2.1 30 2)) nm0 km0 kd0)) (fun h hs => by rw [← hid_sA _ _ _ _ _ _ (by decide) (by decide) (by decide)]; exact hs) ?_
                refine g_aload_n F dX0_back_104 rfl rfl (np := 105) rfl ?_
                refine g_aload_n F dX0_back_105 rfl rfl (np := 106) rfl ?_
                refine w_get F (k := 31) (v := .int (σ.2.1 30 3)) (by decide) rfl (Or.inl q210) dX0_back_106 (np := 109) rfl ?_
                refine w_put F (k := 20) (ty := .int) (by decide) (PutOK.of (σ' := sA (hid (sA (sA (sA (sN (cpS (cpS σ 1 f) 3 g) 6 td) 25 0 (σ.2.1 30 0)) 25 1 (σ.2.1 30 1)) 25 2 (σ.2.1 30 2)) nm0 km0 kd0) 25 3 (σ.2.1 30 3)) rfl rfl rfl (fun j hj => up2_n _ _ _ (by rintro rfl; cases hj)) rfl) rfl rfl rfl rfl (Or.inl q199) dX0_back_109 (np := 112) rfl ?_
                refine WG.weak (S' := XW D Λ I (hid (sA (sA (sA (sA (sN (cpS (cpS σ 1 f) 3 g) 6 td) 25 0 (σ.2.1 30 0)) 25 1 (σ.2.1 30 1)) 25 2 (σ.2.1 30 2)) 25 3 (σ.2.1 30 3)) nm0 km0 kd0)) (fun h hs => by rw [← hid_sA _ _ _ _ _ _ (by decide) (by decide) (by decide)]; exact hs) ?_
                refine g_aload_n F dX0_back_112 rfl rfl (np := 113) rfl ?_
                refine g_aload_n F dX0_back_113 rfl rfl (np := 114) rfl ?_
                refine w_get F (k := 32) (v := .int (σ.2.1 30 4)) (by decide) rfl (Or.inl q211) dX0_back_114 (np := 117) rfl ?_
                refine w_put F (k := 21) (ty := .int) (by decide) (PutOK.of (σ' := sA (hid (sA (sA (sA (sA (sN (cpS (cpS σ 1 f) 3 g) 6 td) 25 0 (σ.2.1 30 0)) 25 1 (σ.2.1 30 1)) 25 2 (σ.2.1 30 2)) 25 3 (σ.2.1 30 3)) nm0 km0 kd0) 25 4 (σ.2.1 30 4)) rfl rfl rfl (fun j hj => up2_n _ _ _ (by rintro rfl; cases hj)) rfl) rfl rfl rfl rfl (Or.inl q200) dX0_back_117 (np := 120) rfl ?_
                refine WG.weak (S' := XW D Λ I (hid (sA (sA (sA (sA (sA (sN (cpS (cpS σ 1 f) 3 g) 6 td) 25 0 (σ.2.1 30 0)) 25 1 (σ.2.1 30 1)) 25 2 (σ.2.1 30 2)) 25 3 (σ.2.1 30 3)) 25 4 (σ.2.1 30 4)) nm0 km0 kd0)) (fun h hs => by rw [← hid_sA _ _ _ _ _ _ (by decide) (by decide) (by decide)]; exact hs) ?_
                refine WG.weak (S' := XW D Λ I (hid (backS σ) nm0 km0 kd0)) (fun h hs => by rw [show (hid (backS σ) nm0 km0 kd0) = (hid (sA (sA (sA (sA (sA (sN (cpS (cpS σ 1 f) 3 g) 6 td) 25 0 (σ.2.1 30 0)) 25 1 (σ.2.1 30 1)) 25 2 (σ.2.1 30 2)) 25 3 (σ.2.1 30 3)) 25 4 (σ.2.1 30 4)) nm0 km0 kd0) from by rw [← back_eq (σ := σ) (f := f) (g := g) (fun j => by rw [h1, show i = σ.1 27 by omega]) (fun j => by rw [g1, show k = σ.1 28 by omega]) i4 i3]]; exact hs) ?_
                refine WG.weak (S' := XH D Λ I L (backS σ)) (fun h hs => x_close hXR (fun j hj => by rcases xVn_in hj with z | z | z | z | z | z <;> (subst z; rfl)) (fun j hj => by rcases xV_in hj with z | z | z | z | z | z <;> (subst z; rfl)) hs) ?_
                refine g_aload_n F dX0_back_120 rfl rfl (np := 121) rfl ?_
                refine x_get F (k := 21) (v := .int ((backS σ).2.1 25 4)) (by decide) rfl (Or.inl q200) dX0_back_121 (np := 124) rfl ?_
                have hσ : (backS σ) = (gBack σ) := by unfold gBack; rw [if_neg c4]
                have hv : (backS σ).2.1 25 4 = rBack σ := by unfold rBack; rw [if_neg c4]; rfl
                exact g_iret F hr rfl (Nat.le_of_ble_eq_true rfl) (Nat.le_of_ble_eq_true rfl) dX0_back_124 (fun h hs => by rw [← hT]; exact ⟨congrArg (fun z => some (Value.int z)) hv, (hσ ▸ hs)⟩)
              · refine g_aload_n F dX0_back_51 rfl rfl (np := 52) rfl ?_
                refine w_get F (k := 1) (v := .ref (Λ.1 0 1)) (by decide) rfl (Or.inl q178) dX0_back_52 (np := 55) rfl ?_
                refine g_iload_n F dX0_back_55 rfl rfl (np := 56) rfl ?_
                refine w_aldP F (i := k) rfl hXR.2.1 (show k < σ.1 2 by omega) (show σ.1 2 ≤ 14 by omega) dX0_back_56 (np := 57) rfl ?_
                refine g_aload_n F dX0_back_57 rfl rfl (np := 58) rfl ?_
                refine w_get F (k := 24) (v := .ref (Λ.1 0 24)) (by decide) rfl (Or.inl q203) dX0_back_58 (np := 61) rfl ?_
                refine g_iload_n F dX0_back_61 rfl rfl (np := 62) rfl ?_
                refine w_iald F (J := 24) (a := 54) (i := k) (n := 14) (v := kd0 k) rfl (by decide) (by omega) rfl rfl dX0_back_62 (np := 63) rfl ?_
                refine w_putP F (j := 6) (q := k) (by decide) (by decide) (show σ.1 2 ≤ 15 by omega) (show k < σ.1 2 by omega) (Or.inr ⟨_, ze345⟩) rfl rfl dX0_back_63 (np := 66) rfl ?_
                refine WG.weak (S' := XW D Λ I (hid (cpS (cpS σ 1 f) 3 (va_up g (60 + k) (kd0 k))) nm0 km0 kd0)) (fun h hs => by rw [cpS_sA, ← hid_sA _ _ _ _ _ _ (by decide) (by decide) (by decide)]; exact hs) ?_
                refine g_iinc F (v := (nI (k + 1))) (lv' := [some (.ref (Λ.1 0 38)), some (.int (nI (k + 1)))]) dX0_back_66 rfl (nI_add _ _) (by decide) rfl rfl (np := 69) rfl ?_
                refine g_goto F dX0_back_69 (np := 43) (by decide) ?_
                exact ih43 (k + 1) ((va_up g (60 + k) (kd0 k))) (by exact cp_step2 (P := fun j => σ.2.1 29 (8 + (j - 60))) g1 (by rw [Nat.add_sub_cancel_left]; exact hXR.2.2.2.1.2 k (show k < σ.1 28 by omega))) (by omega) (by omega)
          refine WG.weak (S' := XW D Λ I (hid (cpS (cpS σ 1 f) 3 (σ.2.1 3)) nm0 km0 kd0)) (fun h hs => by rw [show σ.2.1 3 = (cpS σ 1 f).2.1 3 from rfl, cpS_id]; exact hs) ?_
          exact L43 _ 0 ((σ.2.1 3)) (by intro j; rw [if_neg (by omega)]) (by omega) (Nat.lt_succ_self _)
        · refine g_aload_n F dX0_back_20 rfl rfl (np := 21) rfl ?_
          refine w_get F (k := 0) (v := .ref (Λ.1 0 0)) (by decide) rfl (Or.inl q177) dX0_back_21 (np := 24) rfl ?_
          refine g_iload_n F dX0_back_24 rfl rfl (np := 25) rfl ?_
          refine w_aldO F (i := i) rfl hXR.1 (show i < σ.1 0 by omega) (show σ.1 0 ≤ 8 by omega) dX0_back_25 (np := 26) rfl ?_
          refine g_aload_n F dX0_back_26 rfl rfl (np := 27) rfl ?_
          refine w_get F (k := 23) (v := .ref (Λ.1 0 23)) (by decide) rfl (Or.inl q202) dX0_back_27 (np := 30) rfl ?_
          refine g_iload_n F dX0_back_30 rfl rfl (np := 31) rfl ?_
          refine w_iald F (J := 23) (a := 53) (i := i) (n := 8) (v := km0 i) rfl (by decide) (by omega) rfl rfl dX0_back_31 (np := 32) rfl ?_
          refine w_putO F (i := i) (show i < σ.1 0 by omega) (Or.inr ⟨_, ze307⟩) dX0_back_32 (np := 35) rfl ?_
          refine WG.weak (S' := XW D Λ I (hid (cpS σ 1 (va_up f i (km0 i))) nm0 km0 kd0)) (fun h hs => by rw [cpS_sA, ← hid_sA _ _ _ _ _ _ (by decide) (by decide) (by decide)]; exact hs) ?_
          refine g_iinc F (v := (nI (i + 1))) (lv' := [some (.ref (Λ.1 0 38)), some (.int (nI (i + 1)))]) dX0_back_35 rfl (nI_add _ _) (by decide) rfl rfl (np := 38) rfl ?_
          refine g_goto F dX0_back_38 (np := 12) (by decide) ?_
          exact ih12 (i + 1) ((va_up f i (km0 i))) (by exact cp_step (P := fun j => σ.2.1 29 j) h1 (hXR.2.2.2.1.1 i (show i < σ.1 27 by omega))) (by omega) (by omega)
    refine WG.weak (S' := XW D Λ I (hid (cpS σ 1 (σ.2.1 1)) nm0 km0 kd0)) (fun h hs => by rw [cpS_id]; exact hs) ?_
    exact L12 _ 0 ((σ.2.1 1)) (by intro j; rw [if_neg (Nat.not_lt_zero j)]) (by omega) (Nat.lt_succ_self _)
  · refine g_bipush F (v := (-5)) dX0_back_7 (by decide) (np := 9) rfl ?_
    have hσ : σ = (gBack σ) := by unfold gBack; rw [if_pos c4]
    have hv : -5 = rBack σ := by unfold rBack; rw [if_pos c4]
    exact g_iret F hr rfl (Nat.le_of_ble_eq_true rfl) (Nat.le_of_ble_eq_true rfl) dX0_back_9 (fun h hs => by rw [← hT]; exact ⟨congrArg (fun z => some (Value.int z)) hv, (hσ ▸ hs)⟩)
