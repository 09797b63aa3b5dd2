/-! WALKS (printed by walk.py): promise, leastWorth, what -/
set_option maxRecDepth 100000
set_option maxRecDepth 100000 in
theorem ct_X0_promise {l : Launch} {D : va_G} {B : Nat} {Λ : LT} {I : AH} {L : LawT} (σ : MSt)  (b : Int32) (t : Int32) (wk : Int32) (hno : σ.1 0 ≤ 8) (hm14 : σ.1 2 ≤ 14) : Ct l D ZE B yX0_promise cX0_promise 4 (some .int) 3 67 1 7 [.ref (Λ.1 0 38), .int b, .int t, .int wk] (XH D Λ I L σ) (RE (fun (r : Int32) (Λ' : LT) => r = rPromise σ b t wk ∧ Λ'.1 0 = Λ.1 0) (fun _ Λ' => XH D Λ' I L (gPromise σ b t wk))) := by
  refine Ct.of (nL := 4) (lv := [some (.ref (Λ.1 0 38)), some (.int b), some (.int t), some (.int wk)]) (by decide) (Nat.le_of_ble_eq_true rfl) stZE 0 rfl ?_
  generalize hT : RE (fun (r : Int32) (Λ' : LT) => r = rPromise σ b t wk ∧ Λ'.1 0 = Λ.1 0) (fun _ Λ' => XH D Λ' I L (gPromise σ b t wk)) = T
  intro zp ze zs zm zb zt zc F hr hnm
  generalize ([.ref (Λ.1 0 38), .int b, .int t, .int wk] : List Value).toArray = za at F ⊢
  refine g_iload_n F dX0_promise_0 rfl rfl (np := 1) rfl ?_
  refine g_if_lt F dX0_promise_1 (tp := 21) (by decide) (np := 4) rfl (fun c1 => ?_) (fun c1 => ?_)
  · refine g_iconst F (v := (-1)) dX0_promise_21 (by decide) (np := 22) rfl ?_
    exact g_iret F hr rfl (Nat.le_of_ble_eq_true rfl) (Nat.le_of_ble_eq_true rfl) dX0_promise_22 (fun h hs => by rw [← hT]; exact ⟨_, Λ, ⟨(by unfold rPromise; rw [pif_f (fun z => by obtain ⟨z1, z2⟩ := z; first | exact z1 c1 | exact c18 z2)]), rfl⟩, rfl, (by unfold gPromise; rw [pif_f (fun z => by obtain ⟨⟨z1, z2⟩, -⟩ := z; first | exact z1 c1 | exact c18 z2)]; exact hs)⟩)
  · obtain ⟨hke, hkl⟩ := nI_cl c1
    refine WG.eqv (lv' := [some (.ref (Λ.1 0 38)), some (.int b), some (.int t), some (.int (nI (wk.toNatClampNeg)))]) rfl (congrArg (fun z => ([some (.ref (Λ.1 0 38)), some (.int b), some (.int t), some (.int z)] : List (Option Value))) (show wk = (nI (wk.toNatClampNeg)) from by exact hke)) ?_
    refine g_aload_n F dX0_promise_4 rfl rfl (np := 5) rfl ?_
    refine g_iload_n F dX0_promise_5 rfl rfl (np := 6) rfl ?_
    refine g_iload_n F dX0_promise_6 rfl rfl (np := 7) rfl ?_
    refine g_iload_n F dX0_promise_7 rfl rfl (np := 8) rfl ?_
    refine g_bipush F (v := (nI 10)) dX0_promise_8 (by decide) (np := 10) rfl ?_
    refine g_idivN F (by omega) (by decide) (by decide) dX0_promise_10 (np := 11) rfl ?_
    refine g_iload_n F dX0_promise_11 rfl rfl (np := 12) rfl ?_
    refine g_bipush F (v := (nI 10)) dX0_promise_12 (by decide) (np := 14) rfl ?_
    refine g_iremN F (by omega) (by decide) (by decide) dX0_promise_14 (np := 15) rfl ?_
    refine g_runV F (C := RX0) (ci := 0) (T0 := TX0) (N := 38) (rest := []) (ct_X0_mayPromise σ b t (nI (wk.toNatClampNeg / 10)) (nI (wk.toNatClampNeg % 10)) (by first | assumption | omega)) (lw_V q315 q317 qs0 q100 q318) hcV_X0_mayPromise ⟨Nat.le_of_ble_eq_true rfl, Nat.le_of_ble_eq_true rfl⟩ rfl (fun h hs => hs.obj) rfl rfl (Nat.le_of_ble_eq_true rfl) dX0_promise_15 ⟨Nat.le_of_ble_eq_true rfl, Nat.le_of_ble_eq_true rfl⟩ (np := 18) rfl (k_RI ?_)
    refine g_if_neB F dX0_promise_18 (tp := 23) (by decide) (np := 21) rfl (fun c18 => ?_) (fun c18 => ?_)
    · refine g_aload_n F dX0_promise_23 rfl rfl (np := 24) rfl ?_
      refine x_get F (k := 3) (v := .int (nI (σ.1 2))) (by decide) rfl (Or.inl q180) dX0_promise_24 (np := 27) rfl ?_
      refine g_bipush F (v := (nI 14)) dX0_promise_27 (by decide) (np := 29) rfl ?_
      refine g_icmp_neN F (by omega) (by decide) dX0_promise_29 (tp := 35) (by decide) (np := 32) rfl (fun c29 => ?_) (fun c29 => ?_)
      · refine g_aload_n F dX0_promise_35 rfl rfl (np := 36) rfl ?_
        refine g_dup F dX0_promise_36 rfl (np := 37) rfl ?_
        refine x_get F (k := 5) (v := .int (σ.2.1 25 0)) (by decide) rfl (Or.inl q182) dX0_promise_37 (np := 40) rfl ?_
        refine g_iconst F (v := (nI 1)) dX0_promise_40 (by decide) (np := 41) rfl ?_
        refine g_iadd F dX0_promise_41 (np := 42) rfl ?_
        refine x_put F (k := 5) (ty := .int) (by decide) (PutXH.ofA (n := 25) (i := 0) (x := (σ.2.1 25 0) + (nI (1))) (fun _ _ _ => rfl) rfl) rfl rfl rfl rfl (Or.inl q182) dX0_promise_42 (np := 45) rfl ?_
        refine g_aload_n F dX0_promise_45 rfl rfl (np := 46) rfl ?_
        refine g_iload_n F dX0_promise_46 rfl rfl (np := 47) rfl ?_
        refine g_iload_n F dX0_promise_47 rfl rfl (np := 48) rfl ?_
        refine g_iload_n F dX0_promise_48 rfl rfl (np := 49) rfl ?_
        refine g_bipush F (v := (nI 10)) dX0_promise_49 (by decide) (np := 51) rfl ?_
        refine g_idivN F (by omega) (by decide) (by decide) dX0_promise_51 (np := 52) rfl ?_
        refine g_iload_n F dX0_promise_52 rfl rfl (np := 53) rfl ?_
        refine g_bipush F (v := (nI 10)) dX0_promise_53 (by decide) (np := 55) rfl ?_
        refine g_iremN F (by omega) (by decide) (by decide) dX0_promise_55 (np := 56) rfl ?_
        refine g_runV F (C := RX0) (ci := 0) (T0 := TX0) (N := 38) (rest := []) (ct_X0_addPromise (sA σ 25 0 ((σ.2.1 25 0) + (nI (1)))) b t (nI (wk.toNatClampNeg / 10)) (nI (wk.toNatClampNeg % 10)) (by show σ.1 2 < 14; omega)) (lw_V q323 q325 qs2 q100 q326) hcV_X0_addPromise ⟨Nat.le_of_ble_eq_true rfl, Nat.le_of_ble_eq_true rfl⟩ rfl (fun h hs => hs.obj) rfl rfl (Nat.le_of_ble_eq_true rfl) dX0_promise_56 ⟨Nat.le_of_ble_eq_true rfl, Nat.le_of_ble_eq_true rfl⟩ (np := 59) rfl (k_RE (fun r56 σ56 hp56 => ?_))
        subst hp56
        exact g_iret F hr rfl (Nat.le_of_ble_eq_true rfl) (Nat.le_of_ble_eq_true rfl) dX0_promise_59 (fun h hs => by rw [← hT]; exact ⟨_, (upL Λ.1 2 (σ.1 2) σ56, upR Λ.2 1 (σ.1 2) (some σ56)), ⟨(by unfold rPromise; rw [pif_t ⟨c1, c18⟩, if_neg c29]; rfl), (show upL Λ.1 2 (σ.1 2) σ56 0 = Λ.1 0 from upL_n _ _ _ (by decide))⟩, rfl, (by unfold gPromise; rw [pif_t ⟨⟨c1, c18⟩, c29⟩, ← addS_new]; exact hs)⟩)
      · refine g_bipush F (v := (-3)) dX0_promise_32 (by decide) (np := 34) rfl ?_
        exact g_iret F hr rfl (Nat.le_of_ble_eq_true rfl) (Nat.le_of_ble_eq_true rfl) dX0_promise_34 (fun h hs => by rw [← hT]; exact ⟨_, Λ, ⟨(by unfold rPromise; rw [pif_t ⟨c1, c18⟩, if_pos c29]), rfl⟩, rfl, (by unfold gPromise; rw [pif_f (fun z => z.2 c29)]; exact hs)⟩)
    · refine g_iconst F (v := (-1)) dX0_promise_21 (by decide) (np := 22) rfl ?_
      exact g_iret F hr rfl (Nat.le_of_ble_eq_true rfl) (Nat.le_of_ble_eq_true rfl) dX0_promise_22 (fun h hs => by rw [← hT]; exact ⟨_, Λ, ⟨(by unfold rPromise; rw [pif_f (fun z => by obtain ⟨z1, z2⟩ := z; first | exact z1 c1 | exact c18 z2)]), rfl⟩, rfl, (by unfold gPromise; rw [pif_f (fun z => by obtain ⟨⟨z1, z2⟩, -⟩ := z; first | exact z1 c1 | exact c18 z2)]; exact hs)⟩)

set_option maxRecDepth 100000 in
theorem ct_X0_leastWorth {l : Launch} {D : va_G} {B : Nat} {Λ : LT} {I : AH} {L : LawT} (σ : MSt)  (o : Int32) (ls : Nat) (kd : Nat) (xx : Nat) (t : Nat) (hok : mOK σ L) (hm14 : σ.1 2 ≤ 14) (hbO : byOK σ) (hlt : σ.1 2 < 14) (ho : inN o (σ.1 0)) (ht40 : t ≤ 40) : Ct l D ZE B yX0_leastWorth cX0_leastWorth 9 (some .int) 205 4716 1 7 [.ref (Λ.1 0 38), .int o, .int (nI ls), .int (nI kd), .int (nI xx), .int (nI t)] (XH D Λ I L σ) (RE (fun (r : Int32) (Λ' : LT) => r = oI (sLeast (fun w => sWhat0 (mV σ L) (σ.1 6) o kd ls xx t w) 0 100) ∧ Λ'.1 0 = Λ.1 0) (fun _ Λ' => XH D Λ' I L σ)) := by
  refine Ct.of (nL := 9) (lv := [some (.ref (Λ.1 0 38)), some (.int o), some (.int (nI ls)), some (.int (nI kd)), some (.int (nI xx)), some (.int (nI t)), none, none, none]) (by decide) (Nat.le_of_ble_eq_true rfl) stZE 3 rfl ?_
  generalize hT : RE (fun (r : Int32) (Λ' : LT) => r = oI (sLeast (fun w => sWhat0 (mV σ L) (σ.1 6) o kd ls xx t w) 0 100) ∧ Λ'.1 0 = Λ.1 0) (fun _ Λ' => XH D Λ' I L σ) = T
  intro zp ze zs zm zb zt zc F hr hnm
  generalize ([.ref (Λ.1 0 38), .int o, .int (nI ls), .int (nI kd), .int (nI xx), .int (nI t)] : List Value).toArray = za at F ⊢
  have hok2 := hok
  obtain ⟨ho8, hm15, ht99, hby, hlaw⟩ := hok2
  refine g_aload_n F dX0_leastWorth_0 rfl rfl (np := 1) rfl ?_
  refine x_get F (k := 1) (v := .ref (Λ.1 0 1)) (by decide) rfl (Or.inl q178) dX0_leastWorth_1 (np := 4) rfl ?_
  refine g_aload_n F dX0_leastWorth_4 rfl rfl (np := 5) rfl ?_
  refine g_iload_n F dX0_leastWorth_5 rfl rfl (np := 6) rfl ?_
  refine g_iconst F (v := (-1)) dX0_leastWorth_6 (by decide) (np := 7) rfl ?_
  refine g_iconst F (v := (nI 0)) dX0_leastWorth_7 (by decide) (np := 8) rfl ?_
  refine g_iload_n F dX0_leastWorth_8 rfl rfl (np := 9) rfl ?_
  refine g_runV F (C := RX0) (ci := 0) (T0 := TX0) (N := 38) (rest := [.ref (Λ.1 0 1)]) (ct_X0_addPromise σ o (-1) (nI (0)) (nI (kd)) (by exact hlt)) (lw_V q323 q325 qs2 q100 q326) hcV_X0_addPromise ⟨Nat.le_of_ble_eq_true rfl, Nat.le_of_ble_eq_true rfl⟩ rfl (fun h hs => hs.obj) rfl rfl (Nat.le_of_ble_eq_true rfl) dX0_leastWorth_9 ⟨Nat.le_of_ble_eq_true rfl, Nat.le_of_ble_eq_true rfl⟩ (np := 12) rfl (k_RE (fun r9 σ9 hp9 => ?_))
  subst hp9
  obtain ⟨Λ2, hΛ2⟩ : ∃ z : LT, z = (upL Λ.1 2 (σ.1 2) σ9, upR Λ.2 1 (σ.1 2) (some σ9)) := ⟨_, rfl⟩
  have eΛ2 : ∀ k, k ≠ 2 → Λ2.1 k = Λ.1 k := fun k hk => by rw [hΛ2]; exact upL_n _ _ _ hk
  rw [← hΛ2]
  refine WG.eqv (st' := [.int (nI (σ.1 2)), .ref (Λ2.1 0 1)]) (by first | rfl | (rw [eΛ2 0 (by decide)])) (lv' := [some (.ref (Λ2.1 0 38)), some (.int o), some (.int (nI ls)), some (.int (nI kd)), some (.int (nI xx)), some (.int (nI t)), none, none, none]) (by first | rfl | (rw [eΛ2 0 (by decide)])) ?_
  refine x_aldP F (i := σ.1 2) rfl (show (σ.1 2) < σ.1 2 + 1 by omega) (show σ.1 2 + 1 ≤ 14 by omega) dX0_leastWorth_12 (np := 13) rfl ?_
  refine g_astore F (lv' := [some (.ref (Λ2.1 0 38)), some (.int o), some (.int (nI ls)), some (.int (nI kd)), some (.int (nI xx)), some (.int (nI t)), some (.ref (Λ2.1 2 (σ.1 2))), none, none]) dX0_leastWorth_13 (by decide) rfl rfl (np := 15) rfl ?_
  refine g_aload F dX0_leastWorth_15 rfl (np := 17) rfl ?_
  refine g_iload_n F dX0_leastWorth_17 rfl rfl (np := 18) rfl ?_
  refine x_putP F (j := 4) (q := σ.1 2) (by decide) (by decide) (show σ.1 2 + 1 ≤ 15 by omega) (show (σ.1 2) < σ.1 2 + 1 by omega) (Or.inr ⟨_, ze341⟩) rfl rfl dX0_leastWorth_18 (np := 21) rfl ?_
  refine WG.weak (S' := XH D Λ2 I L (tOne σ o (nI 0) (nI kd) (nI ls))) (fun h hs => by rw [show (tOne σ o (nI 0) (nI kd) (nI ls)) = (sA (addS σ o (-1) (nI (0)) (nI (kd))) 3 (30 + (σ.1 2)) (nI (ls))) from by exact (addS_one _ _ _ (by omega)).symm]; exact hs) ?_
  refine g_bipush F (v := (-2)) dX0_leastWorth_21 (by decide) (np := 23) rfl ?_
  refine g_istore F (lv' := [some (.ref (Λ2.1 0 38)), some (.int o), some (.int (nI ls)), some (.int (nI kd)), some (.int (nI xx)), some (.int (nI t)), some (.ref (Λ2.1 2 (σ.1 2))), some (.int (-2)), none]) dX0_leastWorth_23 (by decide) rfl rfl (np := 25) rfl ?_
  refine g_iconst F (v := (nI 0)) dX0_leastWorth_25 (by decide) (np := 26) rfl ?_
  refine g_istore F (lv' := [some (.ref (Λ2.1 0 38)), some (.int o), some (.int (nI ls)), some (.int (nI kd)), some (.int (nI xx)), some (.int (nI t)), some (.ref (Λ2.1 2 (σ.1 2))), some (.int (-2)), some (.int (nI 0))]) dX0_leastWorth_26 (by decide) rfl rfl (np := 28) rfl ?_
  have L28 : ∀ (zn : Nat) (is : Int32) (w : Nat) (xw : Int32), ((is = -2 ∧ sLeast (fun w => sWhat0 (mV σ L) (σ.1 6) o kd ls xx t w) w (100 - w) = sLeast (fun w => sWhat0 (mV σ L) (σ.1 6) o kd ls xx t w) 0 100) ∨ (¬ is < 0 ∧ is = oI (sLeast (fun w => sWhat0 (mV σ L) (σ.1 6) o kd ls xx t w) 0 100))) → (w ≤ 100) → 100 - w < zn → WG zp l ze ({ frames := 205, cells := 1, slots := 7, locals := 4716 } : Room) zs zm za zb zt zc D B 9 (MQ zb (QT D B T) za zs 1 7 (zA B)) (XH D Λ2 I L (tOne σ o xw (nI kd) (nI ls))) (0 + 1) (0 + 7) 28 [some (.ref (Λ2.1 0 38)), some (.int o), some (.int (nI ls)), some (.int (nI kd)), some (.int (nI xx)), some (.int (nI t)), some (.ref (Λ2.1 2 (σ.1 2))), some (.int is), some (.int (nI w))] [] := by
    intro zn
    induction zn with
    | zero => intro is w xw h1 h2 hm; exact absurd hm (Nat.not_lt_zero _)
    | succ zn ih28 =>
      intro is w xw h1 h2 hm
      refine g_iload F dX0_leastWorth_28 rfl (np := 30) rfl ?_
      refine g_bipush F (v := (nI 99)) dX0_leastWorth_30 (by decide) (np := 32) rfl ?_
      refine g_icmp_gtN F (by omega) (by decide) dX0_leastWorth_32 (tp := 69) (by decide) (np := 35) rfl (fun c32 => ?_) (fun c32 => ?_)
      · refine g_aload_n F dX0_leastWorth_69 rfl rfl (np := 70) rfl ?_
        refine g_dup F dX0_leastWorth_70 rfl (np := 71) rfl ?_
        refine x_get F (k := 3) (v := .int (nI (σ.1 2 + 1))) (by decide) rfl (Or.inl q180) dX0_leastWorth_71 (np := 74) rfl ?_
        refine g_iconst F (v := (nI 1)) dX0_leastWorth_74 (by decide) (np := 75) rfl ?_
        refine g_isubN F (by omega) dX0_leastWorth_75 (np := 76) rfl ?_
        refine WG.eqv (st' := [.int (nI (σ.1 2)), .ref (Λ2.1 0 38)]) (congrArg (fun z => ([.int z, .ref (Λ2.1 0 38)] : List Value)) (show (nI ((σ.1 2 + 1) - 1)) = (nI (σ.1 2)) from by exact congrArg nI (Nat.add_sub_cancel _ _))) rfl ?_
        refine x_put F (k := 3) (ty := .int) (by decide) (PutXH.less (n := σ.1 2) (by show σ.1 2 ≤ σ.1 2 + 1; omega)) rfl rfl rfl rfl (Or.inl q180) dX0_leastWorth_76 (np := 79) rfl ?_
        refine WG.weak (S' := XH D Λ2 I L σ) (fun h hs => XH.eqv (tOne_eq _ _ _ _ (by omega)) hs) ?_
        have hfin : is = oI (sLeast (fun w => sWhat0 (mV σ L) (σ.1 6) o kd ls xx t w) 0 100) := by
          rcases h1 with ⟨e1, e2⟩ | ⟨e1, e2⟩
          · rcases Nat.lt_or_ge w 100 with y | y
            · exfalso; first | omega | exact absurd c37 (by rw [e1]; decide)
            · rw [← e2, show 100 - w = 0 by omega]; exact e1
          · exact e2
        refine g_iload F dX0_leastWorth_79 rfl (np := 81) rfl ?_
        exact g_iret F hr rfl (Nat.le_of_ble_eq_true rfl) (Nat.le_of_ble_eq_true rfl) dX0_leastWorth_81 (fun h hs => by rw [← hT]; exact ⟨_, Λ2, ⟨hfin, eΛ2 0 (by decide)⟩, rfl, hs⟩)
      · refine g_iload F dX0_leastWorth_35 rfl (np := 37) rfl ?_
        refine g_if_ge F dX0_leastWorth_37 (tp := 69) (by decide) (np := 40) rfl (fun c37 => ?_) (fun c37 => ?_)
        · refine g_aload_n F dX0_leastWorth_69 rfl rfl (np := 70) rfl ?_
          refine g_dup F dX0_leastWorth_70 rfl (np := 71) rfl ?_
          refine x_get F (k := 3) (v := .int (nI (σ.1 2 + 1))) (by decide) rfl (Or.inl q180) dX0_leastWorth_71 (np := 74) rfl ?_
          refine g_iconst F (v := (nI 1)) dX0_leastWorth_74 (by decide) (np := 75) rfl ?_
          refine g_isubN F (by omega) dX0_leastWorth_75 (np := 76) rfl ?_
          refine WG.eqv (st' := [.int (nI (σ.1 2)), .ref (Λ2.1 0 38)]) (congrArg (fun z => ([.int z, .ref (Λ2.1 0 38)] : List Value)) (show (nI ((σ.1 2 + 1) - 1)) = (nI (σ.1 2)) from by exact congrArg nI (Nat.add_sub_cancel _ _))) rfl ?_
          refine x_put F (k := 3) (ty := .int) (by decide) (PutXH.less (n := σ.1 2) (by show σ.1 2 ≤ σ.1 2 + 1; omega)) rfl rfl rfl rfl (Or.inl q180) dX0_leastWorth_76 (np := 79) rfl ?_
          refine WG.weak (S' := XH D Λ2 I L σ) (fun h hs => XH.eqv (tOne_eq _ _ _ _ (by omega)) hs) ?_
          have hfin : is = oI (sLeast (fun w => sWhat0 (mV σ L) (σ.1 6) o kd ls xx t w) 0 100) := by
            rcases h1 with ⟨e1, e2⟩ | ⟨e1, e2⟩
            · rcases Nat.lt_or_ge w 100 with y | y
              · exfalso; first | omega | exact absurd c37 (by rw [e1]; decide)
              · rw [← e2, show 100 - w = 0 by omega]; exact e1
            · exact e2
          refine g_iload F dX0_leastWorth_79 rfl (np := 81) rfl ?_
          exact g_iret F hr rfl (Nat.le_of_ble_eq_true rfl) (Nat.le_of_ble_eq_true rfl) dX0_leastWorth_81 (fun h hs => by rw [← hT]; exact ⟨_, Λ2, ⟨hfin, eΛ2 0 (by decide)⟩, rfl, hs⟩)
        · refine g_aload F dX0_leastWorth_40 rfl (np := 42) rfl ?_
          refine g_iload F dX0_leastWorth_42 rfl (np := 44) rfl ?_
          refine x_putP F (j := 2) (q := σ.1 2) (by decide) (by decide) (show σ.1 2 + 1 ≤ 15 by omega) (show (σ.1 2) < σ.1 2 + 1 by omega) (Or.inr ⟨_, ze337⟩) rfl rfl dX0_leastWorth_44 (np := 47) rfl ?_
          refine WG.weak (S' := XH D Λ2 I L (sA (tOne σ o xw (nI kd) (nI ls)) 3 (σ.1 2) (nI (w)))) (fun h hs => by rw [show 15 * (2 - 2) + (σ.1 2) = (σ.1 2) from Nat.zero_add _] at hs; exact hs) ?_
          refine WG.weak (S' := XH D Λ2 I L (tOne σ o (nI w) (nI kd) (nI ls))) (fun h hs => by rw [show (tOne σ o (nI w) (nI kd) (nI ls)) = (sA (tOne σ o xw (nI kd) (nI ls)) 3 (σ.1 2) (nI (w))) from by exact (tOne_w _ _ _ _ _ (by omega)).symm]; exact hs) ?_
          have hst : sStands (mV (tOne σ o (nI w) (nI kd) (nI ls)) L) (σ.1 6) o (nI xx) t ↔ sWhat0 (mV σ L) (σ.1 6) o kd ls xx t w := tOne_stands (σ := σ) (L := L) (by omega) o (nI w) (nI kd) (nI ls) (nI xx) t
          refine g_aload_n F dX0_leastWorth_47 rfl rfl (np := 48) rfl ?_
          refine g_iload_n F dX0_leastWorth_48 rfl rfl (np := 49) rfl ?_
          refine g_iload F dX0_leastWorth_49 rfl (np := 51) rfl ?_
          refine g_iload F dX0_leastWorth_51 rfl (np := 53) rfl ?_
          refine g_runV F (C := RX0) (ci := 0) (T0 := TX0) (N := 38) (rest := []) (ct_X0_standsSo (tOne σ o (nI w) (nI kd) (nI ls)) o (nI (xx)) t (by exact tOne_OK hok (by omega) ho _ _ _) (by show σ.1 2 + 1 ≤ 14; omega) (by exact hbO.thk ho _ _ _) (by exact ht40)) (lw_V q917 q919 qs31 q100 q920) hcV_X0_standsSo ⟨Nat.le_of_ble_eq_true rfl, Nat.le_of_ble_eq_true rfl⟩ rfl (fun h hs => hs.obj) rfl rfl (Nat.le_of_ble_eq_true rfl) dX0_leastWorth_53 ⟨Nat.le_of_ble_eq_true rfl, Nat.le_of_ble_eq_true rfl⟩ (np := 56) rfl (k_RI ?_)
          refine g_if_eqB F dX0_leastWorth_56 (tp := 63) (by decide) (np := 59) rfl (fun c56 => ?_) (fun c56 => ?_)
          · refine g_iinc F (v := (nI (w + 1))) (lv' := [some (.ref (Λ2.1 0 38)), some (.int o), some (.int (nI ls)), some (.int (nI kd)), some (.int (nI xx)), some (.int (nI t)), some (.ref (Λ2.1 2 (σ.1 2))), some (.int is), some (.int (nI (w + 1)))]) dX0_leastWorth_63 rfl (nI_add _ _) (by decide) rfl rfl (np := 66) rfl ?_
            refine g_goto F dX0_leastWorth_66 (np := 28) (by decide) ?_
            exact ih28 is (w + 1) ((nI w)) (by have e7 := h1.resolve_right (fun z => z.1 (Int32.not_le.mp c37)); rw [show 100 - w = (100 - (w + 1)) + 1 by omega] at e7; first | (rw [sLeast_t (hst.mp c56)] at e7; exact Or.inr ⟨nI_pos (by omega), by rw [← e7.2]; rfl⟩) | (rw [sLeast_f (fun z => c56 (hst.mpr z))] at e7; exact Or.inl e7)) (by omega) (by omega)
          · refine g_iload F dX0_leastWorth_59 rfl (np := 61) rfl ?_
            refine g_istore F (lv' := [some (.ref (Λ2.1 0 38)), some (.int o), some (.int (nI ls)), some (.int (nI kd)), some (.int (nI xx)), some (.int (nI t)), some (.ref (Λ2.1 2 (σ.1 2))), some (.int (nI w)), some (.int (nI w))]) dX0_leastWorth_61 (by decide) rfl rfl (np := 63) rfl ?_
            refine g_iinc F (v := (nI (w + 1))) (lv' := [some (.ref (Λ2.1 0 38)), some (.int o), some (.int (nI ls)), some (.int (nI kd)), some (.int (nI xx)), some (.int (nI t)), some (.ref (Λ2.1 2 (σ.1 2))), some (.int (nI w)), some (.int (nI (w + 1)))]) dX0_leastWorth_63 rfl (nI_add _ _) (by decide) rfl rfl (np := 66) rfl ?_
            refine g_goto F dX0_leastWorth_66 (np := 28) (by decide) ?_
            exact ih28 (nI (w)) (w + 1) ((nI w)) (by have e7 := h1.resolve_right (fun z => z.1 (Int32.not_le.mp c37)); rw [show 100 - w = (100 - (w + 1)) + 1 by omega] at e7; first | (rw [sLeast_t (hst.mp c56)] at e7; exact Or.inr ⟨nI_pos (by omega), by rw [← e7.2]; rfl⟩) | (rw [sLeast_f (fun z => c56 (hst.mpr z))] at e7; exact Or.inl e7)) (by omega) (by omega)
  exact L28 _ (-2) 0 ((nI 0)) (by exact Or.inl ⟨rfl, rfl⟩) (by omega) (Nat.lt_succ_self _)

set_option maxRecDepth 100000 in
theorem ct_X0_what {l : Launch} {D : va_G} {B : Nat} {Λ : LT} {I : AH} {L : LawT} (σ : MSt)  (o : Int32) (kl : Int32) (xt : Int32) (hok : mOK σ L) (hm14 : σ.1 2 ≤ 14) (hbO : byOK σ) : Ct l D ZE B yX0_what cX0_what 4 (some .int) 206 4744 1 7 [.ref (Λ.1 0 38), .int o, .int kl, .int xt] (XH D Λ I L σ) (RE (fun (r : Int32) (Λ' : LT) => r = rWhat (mV σ L) (σ.1 6) (σ.1 0) o kl xt ∧ Λ'.1 0 = Λ.1 0) (fun _ Λ' => XH D Λ' I L σ)) := by
  refine Ct.of (nL := 4) (lv := [some (.ref (Λ.1 0 38)), some (.int o), some (.int kl), some (.int xt)]) (by decide) (Nat.le_of_ble_eq_true rfl) stZE 0 rfl ?_
  generalize hT : RE (fun (r : Int32) (Λ' : LT) => r = rWhat (mV σ L) (σ.1 6) (σ.1 0) o kl xt ∧ Λ'.1 0 = Λ.1 0) (fun _ Λ' => XH D Λ' I L σ) = T
  intro zp ze zs zm zb zt zc F hr hnm
  generalize ([.ref (Λ.1 0 38), .int o, .int kl, .int xt] : List Value).toArray = za at F ⊢
  have hok2 := hok
  obtain ⟨ho8, hm15, ht99, hby, hlaw⟩ := hok2
  refine g_aload_n F dX0_what_0 rfl rfl (np := 1) rfl ?_
  refine g_iload_n F dX0_what_1 rfl rfl (np := 2) rfl ?_
  refine g_runV F (C := RX0) (ci := 0) (T0 := TX0) (N := 38) (rest := []) (ct_X0_isOwner σ o (by first | assumption | omega)) (lw_V q319 q321 qs1 q100 q322) hcV_X0_isOwner ⟨Nat.le_of_ble_eq_true rfl, Nat.le_of_ble_eq_true rfl⟩ rfl (fun h hs => hs.obj) rfl rfl (Nat.le_of_ble_eq_true rfl) dX0_what_2 ⟨Nat.le_of_ble_eq_true rfl, Nat.le_of_ble_eq_true rfl⟩ (np := 5) rfl (k_RI ?_)
  refine g_if_eqB F dX0_what_5 (tp := 49) (by decide) (np := 8) rfl (fun c5 => ?_) (fun c5 => ?_)
  · refine g_iconst F (v := (-1)) dX0_what_49 (by decide) (np := 50) rfl ?_
    exact g_iret F hr rfl (Nat.le_of_ble_eq_true rfl) (Nat.le_of_ble_eq_true rfl) dX0_what_50 (fun h hs => by rw [← hT]; exact ⟨_, Λ, ⟨(by unfold rWhat; rw [pif_f (fun z => by obtain ⟨z1, z2, z3, z4, z5, z6, z7⟩ := z; first | exact c5 z1 | exact z2 c9 | exact z5 c28 | exact z4 c24 | omega)]), rfl⟩, rfl, hs⟩)
  · refine g_iload_n F dX0_what_8 rfl rfl (np := 9) rfl ?_
    refine g_if_lt F dX0_what_9 (tp := 49) (by decide) (np := 12) rfl (fun c9 => ?_) (fun c9 => ?_)
    · refine g_iconst F (v := (-1)) dX0_what_49 (by decide) (np := 50) rfl ?_
      exact g_iret F hr rfl (Nat.le_of_ble_eq_true rfl) (Nat.le_of_ble_eq_true rfl) dX0_what_50 (fun h hs => by rw [← hT]; exact ⟨_, Λ, ⟨(by unfold rWhat; rw [pif_f (fun z => by obtain ⟨z1, z2, z3, z4, z5, z6, z7⟩ := z; first | exact c5 z1 | exact z2 c9 | exact z5 c28 | exact z4 c24 | omega)]), rfl⟩, rfl, hs⟩)
    · obtain ⟨hke, hkl⟩ := nI_cl c9
      refine WG.eqv (lv' := [some (.ref (Λ.1 0 38)), some (.int o), some (.int (nI (kl.toNatClampNeg))), some (.int xt)]) rfl (congrArg (fun z => ([some (.ref (Λ.1 0 38)), some (.int o), some (.int z), some (.int xt)] : List (Option Value))) (show kl = (nI (kl.toNatClampNeg)) from by exact hke)) ?_
      refine g_iload_n F dX0_what_12 rfl rfl (np := 13) rfl ?_
      refine g_bipush F (v := (nI 100)) dX0_what_13 (by decide) (np := 15) rfl ?_
      refine g_idivN F (by omega) (by decide) (by decide) dX0_what_15 (np := 16) rfl ?_
      refine g_iconst F (v := (nI 2)) dX0_what_16 (by decide) (np := 17) rfl ?_
      refine g_icmp_gtN F (by omega) (by decide) dX0_what_17 (tp := 49) (by decide) (np := 20) rfl (fun c17 => ?_) (fun c17 => ?_)
      · refine g_iconst F (v := (-1)) dX0_what_49 (by decide) (np := 50) rfl ?_
        exact g_iret F hr rfl (Nat.le_of_ble_eq_true rfl) (Nat.le_of_ble_eq_true rfl) dX0_what_50 (fun h hs => by rw [← hT]; exact ⟨_, Λ, ⟨(by unfold rWhat; rw [pif_f (fun z => by obtain ⟨z1, z2, z3, z4, z5, z6, z7⟩ := z; first | exact c5 z1 | exact z2 c9 | exact z5 c28 | exact z4 c24 | omega)]), rfl⟩, rfl, hs⟩)
      · refine g_iload_n F dX0_what_20 rfl rfl (np := 21) rfl ?_
        refine g_bipush F (v := (nI 100)) dX0_what_21 (by decide) (np := 23) rfl ?_
        refine g_iremN F (by omega) (by decide) (by decide) dX0_what_23 (np := 24) rfl ?_
        refine g_if_eqN F (by omega) dX0_what_24 (tp := 49) (by decide) (np := 27) rfl (fun c24 => ?_) (fun c24 => ?_)
        · refine g_iconst F (v := (-1)) dX0_what_49 (by decide) (np := 50) rfl ?_
          exact g_iret F hr rfl (Nat.le_of_ble_eq_true rfl) (Nat.le_of_ble_eq_true rfl) dX0_what_50 (fun h hs => by rw [← hT]; exact ⟨_, Λ, ⟨(by unfold rWhat; rw [pif_f (fun z => by obtain ⟨z1, z2, z3, z4, z5, z6, z7⟩ := z; first | exact c5 z1 | exact z2 c9 | exact z5 c28 | exact z4 c24 | omega)]), rfl⟩, rfl, hs⟩)
        · refine g_iload_n F dX0_what_27 rfl rfl (np := 28) rfl ?_
          refine g_if_lt F dX0_what_28 (tp := 49) (by decide) (np := 31) rfl (fun c28 => ?_) (fun c28 => ?_)
          · refine g_iconst F (v := (-1)) dX0_what_49 (by decide) (np := 50) rfl ?_
            exact g_iret F hr rfl (Nat.le_of_ble_eq_true rfl) (Nat.le_of_ble_eq_true rfl) dX0_what_50 (fun h hs => by rw [← hT]; exact ⟨_, Λ, ⟨(by unfold rWhat; rw [pif_f (fun z => by obtain ⟨z1, z2, z3, z4, z5, z6, z7⟩ := z; first | exact c5 z1 | exact z2 c9 | exact z5 c28 | exact z4 c24 | omega)]), rfl⟩, rfl, hs⟩)
          · obtain ⟨hxe, hxl⟩ := nI_cl c28
            refine WG.eqv (lv' := [some (.ref (Λ.1 0 38)), some (.int o), some (.int (nI (kl.toNatClampNeg))), some (.int (nI (xt.toNatClampNeg)))]) rfl (congrArg (fun z => ([some (.ref (Λ.1 0 38)), some (.int o), some (.int (nI (kl.toNatClampNeg))), some (.int z)] : List (Option Value))) (show xt = (nI (xt.toNatClampNeg)) from by exact hxe)) ?_
            refine g_iload_n F dX0_what_31 rfl rfl (np := 32) rfl ?_
            refine g_bipush F (v := (nI 100)) dX0_what_32 (by decide) (np := 34) rfl ?_
            refine g_idivN F (by omega) (by decide) (by decide) dX0_what_34 (np := 35) rfl ?_
            refine g_bipush F (v := (nI 9)) dX0_what_35 (by decide) (np := 37) rfl ?_
            refine g_icmp_gtN F (by omega) (by decide) dX0_what_37 (tp := 49) (by decide) (np := 40) rfl (fun c37 => ?_) (fun c37 => ?_)
            · refine g_iconst F (v := (-1)) dX0_what_49 (by decide) (np := 50) rfl ?_
              exact g_iret F hr rfl (Nat.le_of_ble_eq_true rfl) (Nat.le_of_ble_eq_true rfl) dX0_what_50 (fun h hs => by rw [← hT]; exact ⟨_, Λ, ⟨(by unfold rWhat; rw [pif_f (fun z => by obtain ⟨z1, z2, z3, z4, z5, z6, z7⟩ := z; first | exact c5 z1 | exact z2 c9 | exact z5 c28 | exact z4 c24 | omega)]), rfl⟩, rfl, hs⟩)
            · refine g_iload_n F dX0_what_40 rfl rfl (np := 41) rfl ?_
              refine g_bipush F (v := (nI 100)) dX0_what_41 (by decide) (np := 43) rfl ?_
              refine g_iremN F (by omega) (by decide) (by decide) dX0_what_43 (np := 44) rfl ?_
              refine g_bipush F (v := (nI 40)) dX0_what_44 (by decide) (np := 46) rfl ?_
              refine g_icmp_leN F (by omega) (by decide) dX0_what_46 (tp := 51) (by decide) (np := 49) rfl (fun c46 => ?_) (fun c46 => ?_)
              · have hW : wOK (σ.1 0) o kl xt := ⟨c5, c9, by omega, c24, c28, by omega, by omega⟩
                refine g_aload_n F dX0_what_51 rfl rfl (np := 52) rfl ?_
                refine x_get F (k := 3) (v := .int (nI (σ.1 2))) (by decide) rfl (Or.inl q180) dX0_what_52 (np := 55) rfl ?_
                refine g_bipush F (v := (nI 14)) dX0_what_55 (by decide) (np := 57) rfl ?_
                refine g_icmp_neN F (by omega) (by decide) dX0_what_57 (tp := 65) (by decide) (np := 60) rfl (fun c57 => ?_) (fun c57 => ?_)
                · refine g_aload_n F dX0_what_65 rfl rfl (np := 66) rfl ?_
                  refine g_iload_n F dX0_what_66 rfl rfl (np := 67) rfl ?_
                  refine g_iload_n F dX0_what_67 rfl rfl (np := 68) rfl ?_
                  refine g_bipush F (v := (nI 100)) dX0_what_68 (by decide) (np := 70) rfl ?_
                  refine g_iremN F (by omega) (by decide) (by decide) dX0_what_70 (np := 71) rfl ?_
                  refine g_iload_n F dX0_what_71 rfl rfl (np := 72) rfl ?_
                  refine g_bipush F (v := (nI 100)) dX0_what_72 (by decide) (np := 74) rfl ?_
                  refine g_idivN F (by omega) (by decide) (by decide) dX0_what_74 (np := 75) rfl ?_
                  refine g_iload_n F dX0_what_75 rfl rfl (np := 76) rfl ?_
                  refine g_bipush F (v := (nI 100)) dX0_what_76 (by decide) (np := 78) rfl ?_
                  refine g_idivN F (by omega) (by decide) (by decide) dX0_what_78 (np := 79) rfl ?_
                  refine g_iload_n F dX0_what_79 rfl rfl (np := 80) rfl ?_
                  refine g_bipush F (v := (nI 100)) dX0_what_80 (by decide) (np := 82) rfl ?_
                  refine g_iremN F (by omega) (by decide) (by decide) dX0_what_82 (np := 83) rfl ?_
                  refine g_runV F (C := RX0) (ci := 0) (T0 := TX0) (N := 38) (rest := []) (ct_X0_leastWorth σ o (kl.toNatClampNeg % 100) (kl.toNatClampNeg / 100) (xt.toNatClampNeg / 100) (xt.toNatClampNeg % 100) (by exact hok) (by exact hm14) (by exact hbO) (by show σ.1 2 < 14; omega) (by exact c5) (by omega)) (lw_V q913 q915 qs30 q100 q916) hcV_X0_leastWorth ⟨Nat.le_of_ble_eq_true rfl, Nat.le_of_ble_eq_true rfl⟩ rfl (fun h hs => hs.obj) rfl rfl (Nat.le_of_ble_eq_true rfl) dX0_what_83 ⟨Nat.le_of_ble_eq_true rfl, Nat.le_of_ble_eq_true rfl⟩ (np := 86) rfl (k_RE (fun r83 σ83 hp83 => ?_))
                  exact g_iret F hr rfl (Nat.le_of_ble_eq_true rfl) (Nat.le_of_ble_eq_true rfl) dX0_what_86 (fun h hs => by rw [← hT]; exact ⟨_, _, ⟨(by unfold rWhat; rw [pif_t hW]; first | (rw [if_pos (show (mV σ L).2.2.1 = 14 from c57)]; done) | (rw [if_neg (show ¬ (mV σ L).2.2.1 = 14 from c57)]; exact hp83.1)), (by first | rfl | exact hp83.2)⟩, rfl, hs⟩)
                · refine g_bipush F (v := (-2)) dX0_what_60 (by decide) (np := 62) rfl ?_
                  refine g_goto F dX0_what_62 (np := 86) (by decide) ?_
                  exact g_iret F hr rfl (Nat.le_of_ble_eq_true rfl) (Nat.le_of_ble_eq_true rfl) dX0_what_86 (fun h hs => by rw [← hT]; exact ⟨_, _, ⟨(by unfold rWhat; rw [pif_t hW]; first | (rw [if_pos (show (mV σ L).2.2.1 = 14 from c57)]; done) | (rw [if_neg (show ¬ (mV σ L).2.2.1 = 14 from c57)]; exact hp83.1)), (by first | rfl | exact hp83.2)⟩, rfl, hs⟩)
              · refine g_iconst F (v := (-1)) dX0_what_49 (by decide) (np := 50) rfl ?_
                exact g_iret F hr rfl (Nat.le_of_ble_eq_true rfl) (Nat.le_of_ble_eq_true rfl) dX0_what_50 (fun h hs => by rw [← hT]; exact ⟨_, Λ, ⟨(by unfold rWhat; rw [pif_f (fun z => by obtain ⟨z1, z2, z3, z4, z5, z6, z7⟩ := z; first | exact c5 z1 | exact z2 c9 | exact z5 c28 | exact z4 c24 | omega)]), rfl⟩, rfl, hs⟩)
