/-! WALKS (printed by walk.py): ran, image, setTo, undo -/
set_option maxRecDepth 100000
set_option maxRecDepth 100000 in
theorem ct_X0_ran {l : Launch} {D : va_G} {B : Nat} {Λ : LT} {I : AH} {L : LawT} (σ : MSt)  (c : Nat) (htr : σ.1 36 < 2 ^ 30) : Ct l D ZE B yX0_ran cX0_ran 2 none 0 0 0 0 [.ref (Λ.1 0 38), .int (nI c)] (XH D Λ I L σ) (RV (XH D Λ I L (logS σ [c]))) := by
  refine Ct.of (nL := 2) (lv := [some (.ref (Λ.1 0 38)), some (.int (nI c))]) (by decide) (Nat.le_of_ble_eq_true rfl) stZE 0 rfl ?_
  generalize hT : RV (XH D Λ I L (logS σ [c])) = T
  intro zp ze zs zm zb zt zc F hr hnm
  generalize ([.ref (Λ.1 0 38), .int (nI c)] : List Value).toArray = za at F ⊢
  refine g_aload_n F dX0_ran_0 rfl rfl (np := 1) rfl ?_
  refine x_get F (k := 33) (v := .int (nI (σ.1 36))) (by decide) rfl (Or.inl q212) dX0_ran_1 (np := 4) rfl ?_
  refine g_bipush F (v := (nI 24)) dX0_ran_4 (by decide) (np := 6) rfl ?_
  refine g_icmp_geN F (by omega) (by decide) dX0_ran_6 (tp := 20) (by decide) (np := 9) rfl (fun c6 => ?_) (fun c6 => ?_)
  · refine g_aload_n F dX0_ran_20 rfl rfl (np := 21) rfl ?_
    refine g_dup F dX0_ran_21 rfl (np := 22) rfl ?_
    refine x_get F (k := 33) (v := .int (nI (σ.1 36))) (by decide) rfl (Or.inl q212) dX0_ran_22 (np := 25) rfl ?_
    refine g_iconst F (v := (nI 1)) dX0_ran_25 (by decide) (np := 26) rfl ?_
    refine g_iaddN F dX0_ran_26 (np := 27) rfl ?_
    refine x_put F (k := 33) (ty := .int) (by decide) (PutXH.ofN (n := 36) (x := (σ.1 36) + 1) (fun _ _ _ => rfl) rfl) rfl rfl rfl rfl (Or.inl q212) dX0_ran_27 (np := 30) rfl ?_
    have hσ : (sN σ 36 ((σ.1 36) + 1)) = (logS σ [c]) := by first | exact log1_t (by omega) | exact log1_f (by omega)
    exact g_vret F hr (Nat.le_of_ble_eq_true rfl) (Nat.le_of_ble_eq_true rfl) dX0_ran_30 (fun h hs => by rw [← hT]; exact ⟨rfl, (hσ ▸ hs)⟩)
  · refine g_aload_n F dX0_ran_9 rfl rfl (np := 10) rfl ?_
    refine x_get F (k := 34) (v := .ref (Λ.1 0 34)) (by decide) rfl (Or.inl q213) dX0_ran_10 (np := 13) rfl ?_
    refine g_aload_n F dX0_ran_13 rfl rfl (np := 14) rfl ?_
    refine x_get F (k := 33) (v := .int (nI (σ.1 36))) (by decide) rfl (Or.inl q212) dX0_ran_14 (np := 17) rfl ?_
    refine g_iload_n F dX0_ran_17 rfl rfl (np := 18) rfl ?_
    refine g_i2b F dX0_ran_18 (np := 19) rfl ?_
    refine x_bast F (J := 34) (a := 37) (i := σ.1 36) (n := 24) (v := nI c) (Or.inr ⟨rfl, rfl⟩) (fun _ => rfl) (by decide) (by omega) rfl dX0_ran_19 (np := 20) rfl ?_
    refine g_aload_n F dX0_ran_20 rfl rfl (np := 21) rfl ?_
    refine g_dup F dX0_ran_21 rfl (np := 22) rfl ?_
    refine x_get F (k := 33) (v := .int (nI (σ.1 36))) (by decide) rfl (Or.inl q212) dX0_ran_22 (np := 25) rfl ?_
    refine g_iconst F (v := (nI 1)) dX0_ran_25 (by decide) (np := 26) rfl ?_
    refine g_iaddN F dX0_ran_26 (np := 27) rfl ?_
    refine x_put F (k := 33) (ty := .int) (by decide) (PutXH.ofN (n := 36) (x := (σ.1 36) + 1) (fun _ _ _ => rfl) rfl) rfl rfl rfl rfl (Or.inl q212) dX0_ran_27 (np := 30) rfl ?_
    have hσ : (sN (sA σ 37 (σ.1 36) (nI c)) 36 ((σ.1 36) + 1)) = (logS σ [c]) := by first | exact log1_t (by omega) | exact log1_f (by omega)
    exact g_vret F hr (Nat.le_of_ble_eq_true rfl) (Nat.le_of_ble_eq_true rfl) dX0_ran_30 (fun h hs => by rw [← hT]; exact ⟨rfl, (hσ ▸ hs)⟩)

set_option maxRecDepth 100000 in
theorem ct_X0_image {l : Launch} {D : va_G} {B : Nat} {Λ : LT} {I : AH} {L : LawT} (σ : MSt)   (hno : σ.1 0 ≤ 8) (hm14 : σ.1 2 ≤ 14) : Ct l D ZE B yX0_image cX0_image 2 (some .int) 0 0 0 0 [.ref (Λ.1 0 38)] (XH D Λ I L σ) (RI (σ.2.1 25 4) (XH D Λ I L (imgS σ))) := by
  refine Ct.of (nL := 2) (lv := [some (.ref (Λ.1 0 38)), none]) (by decide) (Nat.le_of_ble_eq_true rfl) stZE 1 rfl ?_
  generalize hT : RI (σ.2.1 25 4) (XH D Λ I L (imgS σ)) = T
  intro zp ze zs zm zb zt zc F hr hnm
  generalize ([.ref (Λ.1 0 38)] : List Value).toArray = za at F ⊢
  refine WG.ex (fun nm0 => ?_)
  refine WG.ex (fun km0 => ?_)
  refine WG.ex (fun kd0 => ?_)
  refine WG.pr (fun hXR => ?_)
  refine g_aload_n F dX0_image_0 rfl rfl (np := 1) rfl ?_
  refine g_iconst F (v := (nI 1)) dX0_image_1 (by decide) (np := 2) rfl ?_
  refine w_put F (k := 22) (ty := .boolean) (by decide) (PutOK.of (σ' := sN (hid σ nm0 km0 kd0) 26 1) rfl rfl rfl (fun _ _ => rfl) rfl) rfl rfl rfl rfl (Or.inl q201) dX0_image_2 (np := 5) rfl ?_
  refine g_iconst F (v := (nI 0)) dX0_image_5 (by decide) (np := 6) rfl ?_
  refine g_istore_n F (lv' := [some (.ref (Λ.1 0 38)), some (.int (nI 0))]) dX0_image_6 rfl (by decide) rfl rfl (np := 7) rfl ?_
  have L7 : ∀ (zn : Nat) (i : Nat) (f : Nat → Int32), (∀ j, f j = if j < i then σ.2.1 1 j else km0 j) → (i ≤ σ.1 0) → σ.1 0 - i < zn → WG zp l ze ({ frames := 0, cells := 0, slots := 0, locals := 0 } : Room) zs zm za zb zt zc D B 2 (MQ zb (QT D B T) za zs 0 0 (zA B)) (XW D Λ I (hid (sN σ 26 1) nm0 f kd0)) 0 0 7 [some (.ref (Λ.1 0 38)), some (.int (nI i))] [] := by
    intro zn
    induction zn with
    | zero => intro i f h1 h2 hm; exact absurd hm (Nat.not_lt_zero _)
    | succ zn ih7 =>
      intro i f h1 h2 hm
      refine g_iload_n F dX0_image_7 rfl rfl (np := 8) rfl ?_
      refine g_aload_n F dX0_image_8 rfl rfl (np := 9) rfl ?_
      refine w_get F (k := 2) (v := .int (nI (σ.1 0))) (by decide) rfl (Or.inl q179) dX0_image_9 (np := 12) rfl ?_
      refine g_icmp_geN F (by omega) (by omega) dX0_image_12 (tp := 36) (by decide) (np := 15) rfl (fun c12 => ?_) (fun c12 => ?_)
      · refine g_iconst F (v := (nI 0)) dX0_image_36 (by decide) (np := 37) rfl ?_
        refine g_istore_n F (lv' := [some (.ref (Λ.1 0 38)), some (.int (nI 0))]) dX0_image_37 rfl (by decide) rfl rfl (np := 38) rfl ?_
        have L38 : ∀ (zn : Nat) (k : Nat) (g : Nat → Int32), (∀ j, g j = if j < k then σ.2.1 3 (60 + j) else kd0 j) → (k ≤ σ.1 2) → σ.1 2 - k < zn → WG zp l ze ({ frames := 0, cells := 0, slots := 0, locals := 0 } : Room) zs zm za zb zt zc D B 2 (MQ zb (QT D B T) za zs 0 0 (zA B)) (XW D Λ I (hid (sN σ 26 1) nm0 f g)) 0 0 38 [some (.ref (Λ.1 0 38)), some (.int (nI k))] [] := by
          intro zn
          induction zn with
          | zero => intro k g g1 g2 hm; exact absurd hm (Nat.not_lt_zero _)
          | succ zn ih38 =>
            intro k g g1 g2 hm
            refine g_iload_n F dX0_image_38 rfl rfl (np := 39) rfl ?_
            refine g_aload_n F dX0_image_39 rfl rfl (np := 40) rfl ?_
            refine w_get F (k := 3) (v := .int (nI (σ.1 2))) (by decide) rfl (Or.inl q180) dX0_image_40 (np := 43) rfl ?_
            refine g_icmp_geN F (by omega) (by omega) dX0_image_43 (tp := 67) (by decide) (np := 46) rfl (fun c43 => ?_) (fun c43 => ?_)
            · refine g_aload_n F dX0_image_67 rfl rfl (np := 68) rfl ?_
              refine g_aload_n F dX0_image_68 rfl rfl (np := 69) rfl ?_
              refine w_get F (k := 2) (v := .int (nI (σ.1 0))) (by decide) rfl (Or.inl q179) dX0_image_69 (np := 72) rfl ?_
              refine w_put F (k := 25) (ty := .int) (by decide) (PutOK.of (σ' := sN (hid (sN σ 26 1) nm0 f g) 27 (σ.1 0)) rfl rfl rfl (fun _ _ => rfl) rfl) rfl rfl rfl rfl (Or.inl q204) dX0_image_72 (np := 75) rfl ?_
              refine g_aload_n F dX0_image_75 rfl rfl (np := 76) rfl ?_
              refine g_aload_n F dX0_image_76 rfl rfl (np := 77) rfl ?_
              refine w_get F (k := 3) (v := .int (nI (σ.1 2))) (by decide) rfl (Or.inl q180) dX0_image_77 (np := 80) rfl ?_
              refine w_put F (k := 26) (ty := .int) (by decide) (PutOK.of (σ' := sN (hid (sN (sN σ 26 1) 27 (σ.1 0)) nm0 f g) 28 (σ.1 2)) rfl rfl rfl (fun _ _ => rfl) rfl) rfl rfl rfl rfl (Or.inl q205) dX0_image_80 (np := 83) rfl ?_
              refine g_aload_n F dX0_image_83 rfl rfl (np := 84) rfl ?_
              refine g_aload_n F dX0_image_84 rfl rfl (np := 85) rfl ?_
              refine w_get F (k := 4) (v := .int (nI (σ.1 6))) (by decide) rfl (Or.inl q181) dX0_image_85 (np := 88) rfl ?_
              refine w_put F (k := 27) (ty := .int) (by decide) (PutOK.of (σ' := sA (hid (sN (sN (sN σ 26 1) 27 (σ.1 0)) 28 (σ.1 2)) nm0 f g) 29 22 (nI (σ.1 6))) rfl rfl rfl (fun j hj => up2_n _ _ _ (by rintro rfl; cases hj)) rfl) rfl rfl rfl rfl (Or.inl q206) dX0_image_88 (np := 91) rfl ?_
              refine WG.weak (S' := XW D Λ I (hid (sA (sN (sN (sN σ 26 1) 27 (σ.1 0)) 28 (σ.1 2)) 29 22 (nI (σ.1 6))) nm0 f g)) (fun h hs => by rw [← hid_sA _ _ _ _ _ _ (by decide) (by decide) (by decide)]; exact hs) ?_
              refine g_aload_n F dX0_image_91 rfl rfl (np := 92) rfl ?_
              refine g_aload_n F dX0_image_92 rfl rfl (np := 93) rfl ?_
              refine w_get F (k := 5) (v := .int (σ.2.1 25 0)) (by decide) rfl (Or.inl q182) dX0_image_93 (np := 96) rfl ?_
              refine w_put F (k := 28) (ty := .int) (by decide) (PutOK.of (σ' := sA (hid (sA (sN (sN (sN σ 26 1) 27 (σ.1 0)) 28 (σ.1 2)) 29 22 (nI (σ.1 6))) nm0 f g) 30 0 (σ.2.1 25 0)) rfl rfl rfl (fun j hj => up2_n _ _ _ (by rintro rfl; cases hj)) rfl) rfl rfl rfl rfl (Or.inl q207) dX0_image_96 (np := 99) rfl ?_
              refine WG.weak (S' := XW D Λ I (hid (sA (sA (sN (sN (sN σ 26 1) 27 (σ.1 0)) 28 (σ.1 2)) 29 22 (nI (σ.1 6))) 30 0 (σ.2.1 25 0)) nm0 f g)) (fun h hs => by rw [← hid_sA _ _ _ _ _ _ (by decide) (by decide) (by decide)]; exact hs) ?_
              refine g_aload_n F dX0_image_99 rfl rfl (np := 100) rfl ?_
              refine g_aload_n F dX0_image_100 rfl rfl (np := 101) rfl ?_
              refine w_get F (k := 18) (v := .int (σ.2.1 25 1)) (by decide) rfl (Or.inl q197) dX0_image_101 (np := 104) rfl ?_
              refine w_put F (k := 29) (ty := .int) (by decide) (PutOK.of (σ' := sA (hid (sA (sA (sN (sN (sN σ 26 1) 27 (σ.1 0)) 28 (σ.1 2)) 29 22 (nI (σ.1 6))) 30 0 (σ.2.1 25 0)) nm0 f g) 30 1 (σ.2.1 25 1)) rfl rfl rfl (fun j hj => up2_n _ _ _ (by rintro rfl; cases hj)) rfl) rfl rfl rfl rfl (Or.inl q208) dX0_image_104 (np := 107) rfl ?_
              refine WG.weak (S' := XW D Λ I (hid (sA (sA (sA (sN (sN (sN σ 26 1) 27 (σ.1 0)) 28 (σ.1 2)) 29 22 (nI (σ.1 6))) 30 0 (σ.2.1 25 0)) 30 1 (σ.2.1 25 1)) nm0 f g)) (fun h hs => by rw [← hid_sA _ _ _ _ _ _ (by decide) (by decide) (by decide)]; exact hs) ?_
              refine g_aload_n F dX0_image_107 rfl rfl (np := 108) rfl ?_
              refine g_aload_n F dX0_image_108 rfl rfl (np := 109) rfl ?_
              refine w_get F (k := 19) (v := .int (σ.2.1 25 2)) (by decide) rfl (Or.inl q198) dX0_image_109 (np := 112) rfl ?_
              refine w_put F (k := 30) (ty := .int) (by decide) (PutOK.of (σ' := sA (hid (sA (sA (sA (sN (sN (sN σ 26 1) 27 (σ.1 0)) 28 (σ.1 2)) 29 22 (nI (σ.1 6))) 30 0 (σ.2.1 25 0)) 30 1 (σ.2.1 25 1)) nm0 f g) 30 2 (σ.2.1 25 2)) rfl rfl rfl (fun j hj => up2_n _ _ _ (by rintro rfl; cases hj)) rfl) rfl rfl rfl rfl (Or.inl q209) dX0_image_112 (np := 115) rfl ?_
              refine WG.weak (S' := XW D Λ I (hid (sA (sA (sA (sA (sN (sN (sN σ 26 1) 27 (σ.1 0)) 28 (σ.1 2)) 29 22 (nI (σ.1 6))) 30 0 (σ.2.1 25 0)) 30 1 (σ.2.1 25 1)) 30 2 (σ.2.1 25 2)) nm0 f g)) (fun h hs => by rw [← hid_sA _ _ _ _ _ _ (by decide) (by decide) (by decide)]; exact hs) ?_
              refine g_aload_n F dX0_image_115 rfl rfl (np := 116) rfl ?_
              refine g_aload_n F dX0_image_116 rfl rfl (np := 117) rfl ?_
              refine w_get F (k := 20) (v := .int (σ.2.1 25 3)) (by decide) rfl (Or.inl q199) dX0_image_117 (np := 120) rfl ?_
              refine w_put F (k := 31) (ty := .int) (by decide) (PutOK.of (σ' := sA (hid (sA (sA (sA (sA (sN (sN (sN σ 26 1) 27 (σ.1 0)) 28 (σ.1 2)) 29 22 (nI (σ.1 6))) 30 0 (σ.2.1 25 0)) 30 1 (σ.2.1 25 1)) 30 2 (σ.2.1 25 2)) nm0 f g) 30 3 (σ.2.1 25 3)) rfl rfl rfl (fun j hj => up2_n _ _ _ (by rintro rfl; cases hj)) rfl) rfl rfl rfl rfl (Or.inl q210) dX0_image_120 (np := 123) rfl ?_
              refine WG.weak (S' := XW D Λ I (hid (sA (sA (sA (sA (sA (sN (sN (sN σ 26 1) 27 (σ.1 0)) 28 (σ.1 2)) 29 22 (nI (σ.1 6))) 30 0 (σ.2.1 25 0)) 30 1 (σ.2.1 25 1)) 30 2 (σ.2.1 25 2)) 30 3 (σ.2.1 25 3)) nm0 f g)) (fun h hs => by rw [← hid_sA _ _ _ _ _ _ (by decide) (by decide) (by decide)]; exact hs) ?_
              refine g_aload_n F dX0_image_123 rfl rfl (np := 124) rfl ?_
              refine g_aload_n F dX0_image_124 rfl rfl (np := 125) rfl ?_
              refine w_get F (k := 21) (v := .int (σ.2.1 25 4)) (by decide) rfl (Or.inl q200) dX0_image_125 (np := 128) rfl ?_
              refine w_put F (k := 32) (ty := .int) (by decide) (PutOK.of (σ' := sA (hid (sA (sA (sA (sA (sA (sN (sN (sN σ 26 1) 27 (σ.1 0)) 28 (σ.1 2)) 29 22 (nI (σ.1 6))) 30 0 (σ.2.1 25 0)) 30 1 (σ.2.1 25 1)) 30 2 (σ.2.1 25 2)) 30 3 (σ.2.1 25 3)) nm0 f g) 30 4 (σ.2.1 25 4)) rfl rfl rfl (fun j hj => up2_n _ _ _ (by rintro rfl; cases hj)) rfl) rfl rfl rfl rfl (Or.inl q211) dX0_image_128 (np := 131) rfl ?_
              refine WG.weak (S' := XW D Λ I (hid (sA (sA (sA (sA (sA (sA (sN (sN (sN σ 26 1) 27 (σ.1 0)) 28 (σ.1 2)) 29 22 (nI (σ.1 6))) 30 0 (σ.2.1 25 0)) 30 1 (σ.2.1 25 1)) 30 2 (σ.2.1 25 2)) 30 3 (σ.2.1 25 3)) 30 4 (σ.2.1 25 4)) nm0 f g)) (fun h hs => by rw [← hid_sA _ _ _ _ _ _ (by decide) (by decide) (by decide)]; exact hs) ?_
              refine WG.weak (S' := XH D Λ I L (imgS σ)) (fun h hs => img_close (τ := (sA (sA (sA (sA (sA (sA (sN (sN (sN σ 26 1) 27 (σ.1 0)) 28 (σ.1 2)) 29 22 (nI (σ.1 6))) 30 0 (σ.2.1 25 0)) 30 1 (σ.2.1 25 1)) 30 2 (σ.2.1 25 2)) 30 3 (σ.2.1 25 3)) 30 4 (σ.2.1 25 4))) hno hm14 hXR (fun j hj => by rw [h1, if_pos (by omega)]) (fun j hj => by rw [g1, if_pos (by omega)]) (by funext j; unfold imgS sN va_up; rfl) (fun j a b => by funext i; simp only [sA_2, sN_2]; simp [a, b]) (by simp [sA_2]) (fun j hj => by rcases (show j = 0 ∨ j = 1 ∨ j = 2 ∨ j = 3 ∨ j = 4 by omega) with rfl | rfl | rfl | rfl | rfl <;> simp [sA_2] <;> rfl) rfl hs) ?_
              refine g_aload_n F dX0_image_131 rfl rfl (np := 132) rfl ?_
              refine x_get F (k := 21) (v := .int ((imgS σ).2.1 25 4)) (by decide) rfl (Or.inl q200) dX0_image_132 (np := 135) rfl ?_
              have hv : (imgS σ).2.1 25 4 = σ.2.1 25 4 := by rfl
              exact g_iret F hr rfl (Nat.le_of_ble_eq_true rfl) (Nat.le_of_ble_eq_true rfl) dX0_image_135 (fun h hs => by rw [← hT]; exact ⟨congrArg (fun z => some (Value.int z)) hv, hs⟩)
            · refine g_aload_n F dX0_image_46 rfl rfl (np := 47) rfl ?_
              refine w_get F (k := 24) (v := .ref (Λ.1 0 24)) (by decide) rfl (Or.inl q203) dX0_image_47 (np := 50) rfl ?_
              refine g_iload_n F dX0_image_50 rfl rfl (np := 51) rfl ?_
              refine g_aload_n F dX0_image_51 rfl rfl (np := 52) rfl ?_
              refine w_get F (k := 1) (v := .ref (Λ.1 0 1)) (by decide) rfl (Or.inl q178) dX0_image_52 (np := 55) rfl ?_
              refine g_iload_n F dX0_image_55 rfl rfl (np := 56) rfl ?_
              refine w_aldP F (i := k) rfl hXR.2.1 (show k < σ.1 2 by omega) (show σ.1 2 ≤ 14 by omega) dX0_image_56 (np := 57) rfl ?_
              refine w_getP F (k := 6) (i := k) (v := .int (σ.2.1 3 (60 + k))) (by decide) (show k < σ.1 2 by omega) rfl (Or.inr ⟨_, ze345⟩) dX0_image_57 (np := 60) rfl ?_
              refine w_iast F (J := 24) (a := 54) (i := k) (n := 14) (Or.inr (Or.inr (Or.inl ⟨rfl, rfl⟩))) (fun _ => rfl) (by decide) (by omega) rfl dX0_image_60 (np := 61) rfl ?_
              refine WG.weak (S' := XW D Λ I (hid (sN σ 26 1) nm0 f (va_up g k (σ.2.1 3 (60 + k))))) (fun h hs => by rw [← hid_s54]; exact hs) ?_
              refine g_iinc F (v := (nI (k + 1))) (lv' := [some (.ref (Λ.1 0 38)), some (.int (nI (k + 1)))]) dX0_image_61 rfl (nI_add _ _) (by decide) rfl rfl (np := 64) rfl ?_
              refine g_goto F dX0_image_64 (np := 38) (by decide) ?_
              exact ih38 (k + 1) ((va_up g k (σ.2.1 3 (60 + k)))) (by exact cp_step (P := fun j => σ.2.1 3 (60 + j)) g1 rfl) (by omega) (by omega)
        exact L38 _ 0 kd0 (by intro j; rw [if_neg (Nat.not_lt_zero j)]) (by omega) (Nat.lt_succ_self _)
      · refine g_aload_n F dX0_image_15 rfl rfl (np := 16) rfl ?_
        refine w_get F (k := 23) (v := .ref (Λ.1 0 23)) (by decide) rfl (Or.inl q202) dX0_image_16 (np := 19) rfl ?_
        refine g_iload_n F dX0_image_19 rfl rfl (np := 20) rfl ?_
        refine g_aload_n F dX0_image_20 rfl rfl (np := 21) rfl ?_
        refine w_get F (k := 0) (v := .ref (Λ.1 0 0)) (by decide) rfl (Or.inl q177) dX0_image_21 (np := 24) rfl ?_
        refine g_iload_n F dX0_image_24 rfl rfl (np := 25) rfl ?_
        refine w_aldO F (i := i) rfl hXR.1 (show i < σ.1 0 by omega) (show σ.1 0 ≤ 8 by omega) dX0_image_25 (np := 26) rfl ?_
        refine w_getO F (i := i) (v := σ.2.1 1 i) (show i < σ.1 0 by omega) rfl (Or.inr ⟨_, ze307⟩) dX0_image_26 (np := 29) rfl ?_
        refine w_iast F (J := 23) (a := 53) (i := i) (n := 8) (Or.inr (Or.inl ⟨rfl, rfl⟩)) (fun _ => rfl) (by decide) (by omega) rfl dX0_image_29 (np := 30) rfl ?_
        refine WG.weak (S' := XW D Λ I (hid (sN σ 26 1) nm0 (va_up f i (σ.2.1 1 i)) kd0)) (fun h hs => by rw [← hid_s53]; exact hs) ?_
        refine g_iinc F (v := (nI (i + 1))) (lv' := [some (.ref (Λ.1 0 38)), some (.int (nI (i + 1)))]) dX0_image_30 rfl (nI_add _ _) (by decide) rfl rfl (np := 33) rfl ?_
        refine g_goto F dX0_image_33 (np := 7) (by decide) ?_
        exact ih7 (i + 1) ((va_up f i (σ.2.1 1 i))) (by exact cp_step (P := fun j => σ.2.1 1 j) h1 rfl) (by omega) (by omega)
  exact L7 _ 0 km0 (by intro j; rw [if_neg (Nat.not_lt_zero j)]) (by omega) (Nat.lt_succ_self _)

set_option maxRecDepth 100000 in
theorem ct_X0_setTo {l : Launch} {D : va_G} {B : Nat} {Λ : LT} {I : AH} {L : LawT} (σ : MSt)  (w : Nat) (n : Nat) (x : Int32) (hno : σ.1 0 ≤ 8) (hm14 : σ.1 2 ≤ 14) (hw : w ≤ 6) (hw0 : w = 0 → n < σ.1 0) (hw1 : 1 ≤ w → w ≤ 5 → n < σ.1 2) (hw6 : w = 6 → x = nI x.toNatClampNeg) : Ct l D ZE B yX0_setTo cX0_setTo 4 none 0 0 0 0 [.ref (Λ.1 0 38), .int (nI w), .int (nI n), .int x] (XH D Λ I L σ) (RV (XH D Λ I L (sSet σ n w x))) := by
  refine Ct.of (nL := 4) (lv := [some (.ref (Λ.1 0 38)), some (.int (nI w)), some (.int (nI n)), some (.int x)]) (by decide) (Nat.le_of_ble_eq_true rfl) stZE 0 rfl ?_
  generalize hT : RV (XH D Λ I L (sSet σ n w x)) = T
  intro zp ze zs zm zb zt zc F hr hnm
  generalize ([.ref (Λ.1 0 38), .int (nI w), .int (nI n), .int x] : List Value).toArray = za at F ⊢
  refine g_iload_n F dX0_setTo_0 rfl rfl (np := 1) rfl ?_
  by_cases k1_0 : (nI (w)) = 0
  · refine g_tabIn F (x := (nI (w))) (v := 0) k1_0 (lo := 0) dX0_setTo_1 (j := 0) (by decide) (by decide) (by decide) rfl (np := 40) (by decide) ?_
    have e1_0 : w = 0 := (nI_eq (a := w) (b := 0) (by omega) (by decide)).mp (k1_0.trans (by decide))
    refine g_aload_n F dX0_setTo_40 rfl rfl (np := 41) rfl ?_
    refine x_get F (k := 0) (v := .ref (Λ.1 0 0)) (by decide) rfl (Or.inl q177) dX0_setTo_41 (np := 44) rfl ?_
    refine g_iload_n F dX0_setTo_44 rfl rfl (np := 45) rfl ?_
    refine x_aldO F (i := n) rfl (show n < σ.1 0 by exact hw0 e1_0) (show σ.1 0 ≤ 8 by omega) dX0_setTo_45 (np := 46) rfl ?_
    refine g_iload_n F dX0_setTo_46 rfl rfl (np := 47) rfl ?_
    refine x_putO F (i := n) (show n < σ.1 0 by exact hw0 e1_0) (Or.inr ⟨_, ze307⟩) dX0_setTo_47 (np := 50) rfl ?_
    refine g_goto F dX0_setTo_50 (np := 123) (by decide) ?_
    have hσ : (sA σ 1 n x) = (sSet σ n w x) := by unfold sSet; first | (rw [if_pos e1_0]; done) | (subst e1_1; rw [if_neg (by decide), if_neg (by decide), show 15 * (1 - 1) + n = n from Nat.zero_add n]; done) | (subst e1_2; rfl) | (subst e1_3; rfl) | (subst e1_4; rfl) | (subst e1_5; rfl) | (rw [if_neg n1_0, if_pos (show w = 6 by omega)])
    exact g_vret F hr (Nat.le_of_ble_eq_true rfl) (Nat.le_of_ble_eq_true rfl) dX0_setTo_123 (fun h hs => by rw [← hT]; exact ⟨rfl, (hσ ▸ hs)⟩)
  by_cases k1_1 : (nI (w)) = 1
  · refine g_tabIn F (x := (nI (w))) (v := 1) k1_1 (lo := 0) dX0_setTo_1 (j := 1) (by decide) (by decide) (by decide) rfl (np := 53) (by decide) ?_
    have e1_1 : w = 1 := (nI_eq (a := w) (b := 1) (by omega) (by decide)).mp (k1_1.trans (by decide))
    refine g_aload_n F dX0_setTo_53 rfl rfl (np := 54) rfl ?_
    refine x_get F (k := 1) (v := .ref (Λ.1 0 1)) (by decide) rfl (Or.inl q178) dX0_setTo_54 (np := 57) rfl ?_
    refine g_iload_n F dX0_setTo_57 rfl rfl (np := 58) rfl ?_
    refine x_aldP F (i := n) rfl (show n < σ.1 2 by exact hw1 (by omega) (by omega)) (show σ.1 2 ≤ 14 by omega) dX0_setTo_58 (np := 59) rfl ?_
    refine g_iload_n F dX0_setTo_59 rfl rfl (np := 60) rfl ?_
    refine x_putP F (j := 2) (q := n) (by decide) (by decide) (show σ.1 2 ≤ 15 by omega) (show n < σ.1 2 by exact hw1 (by omega) (by omega)) (Or.inr ⟨_, ze337⟩) rfl rfl dX0_setTo_60 (np := 63) rfl ?_
    refine WG.weak (S' := XH D Λ I L (sA σ 3 n x)) (fun h hs => by rw [show 15 * (2 - 2) + n = n from Nat.zero_add _] at hs; exact hs) ?_
    refine g_goto F dX0_setTo_63 (np := 123) (by decide) ?_
    have hσ : (sA σ 3 n x) = (sSet σ n w x) := by unfold sSet; first | (rw [if_pos e1_0]; done) | (subst e1_1; rw [if_neg (by decide), if_neg (by decide), show 15 * (1 - 1) + n = n from Nat.zero_add n]; done) | (subst e1_2; rfl) | (subst e1_3; rfl) | (subst e1_4; rfl) | (subst e1_5; rfl) | (rw [if_neg n1_0, if_pos (show w = 6 by omega)])
    exact g_vret F hr (Nat.le_of_ble_eq_true rfl) (Nat.le_of_ble_eq_true rfl) dX0_setTo_123 (fun h hs => by rw [← hT]; exact ⟨rfl, (hσ ▸ hs)⟩)
  by_cases k1_2 : (nI (w)) = 2
  · refine g_tabIn F (x := (nI (w))) (v := 2) k1_2 (lo := 0) dX0_setTo_1 (j := 2) (by decide) (by decide) (by decide) rfl (np := 66) (by decide) ?_
    have e1_2 : w = 2 := (nI_eq (a := w) (b := 2) (by omega) (by decide)).mp (k1_2.trans (by decide))
    refine g_aload_n F dX0_setTo_66 rfl rfl (np := 67) rfl ?_
    refine x_get F (k := 1) (v := .ref (Λ.1 0 1)) (by decide) rfl (Or.inl q178) dX0_setTo_67 (np := 70) rfl ?_
    refine g_iload_n F dX0_setTo_70 rfl rfl (np := 71) rfl ?_
    refine x_aldP F (i := n) rfl (show n < σ.1 2 by exact hw1 (by omega) (by omega)) (show σ.1 2 ≤ 14 by omega) dX0_setTo_71 (np := 72) rfl ?_
    refine g_iload_n F dX0_setTo_72 rfl rfl (np := 73) rfl ?_
    refine x_putP F (j := 3) (q := n) (by decide) (by decide) (show σ.1 2 ≤ 15 by omega) (show n < σ.1 2 by exact hw1 (by omega) (by omega)) (Or.inr ⟨_, ze339⟩) rfl rfl dX0_setTo_73 (np := 76) rfl ?_
    refine g_goto F dX0_setTo_76 (np := 123) (by decide) ?_
    have hσ : (sA σ 3 (15 + n) x) = (sSet σ n w x) := by unfold sSet; first | (rw [if_pos e1_0]; done) | (subst e1_1; rw [if_neg (by decide), if_neg (by decide), show 15 * (1 - 1) + n = n from Nat.zero_add n]; done) | (subst e1_2; rfl) | (subst e1_3; rfl) | (subst e1_4; rfl) | (subst e1_5; rfl) | (rw [if_neg n1_0, if_pos (show w = 6 by omega)])
    exact g_vret F hr (Nat.le_of_ble_eq_true rfl) (Nat.le_of_ble_eq_true rfl) dX0_setTo_123 (fun h hs => by rw [← hT]; exact ⟨rfl, (hσ ▸ hs)⟩)
  by_cases k1_3 : (nI (w)) = 3
  · refine g_tabIn F (x := (nI (w))) (v := 3) k1_3 (lo := 0) dX0_setTo_1 (j := 3) (by decide) (by decide) (by decide) rfl (np := 79) (by decide) ?_
    have e1_3 : w = 3 := (nI_eq (a := w) (b := 3) (by omega) (by decide)).mp (k1_3.trans (by decide))
    refine g_aload_n F dX0_setTo_79 rfl rfl (np := 80) rfl ?_
    refine x_get F (k := 1) (v := .ref (Λ.1 0 1)) (by decide) rfl (Or.inl q178) dX0_setTo_80 (np := 83) rfl ?_
    refine g_iload_n F dX0_setTo_83 rfl rfl (np := 84) rfl ?_
    refine x_aldP F (i := n) rfl (show n < σ.1 2 by exact hw1 (by omega) (by omega)) (show σ.1 2 ≤ 14 by omega) dX0_setTo_84 (np := 85) rfl ?_
    refine g_iload_n F dX0_setTo_85 rfl rfl (np := 86) rfl ?_
    refine x_putP F (j := 4) (q := n) (by decide) (by decide) (show σ.1 2 ≤ 15 by omega) (show n < σ.1 2 by exact hw1 (by omega) (by omega)) (Or.inr ⟨_, ze341⟩) rfl rfl dX0_setTo_86 (np := 89) rfl ?_
    refine g_goto F dX0_setTo_89 (np := 123) (by decide) ?_
    have hσ : (sA σ 3 (30 + n) x) = (sSet σ n w x) := by unfold sSet; first | (rw [if_pos e1_0]; done) | (subst e1_1; rw [if_neg (by decide), if_neg (by decide), show 15 * (1 - 1) + n = n from Nat.zero_add n]; done) | (subst e1_2; rfl) | (subst e1_3; rfl) | (subst e1_4; rfl) | (subst e1_5; rfl) | (rw [if_neg n1_0, if_pos (show w = 6 by omega)])
    exact g_vret F hr (Nat.le_of_ble_eq_true rfl) (Nat.le_of_ble_eq_true rfl) dX0_setTo_123 (fun h hs => by rw [← hT]; exact ⟨rfl, (hσ ▸ hs)⟩)
  by_cases k1_4 : (nI (w)) = 4
  · refine g_tabIn F (x := (nI (w))) (v := 4) k1_4 (lo := 0) dX0_setTo_1 (j := 4) (by decide) (by decide) (by decide) rfl (np := 92) (by decide) ?_
    have e1_4 : w = 4 := (nI_eq (a := w) (b := 4) (by omega) (by decide)).mp (k1_4.trans (by decide))
    refine g_aload_n F dX0_setTo_92 rfl rfl (np := 93) rfl ?_
    refine x_get F (k := 1) (v := .ref (Λ.1 0 1)) (by decide) rfl (Or.inl q178) dX0_setTo_93 (np := 96) rfl ?_
    refine g_iload_n F dX0_setTo_96 rfl rfl (np := 97) rfl ?_
    refine x_aldP F (i := n) rfl (show n < σ.1 2 by exact hw1 (by omega) (by omega)) (show σ.1 2 ≤ 14 by omega) dX0_setTo_97 (np := 98) rfl ?_
    refine g_iload_n F dX0_setTo_98 rfl rfl (np := 99) rfl ?_
    refine x_putP F (j := 5) (q := n) (by decide) (by decide) (show σ.1 2 ≤ 15 by omega) (show n < σ.1 2 by exact hw1 (by omega) (by omega)) (Or.inr ⟨_, ze343⟩) rfl rfl dX0_setTo_99 (np := 102) rfl ?_
    refine g_goto F dX0_setTo_102 (np := 123) (by decide) ?_
    have hσ : (sA σ 3 (45 + n) x) = (sSet σ n w x) := by unfold sSet; first | (rw [if_pos e1_0]; done) | (subst e1_1; rw [if_neg (by decide), if_neg (by decide), show 15 * (1 - 1) + n = n from Nat.zero_add n]; done) | (subst e1_2; rfl) | (subst e1_3; rfl) | (subst e1_4; rfl) | (subst e1_5; rfl) | (rw [if_neg n1_0, if_pos (show w = 6 by omega)])
    exact g_vret F hr (Nat.le_of_ble_eq_true rfl) (Nat.le_of_ble_eq_true rfl) dX0_setTo_123 (fun h hs => by rw [← hT]; exact ⟨rfl, (hσ ▸ hs)⟩)
  by_cases k1_5 : (nI (w)) = 5
  · refine g_tabIn F (x := (nI (w))) (v := 5) k1_5 (lo := 0) dX0_setTo_1 (j := 5) (by decide) (by decide) (by decide) rfl (np := 105) (by decide) ?_
    have e1_5 : w = 5 := (nI_eq (a := w) (b := 5) (by omega) (by decide)).mp (k1_5.trans (by decide))
    refine g_aload_n F dX0_setTo_105 rfl rfl (np := 106) rfl ?_
    refine x_get F (k := 1) (v := .ref (Λ.1 0 1)) (by decide) rfl (Or.inl q178) dX0_setTo_106 (np := 109) rfl ?_
    refine g_iload_n F dX0_setTo_109 rfl rfl (np := 110) rfl ?_
    refine x_aldP F (i := n) rfl (show n < σ.1 2 by exact hw1 (by omega) (by omega)) (show σ.1 2 ≤ 14 by omega) dX0_setTo_110 (np := 111) rfl ?_
    refine g_iload_n F dX0_setTo_111 rfl rfl (np := 112) rfl ?_
    refine x_putP F (j := 6) (q := n) (by decide) (by decide) (show σ.1 2 ≤ 15 by omega) (show n < σ.1 2 by exact hw1 (by omega) (by omega)) (Or.inr ⟨_, ze345⟩) rfl rfl dX0_setTo_112 (np := 115) rfl ?_
    refine g_goto F dX0_setTo_115 (np := 123) (by decide) ?_
    have hσ : (sA σ 3 (60 + n) x) = (sSet σ n w x) := by unfold sSet; first | (rw [if_pos e1_0]; done) | (subst e1_1; rw [if_neg (by decide), if_neg (by decide), show 15 * (1 - 1) + n = n from Nat.zero_add n]; done) | (subst e1_2; rfl) | (subst e1_3; rfl) | (subst e1_4; rfl) | (subst e1_5; rfl) | (rw [if_neg n1_0, if_pos (show w = 6 by omega)])
    exact g_vret F hr (Nat.le_of_ble_eq_true rfl) (Nat.le_of_ble_eq_true rfl) dX0_setTo_123 (fun h hs => by rw [← hT]; exact ⟨rfl, (hσ ▸ hs)⟩)
  have n1_0 : ¬ w = 0 := fun q => k1_0 (by rw [q]; decide)
  have n1_1 : ¬ w = 1 := fun q => k1_1 (by rw [q]; decide)
  have n1_2 : ¬ w = 2 := fun q => k1_2 (by rw [q]; decide)
  have n1_3 : ¬ w = 3 := fun q => k1_3 (by rw [q]; decide)
  have n1_4 : ¬ w = 4 := fun q => k1_4 (by rw [q]; decide)
  have n1_5 : ¬ w = 5 := fun q => k1_5 (by rw [q]; decide)
  refine g_tabOut F (x := (nI (w))) dX0_setTo_1 (by
    have e0 : ¬ ((nI (w))).toInt = 0 := fun q => k1_0 (Int32.toInt_inj.mp (q.trans (by decide)))
    have e1 : ¬ ((nI (w))).toInt = 1 := fun q => k1_1 (Int32.toInt_inj.mp (q.trans (by decide)))
    have e2 : ¬ ((nI (w))).toInt = 2 := fun q => k1_2 (Int32.toInt_inj.mp (q.trans (by decide)))
    have e3 : ¬ ((nI (w))).toInt = 3 := fun q => k1_3 (Int32.toInt_inj.mp (q.trans (by decide)))
    have e4 : ¬ ((nI (w))).toInt = 4 := fun q => k1_4 (Int32.toInt_inj.mp (q.trans (by decide)))
    have e5 : ¬ ((nI (w))).toInt = 5 := fun q => k1_5 (Int32.toInt_inj.mp (q.trans (by decide)))
    omega) (np := 118) (by decide) ?_
  refine g_aload_n F dX0_setTo_118 rfl rfl (np := 119) rfl ?_
  refine g_iload_n F dX0_setTo_119 rfl rfl (np := 120) rfl ?_
  refine WG.eqv (st' := [.int (nI (x.toNatClampNeg)), .ref (Λ.1 0 38)]) (congrArg (fun z => ([.int z, .ref (Λ.1 0 38)] : List Value)) (show x = (nI (x.toNatClampNeg)) from by exact hw6 (by omega))) rfl ?_
  refine x_put F (k := 4) (ty := .int) (by decide) (PutXH.ofN (n := 6) (x := x.toNatClampNeg) (fun _ _ _ => rfl) rfl) rfl rfl rfl rfl (Or.inl q181) dX0_setTo_120 (np := 123) rfl ?_
  have hσ : (sN σ 6 x.toNatClampNeg) = (sSet σ n w x) := by unfold sSet; first | (rw [if_pos e1_0]; done) | (subst e1_1; rw [if_neg (by decide), if_neg (by decide), show 15 * (1 - 1) + n = n from Nat.zero_add n]; done) | (subst e1_2; rfl) | (subst e1_3; rfl) | (subst e1_4; rfl) | (subst e1_5; rfl) | (rw [if_neg n1_0, if_pos (show w = 6 by omega)])
  exact g_vret F hr (Nat.le_of_ble_eq_true rfl) (Nat.le_of_ble_eq_true rfl) dX0_setTo_123 (fun h hs => by rw [← hT]; exact ⟨rfl, (hσ ▸ hs)⟩)

set_option maxRecDepth 100000 in
theorem ct_X0_undo {l : Launch} {D : va_G} {B : Nat} {Λ : LT} {I : AH} {L : LawT} (σ : MSt)   (hno : σ.1 0 ≤ 8) (hm14 : σ.1 2 ≤ 14) (hch : chOK σ) : Ct l D ZE B yX0_undo cX0_undo 1 (some .int) 1 23 0 0 [.ref (Λ.1 0 38)] (XH D Λ I L σ) (RI (rUndo σ) (XH D Λ I L (gUndo σ))) := by
  refine Ct.of (nL := 1) (lv := [some (.ref (Λ.1 0 38))]) (by decide) (Nat.le_of_ble_eq_true rfl) stZE 0 rfl ?_
  generalize hT : RI (rUndo σ) (XH D Λ I L (gUndo σ)) = T
  intro zp ze zs zm zb zt zc F hr hnm
  generalize ([.ref (Λ.1 0 38)] : List Value).toArray = za at F ⊢
  obtain ⟨ch1, ch2, ch3⟩ := hch
  refine g_aload_n F dX0_undo_0 rfl rfl (np := 1) rfl ?_
  refine x_get F (k := 7) (v := .int (nI (σ.1 32))) (by decide) rfl (Or.inl q184) dX0_undo_1 (np := 4) rfl ?_
  refine g_if_neN F (by omega) dX0_undo_4 (tp := 10) (by decide) (np := 7) rfl (fun c4 => ?_) (fun c4 => ?_)
  · refine WG.ex (fun nm0 => ?_)
    refine WG.ex (fun km0 => ?_)
    refine WG.ex (fun kd0 => ?_)
    refine WG.pr (fun hXR => ?_)
    refine g_aload_n F dX0_undo_10 rfl rfl (np := 11) rfl ?_
    refine g_dup F dX0_undo_11 rfl (np := 12) rfl ?_
    refine w_get F (k := 7) (v := .int (nI (σ.1 32))) (by decide) rfl (Or.inl q184) dX0_undo_12 (np := 15) rfl ?_
    refine g_iconst F (v := (nI 1)) dX0_undo_15 (by decide) (np := 16) rfl ?_
    refine g_isubN F (by omega) dX0_undo_16 (np := 17) rfl ?_
    refine w_put F (k := 7) (ty := .int) (by decide) put7 rfl rfl rfl rfl (Or.inl q184) dX0_undo_17 (np := 20) rfl ?_
    refine g_aload_n F dX0_undo_20 rfl rfl (np := 21) rfl ?_
    refine g_dup F dX0_undo_21 rfl (np := 22) rfl ?_
    refine w_get F (k := 8) (v := .int (nI (σ.1 31 - σ.1 32))) (by decide) (show some (Value.int (nI (σ.1 31 - σ.1 32 + (σ.1 32 - 1) - (σ.1 32 - 1)))) = _ by rw [Nat.add_sub_cancel]) (Or.inl q185) dX0_undo_22 (np := 25) rfl ?_
    refine g_iconst F (v := (nI 1)) dX0_undo_25 (by decide) (np := 26) rfl ?_
    refine g_iaddN F dX0_undo_26 (np := 27) rfl ?_
    refine w_put F (k := 8) (ty := .int) (by decide) put8 rfl rfl rfl rfl (Or.inl q185) dX0_undo_27 (np := 30) rfl ?_
    refine WG.weak (S' := XW D Λ I (hid (sN σ 32 (σ.1 32 - 1)) nm0 km0 kd0)) (fun h hs => by rw [show (hid (sN σ 32 (σ.1 32 - 1)) nm0 km0 kd0) = (hid (sN (sN (sN σ 32 (σ.1 32 - 1)) 31 (σ.1 31 - σ.1 32 + (σ.1 32 - 1))) 31 (σ.1 32 - 1 + (σ.1 31 - σ.1 32 + 1))) nm0 km0 kd0) from by rw [sN_sN, show σ.1 32 - 1 + (σ.1 31 - σ.1 32 + 1) = (sN σ 32 (σ.1 32 - 1)).1 31 from by show _ = σ.1 31; omega, sN_same]]; exact hs) ?_
    refine WG.weak (S' := XH D Λ I L (sN σ 32 (σ.1 32 - 1))) (fun h hs => undo_close hXR (fun j hj => va_up_ne _ _ hj) rfl hs) ?_
    refine WG.obt (fun h hs => XH.chg hs (e := (σ.1 32 - 1)) (show (σ.1 32 - 1) < σ.1 31 by omega)) (fun hcx => ?_)
    obtain ⟨ca, hca, hcI⟩ := hcx
    obtain ⟨nn, ww, e1, e2, e3, e4, e5⟩ := ch3 (σ.1 32 - 1) (by omega)
    have hsl := e3
    refine g_aload_n F dX0_undo_30 rfl rfl (np := 31) rfl ?_
    refine g_aload_n F dX0_undo_31 rfl rfl (np := 32) rfl ?_
    refine x_get F (k := 6) (v := .ref (Λ.1 0 6)) (by decide) rfl (Or.inl q183) dX0_undo_32 (np := 35) rfl ?_
    refine g_aload_n F dX0_undo_35 rfl rfl (np := 36) rfl ?_
    refine x_get F (k := 7) (v := .int (nI (σ.1 32 - 1))) (by decide) rfl (Or.inl q184) dX0_undo_36 (np := 39) rfl ?_
    refine x_ald F (k := 6) (i := (σ.1 32 - 1)) (n := 40) (t0 := 7) rfl (fun _ _ _ => rfl) (by decide) (by decide) (by omega) rfl (v := some ca) (fun _ _ _ _ => hca) dX0_undo_39 (np := 40) rfl ?_
    refine g_getL F in_X5 (ci := 5) rfl 0 (by decide) rfl (Or.inr ⟨_, ze542⟩) (v := .int (σ.2.1 33 (4 * (σ.1 32 - 1) + 1))) (fun h hs => ⟨_, XH.kn hs hcI, rfl⟩) dX0_undo_40 (np := 43) rfl ?_
    refine g_aload_n F dX0_undo_43 rfl rfl (np := 44) rfl ?_
    refine x_get F (k := 6) (v := .ref (Λ.1 0 6)) (by decide) rfl (Or.inl q183) dX0_undo_44 (np := 47) rfl ?_
    refine g_aload_n F dX0_undo_47 rfl rfl (np := 48) rfl ?_
    refine x_get F (k := 7) (v := .int (nI (σ.1 32 - 1))) (by decide) rfl (Or.inl q184) dX0_undo_48 (np := 51) rfl ?_
    refine x_ald F (k := 6) (i := (σ.1 32 - 1)) (n := 40) (t0 := 7) rfl (fun _ _ _ => rfl) (by decide) (by decide) (by omega) rfl (v := some ca) (fun _ _ _ _ => hca) dX0_undo_51 (np := 52) rfl ?_
    refine g_getL F in_X5 (ci := 5) rfl 1 (by decide) rfl (Or.inr ⟨_, ze544⟩) (v := .int (σ.2.1 33 (4 * (σ.1 32 - 1)))) (fun h hs => ⟨_, XH.kn hs hcI, rfl⟩) dX0_undo_52 (np := 55) rfl ?_
    refine g_aload_n F dX0_undo_55 rfl rfl (np := 56) rfl ?_
    refine x_get F (k := 6) (v := .ref (Λ.1 0 6)) (by decide) rfl (Or.inl q183) dX0_undo_56 (np := 59) rfl ?_
    refine g_aload_n F dX0_undo_59 rfl rfl (np := 60) rfl ?_
    refine x_get F (k := 7) (v := .int (nI (σ.1 32 - 1))) (by decide) rfl (Or.inl q184) dX0_undo_60 (np := 63) rfl ?_
    refine x_ald F (k := 6) (i := (σ.1 32 - 1)) (n := 40) (t0 := 7) rfl (fun _ _ _ => rfl) (by decide) (by decide) (by omega) rfl (v := some ca) (fun _ _ _ _ => hca) dX0_undo_63 (np := 64) rfl ?_
    refine g_getL F in_X5 (ci := 5) rfl 2 (by decide) rfl (Or.inr ⟨_, ze546⟩) (v := .int (σ.2.1 33 (4 * (σ.1 32 - 1) + 2))) (fun h hs => ⟨_, XH.kn hs hcI, rfl⟩) dX0_undo_64 (np := 67) rfl ?_
    refine WG.eqv (st' := [.int (σ.2.1 33 (4 * (σ.1 32 - 1) + 2)), .int (σ.2.1 33 (4 * (σ.1 32 - 1))), .int (nI ww), .ref (Λ.1 0 38)]) (congrArg (fun z => ([.int (σ.2.1 33 (4 * (σ.1 32 - 1) + 2)), .int (σ.2.1 33 (4 * (σ.1 32 - 1))), .int z, .ref (Λ.1 0 38)] : List Value)) (show (σ.2.1 33 (4 * (σ.1 32 - 1) + 1)) = (nI ww) from by exact e2)) rfl ?_
    refine WG.eqv (st' := [.int (σ.2.1 33 (4 * (σ.1 32 - 1) + 2)), .int (nI nn), .int (nI ww), .ref (Λ.1 0 38)]) (congrArg (fun z => ([.int (σ.2.1 33 (4 * (σ.1 32 - 1) + 2)), .int z, .int (nI ww), .ref (Λ.1 0 38)] : List Value)) (show (σ.2.1 33 (4 * (σ.1 32 - 1))) = (nI nn) from by exact e1)) rfl ?_
    refine g_runV F (C := RX0) (ci := 0) (T0 := TX0) (N := 38) (rest := []) (ct_X0_setTo (sN σ 32 (σ.1 32 - 1)) ww nn (σ.2.1 33 (4 * (σ.1 32 - 1) + 2)) (by exact hno) (by exact hm14) (by rcases hsl with z | z | z <;> omega) (by intro q; show nn < σ.1 0; rcases hsl with z | z | z <;> omega) (by intro q1 q2; show nn < σ.1 2; rcases hsl with z | z | z <;> omega) (by intro hw; subst hw; exact (valOK_6 e4).1)) (lw_V q505 q507 qs5 q100 q508) hcV_X0_setTo ⟨Nat.le_of_ble_eq_true rfl, Nat.le_of_ble_eq_true rfl⟩ rfl (fun h hs => hs.obj) rfl rfl (Nat.le_of_ble_eq_true rfl) dX0_undo_67 ⟨Nat.le_of_ble_eq_true rfl, Nat.le_of_ble_eq_true rfl⟩ (np := 70) rfl (k_RV ?_)
    refine g_aload_n F dX0_undo_70 rfl rfl (np := 71) rfl ?_
    refine x_get F (k := 7) (v := .int (nI ((sSet (sN σ 32 (σ.1 32 - 1)) nn ww (σ.2.1 33 (4 * (σ.1 32 - 1) + 2))).1 32))) (by decide) rfl (Or.inl q184) dX0_undo_71 (np := 74) rfl ?_
    have hσ : (sSet (sN σ 32 (σ.1 32 - 1)) nn ww (σ.2.1 33 (4 * (σ.1 32 - 1) + 2))) = (gUndo σ) := by unfold gUndo; rw [if_neg c4]; unfold chE; simp only; rw [e1, e2, nI_clamp (by rcases hsl with z | z | z <;> omega), nI_clamp (by rcases hsl with z | z | z <;> omega)]
    have hv : nI ((sSet (sN σ 32 (σ.1 32 - 1)) nn ww (σ.2.1 33 (4 * (σ.1 32 - 1) + 2))).1 32) = rUndo σ := by unfold rUndo; rw [if_neg c4, sSet_n _ _ _ _ (by decide)]; rfl
    exact g_iret F hr rfl (Nat.le_of_ble_eq_true rfl) (Nat.le_of_ble_eq_true rfl) dX0_undo_74 (fun h hs => by rw [← hT]; exact ⟨congrArg (fun z => some (Value.int z)) hv, (hσ ▸ hs)⟩)
  · refine g_bipush F (v := (-5)) dX0_undo_7 (by decide) (np := 9) rfl ?_
    have hσ : σ = (gUndo σ) := by unfold gUndo; rw [if_pos c4]
    have hv : -5 = rUndo σ := by unfold rUndo; rw [if_pos c4]
    exact g_iret F hr rfl (Nat.le_of_ble_eq_true rfl) (Nat.le_of_ble_eq_true rfl) dX0_undo_9 (fun h hs => by rw [← hT]; exact ⟨congrArg (fun z => some (Value.int z)) hv, (hσ ▸ hs)⟩)
