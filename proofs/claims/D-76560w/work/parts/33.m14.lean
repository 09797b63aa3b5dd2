/-! WALKS (printed by walk.py): drawn -/
set_option maxRecDepth 100000
set_option maxRecDepth 100000 in
theorem ct_X2_drawn {l : Launch} {D : va_G} {E : State → Prop} {B : Nat} (hE : Stab E) {ad : Nat → Nat} {h0 : AH} (σ : MSt) (L : LawT) (sd : Int32) (q : Int32) (o : Int32) (hok : mOK σ L) (hm14 : σ.1 2 ≤ 14) : Ct l D E B yX2_drawn cX2_drawn 10 (some .int) 7 159 0 0 [.ref (ad 0), .int sd, .int q, .int o] (MH D ad h0 σ) (RI (rDrawn L σ sd q o) (MH D ad h0 (gDrawn σ q o))) := by
  refine Ct.of (nL := 10) (lv := [some (.ref (ad 0)), some (.int sd), some (.int q), some (.int o), none, none, none, none, none, none]) (by decide) (Nat.le_of_ble_eq_true rfl) hE 6 rfl ?_
  generalize hT : RI (rDrawn L σ sd q o) (MH D ad h0 (gDrawn σ q o)) = T
  intro zp ze zs zm zb zt zc F hr hnm
  generalize ([.ref (ad 0), .int sd, .int q, .int o] : List Value).toArray = za at F ⊢
  have hok2 := hok
  obtain ⟨ho8, hm15, ht99, hby, hlaw⟩ := hok2
  refine g_iload_n F dX2_drawn_0 rfl rfl (np := 1) rfl ?_
  refine g_if_lt F dX2_drawn_1 (tp := 56) (by decide) (np := 4) rfl (fun c1 => ?_) (fun c1 => ?_)
  · refine g_iconst F (v := (-1)) dX2_drawn_56 (by decide) (np := 57) rfl ?_
    have hσ : σ = (gDrawn σ q o) := by unfold gDrawn; rw [pif_f (fun z => by obtain ⟨z1, z2, z3, z4, z5⟩ := z; first | exact z1 c1 | exact c15 z2 | exact c31 z3 | exact z4 c40 | exact z5.elim c45 c53)]
    have hv : -1 = rDrawn L σ sd q o := by unfold rDrawn; rw [pif_f (fun z => by obtain ⟨z1, z2, z3, z4, z5⟩ := z; first | exact z1 c1 | exact c15 z2 | exact c31 z3 | exact z4 c40 | exact z5.elim c45 c53)]
    exact g_iret F hr rfl (Nat.le_of_ble_eq_true rfl) (Nat.le_of_ble_eq_true rfl) dX2_drawn_57 (fun h hs => by rw [← hT]; exact ⟨congrArg (fun z => some (Value.int z)) hv, (hσ ▸ hs)⟩)
  · obtain ⟨hqe, hql⟩ := nI_cl c1
    refine WG.eqv (lv' := [some (.ref (ad 0)), some (.int sd), some (.int (nI (q.toNatClampNeg))), some (.int o), none, none, none, none, none, none]) rfl (congrArg (fun z => ([some (.ref (ad 0)), some (.int sd), some (.int z), some (.int o), none, none, none, none, none, none] : List (Option Value))) (show q = (nI (q.toNatClampNeg)) from by exact hqe)) ?_
    refine g_iload_n F dX2_drawn_4 rfl rfl (np := 5) rfl ?_
    refine g_sipush F (v := (nI 10000)) dX2_drawn_5 (by decide) (np := 8) rfl ?_
    refine g_idivN F (by omega) (by decide) (by decide) dX2_drawn_8 (np := 9) rfl ?_
    refine g_iconst F (v := (nI 1)) dX2_drawn_9 (by decide) (np := 10) rfl ?_
    refine g_bipush F (v := (nI 30)) dX2_drawn_10 (by decide) (np := 12) rfl ?_
    refine g_runS F (rest := []) (ct_X2_within hE (nI (q.toNatClampNeg / 10000)) (nI (1)) (nI (30)) ) (lw_S q1677 q1678 q102 q1679) hcS_X2_within ⟨Nat.le_of_ble_eq_true rfl, Nat.le_of_ble_eq_true rfl⟩ rfl rfl (Nat.le_of_ble_eq_true rfl) dX2_drawn_12 ⟨Nat.le_of_ble_eq_true rfl, Nat.le_of_ble_eq_true rfl⟩ (np := 15) rfl (k_RI ?_)
    refine g_if_eqB F dX2_drawn_15 (tp := 56) (by decide) (np := 18) rfl (fun c15 => ?_) (fun c15 => ?_)
    · refine g_iconst F (v := (-1)) dX2_drawn_56 (by decide) (np := 57) rfl ?_
      have hσ : σ = (gDrawn σ q o) := by unfold gDrawn; rw [pif_f (fun z => by obtain ⟨z1, z2, z3, z4, z5⟩ := z; first | exact z1 c1 | exact c15 z2 | exact c31 z3 | exact z4 c40 | exact z5.elim c45 c53)]
      have hv : -1 = rDrawn L σ sd q o := by unfold rDrawn; rw [pif_f (fun z => by obtain ⟨z1, z2, z3, z4, z5⟩ := z; first | exact z1 c1 | exact c15 z2 | exact c31 z3 | exact z4 c40 | exact z5.elim c45 c53)]
      exact g_iret F hr rfl (Nat.le_of_ble_eq_true rfl) (Nat.le_of_ble_eq_true rfl) dX2_drawn_57 (fun h hs => by rw [← hT]; exact ⟨congrArg (fun z => some (Value.int z)) hv, (hσ ▸ hs)⟩)
    · refine g_iload_n F dX2_drawn_18 rfl rfl (np := 19) rfl ?_
      refine g_bipush F (v := (nI 100)) dX2_drawn_19 (by decide) (np := 21) rfl ?_
      refine g_idivN F (by omega) (by decide) (by decide) dX2_drawn_21 (np := 22) rfl ?_
      refine g_bipush F (v := (nI 100)) dX2_drawn_22 (by decide) (np := 24) rfl ?_
      refine g_iremN F (by omega) (by decide) (by decide) dX2_drawn_24 (np := 25) rfl ?_
      refine g_iconst F (v := (nI 1)) dX2_drawn_25 (by decide) (np := 26) rfl ?_
      refine g_bipush F (v := (nI 40)) dX2_drawn_26 (by decide) (np := 28) rfl ?_
      refine g_runS F (rest := []) (ct_X2_within hE (nI ((q.toNatClampNeg / 100) % 100)) (nI (1)) (nI (40)) ) (lw_S q1677 q1678 q102 q1679) hcS_X2_within ⟨Nat.le_of_ble_eq_true rfl, Nat.le_of_ble_eq_true rfl⟩ rfl rfl (Nat.le_of_ble_eq_true rfl) dX2_drawn_28 ⟨Nat.le_of_ble_eq_true rfl, Nat.le_of_ble_eq_true rfl⟩ (np := 31) rfl (k_RI ?_)
      refine g_if_eqB F dX2_drawn_31 (tp := 56) (by decide) (np := 34) rfl (fun c31 => ?_) (fun c31 => ?_)
      · refine g_iconst F (v := (-1)) dX2_drawn_56 (by decide) (np := 57) rfl ?_
        have hσ : σ = (gDrawn σ q o) := by unfold gDrawn; rw [pif_f (fun z => by obtain ⟨z1, z2, z3, z4, z5⟩ := z; first | exact z1 c1 | exact c15 z2 | exact c31 z3 | exact z4 c40 | exact z5.elim c45 c53)]
        have hv : -1 = rDrawn L σ sd q o := by unfold rDrawn; rw [pif_f (fun z => by obtain ⟨z1, z2, z3, z4, z5⟩ := z; first | exact z1 c1 | exact c15 z2 | exact c31 z3 | exact z4 c40 | exact z5.elim c45 c53)]
        exact g_iret F hr rfl (Nat.le_of_ble_eq_true rfl) (Nat.le_of_ble_eq_true rfl) dX2_drawn_57 (fun h hs => by rw [← hT]; exact ⟨congrArg (fun z => some (Value.int z)) hv, (hσ ▸ hs)⟩)
      · refine g_iload_n F dX2_drawn_34 rfl rfl (np := 35) rfl ?_
        refine g_bipush F (v := (nI 100)) dX2_drawn_35 (by decide) (np := 37) rfl ?_
        refine g_iremN F (by omega) (by decide) (by decide) dX2_drawn_37 (np := 38) rfl ?_
        refine g_bipush F (v := (nI 12)) dX2_drawn_38 (by decide) (np := 40) rfl ?_
        refine g_icmp_gtN F (by omega) (by decide) dX2_drawn_40 (tp := 56) (by decide) (np := 43) rfl (fun c40 => ?_) (fun c40 => ?_)
        · refine g_iconst F (v := (-1)) dX2_drawn_56 (by decide) (np := 57) rfl ?_
          have hσ : σ = (gDrawn σ q o) := by unfold gDrawn; rw [pif_f (fun z => by obtain ⟨z1, z2, z3, z4, z5⟩ := z; first | exact z1 c1 | exact c15 z2 | exact c31 z3 | exact z4 c40 | exact z5.elim c45 c53)]
          have hv : -1 = rDrawn L σ sd q o := by unfold rDrawn; rw [pif_f (fun z => by obtain ⟨z1, z2, z3, z4, z5⟩ := z; first | exact z1 c1 | exact c15 z2 | exact c31 z3 | exact z4 c40 | exact z5.elim c45 c53)]
          exact g_iret F hr rfl (Nat.le_of_ble_eq_true rfl) (Nat.le_of_ble_eq_true rfl) dX2_drawn_57 (fun h hs => by rw [← hT]; exact ⟨congrArg (fun z => some (Value.int z)) hv, (hσ ▸ hs)⟩)
        · have J58 : (drawP (σ.1 0) q o) → WG zp l ze ({ frames := 7, cells := 0, slots := 0, locals := 159 } : Room) zs zm za zb zt zc D B 10 (MQ zb (QT D B T) za zs 0 0 (zA B)) (MH D ad h0 σ) 0 0 58 [some (.ref (ad 0)), some (.int sd), some (.int (nI (q.toNatClampNeg))), some (.int o), none, none, none, none, none, none] [] := by
            intro  hP
            refine g_aload_n F dX2_drawn_58 rfl rfl (np := 59) rfl ?_
            refine h_get F (k := 6) (v := .int (nI (σ.1 6))) (by decide) rfl q1552 dX2_drawn_59 (np := 62) rfl ?_
            refine g_istore F (lv' := [some (.ref (ad 0)), some (.int sd), some (.int (nI (q.toNatClampNeg))), some (.int o), some (.int (nI (σ.1 6))), none, none, none, none, none]) dX2_drawn_62 (by decide) rfl rfl (np := 64) rfl ?_
            refine g_iconst F (v := (nI 0)) dX2_drawn_64 (by decide) (np := 65) rfl ?_
            refine g_istore F (lv' := [some (.ref (ad 0)), some (.int sd), some (.int (nI (q.toNatClampNeg))), some (.int o), some (.int (nI (σ.1 6))), some (.int (nI 0)), none, none, none, none]) dX2_drawn_65 (by decide) rfl rfl (np := 67) rfl ?_
            have L67 : ∀ (zn : Nat) (i : Nat) (fb : Nat → Int32), (∀ j, fb j = if j < i then σ.2.1 3 (60 + j) else σ.2.1 41 j) → (i ≤ σ.1 2) → σ.1 2 - i < zn → WG zp l ze ({ frames := 7, cells := 0, slots := 0, locals := 159 } : Room) zs zm za zb zt zc D B 10 (MQ zb (QT D B T) za zs 0 0 (zA B)) (MH D ad h0 (cpS σ 41 fb)) 0 0 67 [some (.ref (ad 0)), some (.int sd), some (.int (nI (q.toNatClampNeg))), some (.int o), some (.int (nI (σ.1 6))), some (.int (nI i)), none, none, none, none] [] := by
              intro zn
              induction zn with
              | zero => intro i fb h1 h2 hm; exact absurd hm (Nat.not_lt_zero _)
              | succ zn ih67 =>
                intro i fb h1 h2 hm
                refine g_iload F dX2_drawn_67 rfl (np := 69) rfl ?_
                refine g_aload_n F dX2_drawn_69 rfl rfl (np := 70) rfl ?_
                refine h_get F (k := 2) (v := .int (nI (σ.1 2))) (by decide) rfl q1548 dX2_drawn_70 (np := 73) rfl ?_
                refine g_icmp_geN F (by omega) (by omega) dX2_drawn_73 (tp := 99) (by decide) (np := 76) rfl (fun c73 => ?_) (fun c73 => ?_)
                · have hfb : fb = fun j => if j < σ.1 2 then σ.2.1 3 (60 + j) else σ.2.1 41 j := by funext j; rw [h1, show i = σ.1 2 by omega]
                  have h1 : ∀ j, fb j = if j < σ.1 2 then σ.2.1 3 (60 + j) else σ.2.1 41 j := fun j => by rw [hfb]
                  refine g_iload_n F dX2_drawn_99 rfl rfl (np := 100) rfl ?_
                  refine g_istore F (lv' := [some (.ref (ad 0)), some (.int sd), some (.int (nI (q.toNatClampNeg))), some (.int o), some (.int (nI (σ.1 6))), some (.int sd), none, none, none, none]) dX2_drawn_100 (by decide) rfl rfl (np := 102) rfl ?_
                  refine g_iconst F (v := (nI 0)) dX2_drawn_102 (by decide) (np := 103) rfl ?_
                  refine g_istore F (lv' := [some (.ref (ad 0)), some (.int sd), some (.int (nI (q.toNatClampNeg))), some (.int o), some (.int (nI (σ.1 6))), some (.int sd), some (.int (nI 0)), none, none, none]) dX2_drawn_103 (by decide) rfl rfl (np := 105) rfl ?_
                  refine g_iconst F (v := (nI 0)) dX2_drawn_105 (by decide) (np := 106) rfl ?_
                  refine g_istore F (lv' := [some (.ref (ad 0)), some (.int sd), some (.int (nI (q.toNatClampNeg))), some (.int o), some (.int (nI (σ.1 6))), some (.int sd), some (.int (nI 0)), some (.int (nI 0)), none, none]) dX2_drawn_106 (by decide) rfl rfl (np := 108) rfl ?_
                  have L108 : ∀ (zn : Nat) (y : Int32) (sm : Int32) (nn : Nat), (y = (drN σ L (q.toNatClampNeg / 100 % 100) (q.toNatClampNeg % 100) o nn sd).1) → (sm = (drN σ L (q.toNatClampNeg / 100 % 100) (q.toNatClampNeg % 100) o nn sd).2) → (nn ≤ (q.toNatClampNeg / 10000)) → (q.toNatClampNeg / 10000) - nn < zn → WG zp l ze ({ frames := 7, cells := 0, slots := 0, locals := 159 } : Room) zs zm za zb zt zc D B 10 (MQ zb (QT D B T) za zs 0 0 (zA B)) (MH D ad h0 (cpS σ 41 fb)) 0 0 108 [some (.ref (ad 0)), some (.int sd), some (.int (nI (q.toNatClampNeg))), some (.int o), some (.int (nI (σ.1 6))), some (.int y), some (.int sm), some (.int (nI nn)), none, none] [] := by
                    intro zn
                    induction zn with
                    | zero => intro y sm nn n1 n2 n3 hm; exact absurd hm (Nat.not_lt_zero _)
                    | succ zn ih108 =>
                      intro y sm nn n1 n2 n3 hm
                      refine g_iload F dX2_drawn_108 rfl (np := 110) rfl ?_
                      refine g_iload_n F dX2_drawn_110 rfl rfl (np := 111) rfl ?_
                      refine g_sipush F (v := (nI 10000)) dX2_drawn_111 (by decide) (np := 114) rfl ?_
                      refine g_idivN F (by omega) (by decide) (by decide) dX2_drawn_114 (np := 115) rfl ?_
                      refine g_icmp_geN F (by omega) (by omega) dX2_drawn_115 (tp := 308) (by decide) (np := 118) rfl (fun c115 => ?_) (fun c115 => ?_)
                      · have hnn : nn = (q.toNatClampNeg / 10000) := by omega
                        refine g_iload F dX2_drawn_308 rfl (np := 310) rfl ?_
                        have hσ : (cpS σ 41 fb) = (gDrawn σ q o) := by unfold gDrawn; rw [pif_t hP, hfb]
                        have hv : sm = rDrawn L σ sd q o := by unfold rDrawn; rw [pif_t hP, ← hnn]; exact n2
                        exact g_iret F hr rfl (Nat.le_of_ble_eq_true rfl) (Nat.le_of_ble_eq_true rfl) dX2_drawn_310 (fun h hs => by rw [← hT]; exact ⟨congrArg (fun z => some (Value.int z)) hv, (hσ ▸ hs)⟩)
                      · refine g_iconst F (v := (nI 0)) dX2_drawn_118 (by decide) (np := 119) rfl ?_
                        refine g_istore F (lv' := [some (.ref (ad 0)), some (.int sd), some (.int (nI (q.toNatClampNeg))), some (.int o), some (.int (nI (σ.1 6))), some (.int y), some (.int sm), some (.int (nI nn)), some (.int (nI 0)), none]) dX2_drawn_119 (by decide) rfl rfl (np := 121) rfl ?_
                        have L121 : ∀ (zn : Nat) (y1 : Int32) (k : Nat) (g : Nat → Int32) (dd : Nat), (y1 = (drK σ (q.toNatClampNeg % 100) k y).1) → (g = (drK σ (q.toNatClampNeg % 100) k y).2) → (dd = day (σ.1 6) k) → (k ≤ (q.toNatClampNeg / 100 % 100)) → (q.toNatClampNeg / 100 % 100) - k < zn → WG zp l ze ({ frames := 7, cells := 0, slots := 0, locals := 159 } : Room) zs zm za zb zt zc D B 10 (MQ zb (QT D B T) za zs 0 0 (zA B)) (MH D ad h0 (sN (cpS (cpS σ 41 fb) 3 g) 6 dd)) 0 0 121 [some (.ref (ad 0)), some (.int sd), some (.int (nI (q.toNatClampNeg))), some (.int o), some (.int (nI (σ.1 6))), some (.int y1), some (.int sm), some (.int (nI nn)), some (.int (nI k)), none] [] := by
                          intro zn
                          induction zn with
                          | zero => intro y1 k g dd k1 k2 k3 k4 hm; exact absurd hm (Nat.not_lt_zero _)
                          | succ zn ih121 =>
                            intro y1 k g dd k1 k2 k3 k4 hm
                            refine g_iload F dX2_drawn_121 rfl (np := 123) rfl ?_
                            refine g_iload_n F dX2_drawn_123 rfl rfl (np := 124) rfl ?_
                            refine g_bipush F (v := (nI 100)) dX2_drawn_124 (by decide) (np := 126) rfl ?_
                            refine g_idivN F (by omega) (by decide) (by decide) dX2_drawn_126 (np := 127) rfl ?_
                            refine g_bipush F (v := (nI 100)) dX2_drawn_127 (by decide) (np := 129) rfl ?_
                            refine g_iremN F (by omega) (by decide) (by decide) dX2_drawn_129 (np := 130) rfl ?_
                            refine g_icmp_geN F (by omega) (by omega) dX2_drawn_130 (tp := 239) (by decide) (np := 133) rfl (fun c130 => ?_) (fun c130 => ?_)
                            · refine g_iload F dX2_drawn_239 rfl (np := 241) rfl ?_
                              refine g_iload_n F dX2_drawn_241 rfl rfl (np := 242) rfl ?_
                              refine g_iconst F (v := (-1)) dX2_drawn_242 (by decide) (np := 243) rfl ?_
                              refine g_icmp_ne F dX2_drawn_243 (tp := 253) (by decide) (np := 246) rfl (fun c243 => ?_) (fun c243 => ?_)
                              · refine g_aload_n F dX2_drawn_253 rfl rfl (np := 254) rfl ?_
                                refine g_iload_n F dX2_drawn_254 rfl rfl (np := 255) rfl ?_
                                refine g_runV F (C := RX2) (ci := 2) (T0 := TX2) (N := 42) (rest := [.int sm]) (ct_X2_highOf hE (sN (cpS (cpS σ 41 fb) 3 g) 6 dd) L o (by exact ((hok.cp41 _).cp3 _).day (by rw [k3]; exact day_le _ _))) (lw_V q1844 q1846 qs80 q102 q1847) hcV_X2_highOf ⟨Nat.le_of_ble_eq_true rfl, Nat.le_of_ble_eq_true rfl⟩ rfl (fun h hs => hs.obj) rfl rfl (Nat.le_of_ble_eq_true rfl) dX2_drawn_255 ⟨Nat.le_of_ble_eq_true rfl, Nat.le_of_ble_eq_true rfl⟩ (np := 258) rfl (k_RI ?_)
                                refine g_iadd F dX2_drawn_258 (np := 259) rfl ?_
                                refine g_istore F (lv' := [some (.ref (ad 0)), some (.int sd), some (.int (nI (q.toNatClampNeg))), some (.int o), some (.int (nI (σ.1 6))), some (.int y1), some (.int (sm + (sHigh (mV (sN (cpS (cpS σ 41 fb) 3 g) 6 dd) L) ((sN (cpS (cpS σ 41 fb) 3 g) 6 dd).1 6) o))), some (.int (nI nn)), some (.int (nI k)), none]) dX2_drawn_259 (by decide) rfl rfl (np := 261) rfl ?_
                                refine g_aload_n F dX2_drawn_261 rfl rfl (np := 262) rfl ?_
                                refine g_iload F dX2_drawn_262 rfl (np := 264) rfl ?_
                                refine h_put F (k := 6) (n := σ.1 6) (ty := .int) rfl (by decide) (mset_6 _ _ _) rfl rfl rfl rfl q1552 dX2_drawn_264 (np := 267) rfl ?_
                                refine WG.weak (S' := MH D ad h0 (sN (cpS (cpS σ 41 fb) 3 g) 6 (σ.1 6))) (fun h hs => by rw [sN_sN] at hs; exact hs) ?_
                                refine WG.weak (S' := MH D ad h0 (cpS (cpS σ 41 fb) 3 g)) (fun h hs => by rw [show (cpS (cpS σ 41 fb) 3 g) = sN (cpS (cpS σ 41 fb) 3 g) 6 (σ.1 6) from (sN_same (cpS (cpS σ 41 fb) 3 g) 6).symm]; exact hs) ?_
                                refine g_iconst F (v := (nI 0)) dX2_drawn_267 (by decide) (np := 268) rfl ?_
                                refine g_istore F (lv' := [some (.ref (ad 0)), some (.int sd), some (.int (nI (q.toNatClampNeg))), some (.int o), some (.int (nI (σ.1 6))), some (.int y1), some (.int (sm + (sHigh (mV (sN (cpS (cpS σ 41 fb) 3 g) 6 dd) L) ((sN (cpS (cpS σ 41 fb) 3 g) 6 dd).1 6) o))), some (.int (nI nn)), some (.int (nI 0)), none]) dX2_drawn_268 (by decide) rfl rfl (np := 270) rfl ?_
                                have L270 : ∀ (zn : Nat) (i2 : Nat) (g2 : Nat → Int32), (∀ j, g2 j = if 60 ≤ j ∧ j < 60 + i2 then σ.2.1 3 j else g j) → (i2 ≤ σ.1 2) → σ.1 2 - i2 < zn → WG zp l ze ({ frames := 7, cells := 0, slots := 0, locals := 159 } : Room) zs zm za zb zt zc D B 10 (MQ zb (QT D B T) za zs 0 0 (zA B)) (MH D ad h0 (cpS (cpS σ 41 fb) 3 g2)) 0 0 270 [some (.ref (ad 0)), some (.int sd), some (.int (nI (q.toNatClampNeg))), some (.int o), some (.int (nI (σ.1 6))), some (.int y1), some (.int (sm + (sHigh (mV (sN (cpS (cpS σ 41 fb) 3 g) 6 dd) L) ((sN (cpS (cpS σ 41 fb) 3 g) 6 dd).1 6) o))), some (.int (nI nn)), some (.int (nI i2)), none] [] := by
                                  intro zn
                                  induction zn with
                                  | zero => intro i2 g2 r1 r2 hm; exact absurd hm (Nat.not_lt_zero _)
                                  | succ zn ih270 =>
                                    intro i2 g2 r1 r2 hm
                                    refine g_iload F dX2_drawn_270 rfl (np := 272) rfl ?_
                                    refine g_aload_n F dX2_drawn_272 rfl rfl (np := 273) rfl ?_
                                    refine h_get F (k := 2) (v := .int (nI (σ.1 2))) (by decide) rfl q1548 dX2_drawn_273 (np := 276) rfl ?_
                                    refine g_icmp_geN F (by omega) (by omega) dX2_drawn_276 (tp := 302) (by decide) (np := 279) rfl (fun c276 => ?_) (fun c276 => ?_)
                                    · have hg2 : g2 = σ.2.1 3 := by
                                        funext j
                                        rw [r1]
                                        by_cases hj : 60 ≤ j ∧ j < 60 + i2
                                        · rw [if_pos hj]
                                        · rw [if_neg hj, k2]; exact drK_ok (by omega) y k j (by omega)
                                      refine WG.weak (S' := MH D ad h0 (cpS σ 41 fb)) (fun h hs => by rw [show (cpS σ 41 fb) = (cpS (cpS σ 41 fb) 3 g2) from by rw [hg2]; exact (cpS_id (cpS σ 41 fb) 3).symm]; exact hs) ?_
                                      refine g_iinc F (v := (nI (nn + 1))) (lv' := [some (.ref (ad 0)), some (.int sd), some (.int (nI (q.toNatClampNeg))), some (.int o), some (.int (nI (σ.1 6))), some (.int y1), some (.int (sm + (sHigh (mV (sN (cpS (cpS σ 41 fb) 3 g) 6 dd) L) ((sN (cpS (cpS σ 41 fb) 3 g) 6 dd).1 6) o))), some (.int (nI (nn + 1))), some (.int (nI i2)), none]) dX2_drawn_302 rfl (nI_add _ _) (by decide) rfl rfl (np := 305) rfl ?_
                                      refine g_goto F dX2_drawn_305 (np := 108) (by decide) ?_
                                      refine WG.dropL (i := 8) (lv' := [some (.ref (ad 0)), some (.int sd), some (.int (nI (q.toNatClampNeg))), some (.int o), some (.int (nI (σ.1 6))), some (.int y1), some (.int (sm + (sHigh (mV (sN (cpS (cpS σ 41 fb) 3 g) 6 dd) L) ((sN (cpS (cpS σ 41 fb) 3 g) 6 dd).1 6) o))), some (.int (nI (nn + 1))), none, none]) rfl ?_
                                      exact ih108 y1 (sm + (sHigh (mV (sN (cpS (cpS σ 41 fb) 3 g) 6 dd) L) ((sN (cpS (cpS σ 41 fb) 3 g) 6 dd).1 6) o)) (nn + 1) (by unfold drN; rw [← n1]; rw [k1, show k = (q.toNatClampNeg / 100 % 100) by omega]) (by unfold drN; rw [← n1, ← n2]; first | (rw [if_pos c243, ← show k = (q.toNatClampNeg / 100 % 100) by omega, ← k2, ← k3]; rfl) | (rw [if_neg c243, ← show k = (q.toNatClampNeg / 100 % 100) by omega, ← k2, ← k3]; rfl)) (by omega) (by omega)
                                    · refine g_aload_n F dX2_drawn_279 rfl rfl (np := 280) rfl ?_
                                      refine h_get F (k := 3) (v := .ref (ad 3)) (by decide) rfl q1549 dX2_drawn_280 (np := 283) rfl ?_
                                      refine g_bipush F (v := (nI 60)) dX2_drawn_283 (by decide) (np := 285) rfl ?_
                                      refine g_iload F dX2_drawn_285 rfl (np := 287) rfl ?_
                                      refine g_iaddN F dX2_drawn_287 (np := 288) rfl ?_
                                      refine g_aload_n F dX2_drawn_288 rfl rfl (np := 289) rfl ?_
                                      refine h_get F (k := 41) (v := .ref (ad 41)) (by decide) rfl q1587 dX2_drawn_289 (np := 292) rfl ?_
                                      refine g_iload F dX2_drawn_292 rfl (np := 294) rfl ?_
                                      refine h_ald F (k := 41) (i := i2) (L := 15) (v := fb i2) rfl rfl (by decide) (by omega) rfl rfl dX2_drawn_294 (by decide) (by decide) (np := 295) rfl ?_
                                      refine h_ast F (k := 3) (i := 60 + i2) (L := 75) rfl rfl (by decide) (by omega) rfl dX2_drawn_295 (by decide) (by decide) (np := 296) rfl ?_
                                      refine WG.weak (S' := MH D ad h0 (cpS (cpS σ 41 fb) 3 (va_up g2 (60 + i2) (fb i2)))) (fun h hs => by rw [cpS_sA]; exact hs) ?_
                                      refine g_iinc F (v := (nI (i2 + 1))) (lv' := [some (.ref (ad 0)), some (.int sd), some (.int (nI (q.toNatClampNeg))), some (.int o), some (.int (nI (σ.1 6))), some (.int y1), some (.int (sm + (sHigh (mV (sN (cpS (cpS σ 41 fb) 3 g) 6 dd) L) ((sN (cpS (cpS σ 41 fb) 3 g) 6 dd).1 6) o))), some (.int (nI nn)), some (.int (nI (i2 + 1))), none]) dX2_drawn_296 rfl (nI_add _ _) (by decide) rfl rfl (np := 299) rfl ?_
                                      refine g_goto F dX2_drawn_299 (np := 270) (by decide) ?_
                                      exact ih270 (i2 + 1) ((va_up g2 (60 + i2) (fb i2))) (by exact cp_step2 (P := fun j => σ.2.1 3 j) r1 (by rw [h1, if_pos (by omega)])) (by omega) (by omega)
                                exact L270 _ 0 g (by intro j; rw [if_neg (by omega)]) (by exact Nat.zero_le _) (Nat.lt_succ_self _)
                              · refine g_aload_n F dX2_drawn_246 rfl rfl (np := 247) rfl ?_
                                refine g_runV F (C := RX2) (ci := 2) (T0 := TX2) (N := 42) (rest := [.int sm]) (ct_X2_allHigh hE (sN (cpS (cpS σ 41 fb) 3 g) 6 dd) L (by exact ((hok.cp41 _).cp3 _).day (by rw [k3]; exact day_le _ _))) (lw_V q1840 q1842 qs79 q102 q1843) hcV_X2_allHigh ⟨Nat.le_of_ble_eq_true rfl, Nat.le_of_ble_eq_true rfl⟩ rfl (fun h hs => hs.obj) rfl rfl (Nat.le_of_ble_eq_true rfl) dX2_drawn_247 ⟨Nat.le_of_ble_eq_true rfl, Nat.le_of_ble_eq_true rfl⟩ (np := 250) rfl (k_RI ?_)
                                refine g_goto F dX2_drawn_250 (np := 258) (by decide) ?_
                                refine g_iadd F dX2_drawn_258 (np := 259) rfl ?_
                                refine g_istore F (lv' := [some (.ref (ad 0)), some (.int sd), some (.int (nI (q.toNatClampNeg))), some (.int o), some (.int (nI (σ.1 6))), some (.int y1), some (.int (sm + (sAll (mV (sN (cpS (cpS σ 41 fb) 3 g) 6 dd) L) ((sN (cpS (cpS σ 41 fb) 3 g) 6 dd).1 6) ((sN (cpS (cpS σ 41 fb) 3 g) 6 dd).1 0)))), some (.int (nI nn)), some (.int (nI k)), none]) dX2_drawn_259 (by decide) rfl rfl (np := 261) rfl ?_
                                refine g_aload_n F dX2_drawn_261 rfl rfl (np := 262) rfl ?_
                                refine g_iload F dX2_drawn_262 rfl (np := 264) rfl ?_
                                refine h_put F (k := 6) (n := σ.1 6) (ty := .int) rfl (by decide) (mset_6 _ _ _) rfl rfl rfl rfl q1552 dX2_drawn_264 (np := 267) rfl ?_
                                refine WG.weak (S' := MH D ad h0 (sN (cpS (cpS σ 41 fb) 3 g) 6 (σ.1 6))) (fun h hs => by rw [sN_sN] at hs; exact hs) ?_
                                refine WG.weak (S' := MH D ad h0 (cpS (cpS σ 41 fb) 3 g)) (fun h hs => by rw [show (cpS (cpS σ 41 fb) 3 g) = sN (cpS (cpS σ 41 fb) 3 g) 6 (σ.1 6) from (sN_same (cpS (cpS σ 41 fb) 3 g) 6).symm]; exact hs) ?_
                                refine g_iconst F (v := (nI 0)) dX2_drawn_267 (by decide) (np := 268) rfl ?_
                                refine g_istore F (lv' := [some (.ref (ad 0)), some (.int sd), some (.int (nI (q.toNatClampNeg))), some (.int o), some (.int (nI (σ.1 6))), some (.int y1), some (.int (sm + (sAll (mV (sN (cpS (cpS σ 41 fb) 3 g) 6 dd) L) ((sN (cpS (cpS σ 41 fb) 3 g) 6 dd).1 6) ((sN (cpS (cpS σ 41 fb) 3 g) 6 dd).1 0)))), some (.int (nI nn)), some (.int (nI 0)), none]) dX2_drawn_268 (by decide) rfl rfl (np := 270) rfl ?_
                                have L270 : ∀ (zn : Nat) (i2 : Nat) (g2 : Nat → Int32), (∀ j, g2 j = if 60 ≤ j ∧ j < 60 + i2 then σ.2.1 3 j else g j) → (i2 ≤ σ.1 2) → σ.1 2 - i2 < zn → WG zp l ze ({ frames := 7, cells := 0, slots := 0, locals := 159 } : Room) zs zm za zb zt zc D B 10 (MQ zb (QT D B T) za zs 0 0 (zA B)) (MH D ad h0 (cpS (cpS σ 41 fb) 3 g2)) 0 0 270 [some (.ref (ad 0)), some (.int sd), some (.int (nI (q.toNatClampNeg))), some (.int o), some (.int (nI (σ.1 6))), some (.int y1), some (.int (sm + (sAll (mV (sN (cpS (cpS σ 41 fb) 3 g) 6 dd) L) ((sN (cpS (cpS σ 41 fb) 3 g) 6 dd).1 6) ((sN (cpS (cpS σ 41 fb) 3 g) 6 dd).1 0)))), some (.int (nI nn)), some (.int (nI i2)), none] [] := by
                                  intro zn
                                  induction zn with
                                  | zero => intro i2 g2 r1 r2 hm; exact absurd hm (Nat.not_lt_zero _)
                                  | succ zn ih270 =>
                                    intro i2 g2 r1 r2 hm
                                    refine g_iload F dX2_drawn_270 rfl (np := 272) rfl ?_
                                    refine g_aload_n F dX2_drawn_272 rfl rfl (np := 273) rfl ?_
                                    refine h_get F (k := 2) (v := .int (nI (σ.1 2))) (by decide) rfl q1548 dX2_drawn_273 (np := 276) rfl ?_
                                    refine g_icmp_geN F (by omega) (by omega) dX2_drawn_276 (tp := 302) (by decide) (np := 279) rfl (fun c276 => ?_) (fun c276 => ?_)
                                    · have hg2 : g2 = σ.2.1 3 := by
                                        funext j
                                        rw [r1]
                                        by_cases hj : 60 ≤ j ∧ j < 60 + i2
                                        · rw [if_pos hj]
                                        · rw [if_neg hj, k2]; exact drK_ok (by omega) y k j (by omega)
                                      refine WG.weak (S' := MH D ad h0 (cpS σ 41 fb)) (fun h hs => by rw [show (cpS σ 41 fb) = (cpS (cpS σ 41 fb) 3 g2) from by rw [hg2]; exact (cpS_id (cpS σ 41 fb) 3).symm]; exact hs) ?_
                                      refine g_iinc F (v := (nI (nn + 1))) (lv' := [some (.ref (ad 0)), some (.int sd), some (.int (nI (q.toNatClampNeg))), some (.int o), some (.int (nI (σ.1 6))), some (.int y1), some (.int (sm + (sAll (mV (sN (cpS (cpS σ 41 fb) 3 g) 6 dd) L) ((sN (cpS (cpS σ 41 fb) 3 g) 6 dd).1 6) ((sN (cpS (cpS σ 41 fb) 3 g) 6 dd).1 0)))), some (.int (nI (nn + 1))), some (.int (nI i2)), none]) dX2_drawn_302 rfl (nI_add _ _) (by decide) rfl rfl (np := 305) rfl ?_
                                      refine g_goto F dX2_drawn_305 (np := 108) (by decide) ?_
                                      refine WG.dropL (i := 8) (lv' := [some (.ref (ad 0)), some (.int sd), some (.int (nI (q.toNatClampNeg))), some (.int o), some (.int (nI (σ.1 6))), some (.int y1), some (.int (sm + (sAll (mV (sN (cpS (cpS σ 41 fb) 3 g) 6 dd) L) ((sN (cpS (cpS σ 41 fb) 3 g) 6 dd).1 6) ((sN (cpS (cpS σ 41 fb) 3 g) 6 dd).1 0)))), some (.int (nI (nn + 1))), none, none]) rfl ?_
                                      exact ih108 y1 (sm + (sAll (mV (sN (cpS (cpS σ 41 fb) 3 g) 6 dd) L) ((sN (cpS (cpS σ 41 fb) 3 g) 6 dd).1 6) ((sN (cpS (cpS σ 41 fb) 3 g) 6 dd).1 0))) (nn + 1) (by unfold drN; rw [← n1]; rw [k1, show k = (q.toNatClampNeg / 100 % 100) by omega]) (by unfold drN; rw [← n1, ← n2]; first | (rw [if_pos c243, ← show k = (q.toNatClampNeg / 100 % 100) by omega, ← k2, ← k3]; rfl) | (rw [if_neg c243, ← show k = (q.toNatClampNeg / 100 % 100) by omega, ← k2, ← k3]; rfl)) (by omega) (by omega)
                                    · refine g_aload_n F dX2_drawn_279 rfl rfl (np := 280) rfl ?_
                                      refine h_get F (k := 3) (v := .ref (ad 3)) (by decide) rfl q1549 dX2_drawn_280 (np := 283) rfl ?_
                                      refine g_bipush F (v := (nI 60)) dX2_drawn_283 (by decide) (np := 285) rfl ?_
                                      refine g_iload F dX2_drawn_285 rfl (np := 287) rfl ?_
                                      refine g_iaddN F dX2_drawn_287 (np := 288) rfl ?_
                                      refine g_aload_n F dX2_drawn_288 rfl rfl (np := 289) rfl ?_
                                      refine h_get F (k := 41) (v := .ref (ad 41)) (by decide) rfl q1587 dX2_drawn_289 (np := 292) rfl ?_
                                      refine g_iload F dX2_drawn_292 rfl (np := 294) rfl ?_
                                      refine h_ald F (k := 41) (i := i2) (L := 15) (v := fb i2) rfl rfl (by decide) (by omega) rfl rfl dX2_drawn_294 (by decide) (by decide) (np := 295) rfl ?_
                                      refine h_ast F (k := 3) (i := 60 + i2) (L := 75) rfl rfl (by decide) (by omega) rfl dX2_drawn_295 (by decide) (by decide) (np := 296) rfl ?_
                                      refine WG.weak (S' := MH D ad h0 (cpS (cpS σ 41 fb) 3 (va_up g2 (60 + i2) (fb i2)))) (fun h hs => by rw [cpS_sA]; exact hs) ?_
                                      refine g_iinc F (v := (nI (i2 + 1))) (lv' := [some (.ref (ad 0)), some (.int sd), some (.int (nI (q.toNatClampNeg))), some (.int o), some (.int (nI (σ.1 6))), some (.int y1), some (.int (sm + (sAll (mV (sN (cpS (cpS σ 41 fb) 3 g) 6 dd) L) ((sN (cpS (cpS σ 41 fb) 3 g) 6 dd).1 6) ((sN (cpS (cpS σ 41 fb) 3 g) 6 dd).1 0)))), some (.int (nI nn)), some (.int (nI (i2 + 1))), none]) dX2_drawn_296 rfl (nI_add _ _) (by decide) rfl rfl (np := 299) rfl ?_
                                      refine g_goto F dX2_drawn_299 (np := 270) (by decide) ?_
                                      exact ih270 (i2 + 1) ((va_up g2 (60 + i2) (fb i2))) (by exact cp_step2 (P := fun j => σ.2.1 3 j) r1 (by rw [h1, if_pos (by omega)])) (by omega) (by omega)
                                exact L270 _ 0 g (by intro j; rw [if_neg (by omega)]) (by exact Nat.zero_le _) (Nat.lt_succ_self _)
                            · refine g_iload F dX2_drawn_133 rfl (np := 135) rfl ?_
                              refine g_ldcw F q1950 dX2_drawn_135 (np := 138) rfl ?_
                              refine g_imul F dX2_drawn_138 (np := 139) rfl ?_
                              refine g_sipush F (v := (nI 12345)) dX2_drawn_139 (by decide) (np := 142) rfl ?_
                              refine g_iadd F dX2_drawn_142 (np := 143) rfl ?_
                              refine g_istore F (lv' := [some (.ref (ad 0)), some (.int sd), some (.int (nI (q.toNatClampNeg))), some (.int o), some (.int (nI (σ.1 6))), some (.int ((y1 * 1103515245) + (nI (12345)))), some (.int sm), some (.int (nI nn)), some (.int (nI k)), none]) dX2_drawn_143 (by decide) rfl rfl (np := 145) rfl ?_
                              have J166 : ∀ (r0 : Int32), (¬ σ.1 2 = 0 → r0 = drR (σ.1 2) (drZ y1)) → WG zp l ze ({ frames := 7, cells := 0, slots := 0, locals := 159 } : Room) zs zm za zb zt zc D B 10 (MQ zb (QT D B T) za zs 0 0 (zA B)) (MH D ad h0 (sN (cpS (cpS σ 41 fb) 3 g) 6 dd)) 0 0 166 [some (.ref (ad 0)), some (.int sd), some (.int (nI (q.toNatClampNeg))), some (.int o), some (.int (nI (σ.1 6))), some (.int ((y1 * 1103515245) + (nI (12345)))), some (.int sm), some (.int (nI nn)), some (.int (nI k)), none] [.int r0] := by
                                intro r0 hr0
                                refine g_istore F (lv' := [some (.ref (ad 0)), some (.int sd), some (.int (nI (q.toNatClampNeg))), some (.int o), some (.int (nI (σ.1 6))), some (.int ((y1 * 1103515245) + (nI (12345)))), some (.int sm), some (.int (nI nn)), some (.int (nI k)), some (.int r0)]) dX2_drawn_166 (by decide) rfl rfl (np := 168) rfl ?_
                                refine g_aload_n F dX2_drawn_168 rfl rfl (np := 169) rfl ?_
                                refine h_get F (k := 2) (v := .int (nI (σ.1 2))) (by decide) rfl q1548 dX2_drawn_169 (np := 172) rfl ?_
                                refine g_if_le F dX2_drawn_172 (tp := 224) (by decide) (np := 175) rfl (fun c172 => ?_) (fun c172 => ?_)
                                · refine g_aload_n F dX2_drawn_224 rfl rfl (np := 225) rfl ?_
                                  refine g_aload_n F dX2_drawn_225 rfl rfl (np := 226) rfl ?_
                                  refine g_iconst F (v := (nI 1)) dX2_drawn_226 (by decide) (np := 227) rfl ?_
                                  refine g_runV F (C := RX2) (ci := 2) (T0 := TX2) (N := 42) (rest := [.ref (ad 0)]) (ct_X2_ahead hE (sN (cpS (cpS σ 41 fb) 3 g) 6 dd) 1 (by omega) (by show dd < 2 ^ 30; rw [k3]; have := day_le (σ.1 6) k; omega)) (lw_V q1836 q1838 qs78 q102 q1839) hcV_X2_ahead ⟨Nat.le_of_ble_eq_true rfl, Nat.le_of_ble_eq_true rfl⟩ rfl (fun h hs => hs.obj) rfl rfl (Nat.le_of_ble_eq_true rfl) dX2_drawn_227 ⟨Nat.le_of_ble_eq_true rfl, Nat.le_of_ble_eq_true rfl⟩ (np := 230) rfl (k_RI ?_)
                                  refine h_put F (k := 6) (n := day ((sN (cpS (cpS σ 41 fb) 3 g) 6 dd).1 6) 1) (ty := .int) rfl (by decide) (mset_6 _ _ _) rfl rfl rfl rfl q1552 dX2_drawn_230 (np := 233) rfl ?_
                                  refine WG.weak (S' := MH D ad h0 (sN (cpS (cpS σ 41 fb) 3 g) 6 (day ((sN (cpS (cpS σ 41 fb) 3 g) 6 dd).1 6) 1))) (fun h hs => by rw [sN_sN] at hs; exact hs) ?_
                                  refine g_iinc F (v := (nI (k + 1))) (lv' := [some (.ref (ad 0)), some (.int sd), some (.int (nI (q.toNatClampNeg))), some (.int o), some (.int (nI (σ.1 6))), some (.int ((y1 * 1103515245) + (nI (12345)))), some (.int sm), some (.int (nI nn)), some (.int (nI (k + 1))), some (.int r0)]) dX2_drawn_233 rfl (nI_add _ _) (by decide) rfl rfl (np := 236) rfl ?_
                                  refine g_goto F dX2_drawn_236 (np := 121) (by decide) ?_
                                  refine WG.dropL (i := 9) (lv' := [some (.ref (ad 0)), some (.int sd), some (.int (nI (q.toNatClampNeg))), some (.int o), some (.int (nI (σ.1 6))), some (.int ((y1 * 1103515245) + (nI (12345)))), some (.int sm), some (.int (nI nn)), some (.int (nI (k + 1))), none]) rfl ?_
                                  exact ih121 ((y1 * 1103515245) + (nI (12345))) (k + 1) g ((day ((sN (cpS (cpS σ 41 fb) 3 g) 6 dd).1 6) 1)) (by unfold drK; rw [← k1]; rfl) (by unfold drK; rw [← k1, ← k2, ← k3]; unfold drG; first | (rw [pif_f (fun z => z.1 ((nI_le0 (by omega)).mp c172))]; done) | (rw [pif_f (fun z => c181 z.2.1)]; done) | (rw [pif_f (fun z => z.2.2.1 c195)]; done) | (rw [pif_f (fun z => absurd z.2.2.2 (Int32.not_lt.mpr c210))]; done) | (rw [pif_t ⟨hm0, c181, c195, Int32.not_le.mp c210⟩])) (by rw [k3]; exact day_s _ _) (by omega) (by omega)
                                · have hm0 : ¬ σ.1 2 = 0 := fun z => c172 ((nI_le0 (by omega)).mpr z)
                                  obtain ⟨hrl, hre⟩ := inN_cl (by omega) (drR_in (drZ y1) (Nat.pos_of_ne_zero hm0) (by omega))
                                  refine WG.eqv (lv' := [some (.ref (ad 0)), some (.int sd), some (.int (nI (q.toNatClampNeg))), some (.int o), some (.int (nI (σ.1 6))), some (.int ((y1 * 1103515245) + (nI (12345)))), some (.int sm), some (.int (nI nn)), some (.int (nI k)), some (.int (nI ((drR (σ.1 2) (drZ y1)).toNatClampNeg)))]) rfl (congrArg (fun z => ([some (.ref (ad 0)), some (.int sd), some (.int (nI (q.toNatClampNeg))), some (.int o), some (.int (nI (σ.1 6))), some (.int ((y1 * 1103515245) + (nI (12345)))), some (.int sm), some (.int (nI nn)), some (.int (nI k)), some (.int z)] : List (Option Value))) (show r0 = (nI ((drR (σ.1 2) (drZ y1)).toNatClampNeg)) from by rw [hr0 hm0]; exact hre)) ?_
                                  refine g_aload_n F dX2_drawn_175 rfl rfl (np := 176) rfl ?_
                                  refine g_iload F dX2_drawn_176 rfl (np := 178) rfl ?_
                                  refine g_runV F (C := RX2) (ci := 2) (T0 := TX2) (N := 42) (rest := []) (ct_X2_isOpen hE (sN (cpS (cpS σ 41 fb) 3 g) 6 dd) ((drR (σ.1 2) (drZ y1)).toNatClampNeg) (by omega)) (lw_V q1811 q1813 qs74 q102 q1814) hcV_X2_isOpen ⟨Nat.le_of_ble_eq_true rfl, Nat.le_of_ble_eq_true rfl⟩ rfl (fun h hs => hs.obj) rfl rfl (Nat.le_of_ble_eq_true rfl) dX2_drawn_178 ⟨Nat.le_of_ble_eq_true rfl, Nat.le_of_ble_eq_true rfl⟩ (np := 181) rfl (k_RI ?_)
                                  refine g_if_eqB F dX2_drawn_181 (tp := 224) (by decide) (np := 184) rfl (fun c181 => ?_) (fun c181 => ?_)
                                  · refine g_aload_n F dX2_drawn_224 rfl rfl (np := 225) rfl ?_
                                    refine g_aload_n F dX2_drawn_225 rfl rfl (np := 226) rfl ?_
                                    refine g_iconst F (v := (nI 1)) dX2_drawn_226 (by decide) (np := 227) rfl ?_
                                    refine g_runV F (C := RX2) (ci := 2) (T0 := TX2) (N := 42) (rest := [.ref (ad 0)]) (ct_X2_ahead hE ((sN (cpS (cpS σ 41 fb) 3 g) 6 dd)) 1 (by omega) (by show dd < 2 ^ 30; rw [k3]; have := day_le (σ.1 6) k; omega)) (lw_V q1836 q1838 qs78 q102 q1839) hcV_X2_ahead ⟨Nat.le_of_ble_eq_true rfl, Nat.le_of_ble_eq_true rfl⟩ rfl (fun h hs => hs.obj) rfl rfl (Nat.le_of_ble_eq_true rfl) dX2_drawn_227 ⟨Nat.le_of_ble_eq_true rfl, Nat.le_of_ble_eq_true rfl⟩ (np := 230) rfl (k_RI ?_)
                                    refine h_put F (k := 6) (n := day (((sN (cpS (cpS σ 41 fb) 3 g) 6 dd)).1 6) 1) (ty := .int) rfl (by decide) (mset_6 _ _ _) rfl rfl rfl rfl q1552 dX2_drawn_230 (np := 233) rfl ?_
                                    refine WG.weak (S' := MH D ad h0 (sN (cpS (cpS σ 41 fb) 3 g) 6 (day (((sN (cpS (cpS σ 41 fb) 3 g) 6 dd)).1 6) 1))) (fun h hs => by rw [sN_sN] at hs; exact hs) ?_
                                    refine g_iinc F (v := (nI (k + 1))) (lv' := [some (.ref (ad 0)), some (.int sd), some (.int (nI (q.toNatClampNeg))), some (.int o), some (.int (nI (σ.1 6))), some (.int ((y1 * 1103515245) + (nI (12345)))), some (.int sm), some (.int (nI nn)), some (.int (nI (k + 1))), some (.int (nI ((drR (σ.1 2) (drZ y1)).toNatClampNeg)))]) dX2_drawn_233 rfl (nI_add _ _) (by decide) rfl rfl (np := 236) rfl ?_
                                    refine g_goto F dX2_drawn_236 (np := 121) (by decide) ?_
                                    refine WG.dropL (i := 9) (lv' := [some (.ref (ad 0)), some (.int sd), some (.int (nI (q.toNatClampNeg))), some (.int o), some (.int (nI (σ.1 6))), some (.int ((y1 * 1103515245) + (nI (12345)))), some (.int sm), some (.int (nI nn)), some (.int (nI (k + 1))), none]) rfl ?_
                                    exact ih121 ((y1 * 1103515245) + (nI (12345))) (k + 1) g ((day (((sN (cpS (cpS σ 41 fb) 3 g) 6 dd)).1 6) 1)) (by unfold drK; rw [← k1]; rfl) (by unfold drK; rw [← k1, ← k2, ← k3]; unfold drG; first | (rw [pif_f (fun z => z.1 ((nI_le0 (by omega)).mp c172))]; done) | (rw [pif_f (fun z => c181 z.2.1)]; done) | (rw [pif_f (fun z => z.2.2.1 c195)]; done) | (rw [pif_f (fun z => absurd z.2.2.2 (Int32.not_lt.mpr c210))]; done) | (rw [pif_t ⟨hm0, c181, c195, Int32.not_le.mp c210⟩])) (by rw [k3]; exact day_s _ _) (by omega) (by omega)
                                  · refine g_aload_n F dX2_drawn_184 rfl rfl (np := 185) rfl ?_
                                    refine h_get F (k := 3) (v := .ref (ad 3)) (by decide) rfl q1549 dX2_drawn_185 (np := 188) rfl ?_
                                    refine g_bipush F (v := (nI 15)) dX2_drawn_188 (by decide) (np := 190) rfl ?_
                                    refine g_iload F dX2_drawn_190 rfl (np := 192) rfl ?_
                                    refine g_iaddN F dX2_drawn_192 (np := 193) rfl ?_
                                    refine h_ald F (k := 3) (i := 15 + ((drR (σ.1 2) (drZ y1)).toNatClampNeg)) (L := 75) (v := g (15 + ((drR (σ.1 2) (drZ y1)).toNatClampNeg))) rfl rfl (by decide) (by omega) rfl rfl dX2_drawn_193 (by decide) (by decide) (np := 194) rfl ?_
                                    refine g_iconst F (v := (nI 2)) dX2_drawn_194 (by decide) (np := 195) rfl ?_
                                    refine g_icmp_eq F dX2_drawn_195 (tp := 224) (by decide) (np := 198) rfl (fun c195 => ?_) (fun c195 => ?_)
                                    · refine g_aload_n F dX2_drawn_224 rfl rfl (np := 225) rfl ?_
                                      refine g_aload_n F dX2_drawn_225 rfl rfl (np := 226) rfl ?_
                                      refine g_iconst F (v := (nI 1)) dX2_drawn_226 (by decide) (np := 227) rfl ?_
                                      refine g_runV F (C := RX2) (ci := 2) (T0 := TX2) (N := 42) (rest := [.ref (ad 0)]) (ct_X2_ahead hE ((sN (cpS (cpS σ 41 fb) 3 g) 6 dd)) 1 (by omega) (by show dd < 2 ^ 30; rw [k3]; have := day_le (σ.1 6) k; omega)) (lw_V q1836 q1838 qs78 q102 q1839) hcV_X2_ahead ⟨Nat.le_of_ble_eq_true rfl, Nat.le_of_ble_eq_true rfl⟩ rfl (fun h hs => hs.obj) rfl rfl (Nat.le_of_ble_eq_true rfl) dX2_drawn_227 ⟨Nat.le_of_ble_eq_true rfl, Nat.le_of_ble_eq_true rfl⟩ (np := 230) rfl (k_RI ?_)
                                      refine h_put F (k := 6) (n := day (((sN (cpS (cpS σ 41 fb) 3 g) 6 dd)).1 6) 1) (ty := .int) rfl (by decide) (mset_6 _ _ _) rfl rfl rfl rfl q1552 dX2_drawn_230 (np := 233) rfl ?_
                                      refine WG.weak (S' := MH D ad h0 (sN (cpS (cpS σ 41 fb) 3 g) 6 (day (((sN (cpS (cpS σ 41 fb) 3 g) 6 dd)).1 6) 1))) (fun h hs => by rw [sN_sN] at hs; exact hs) ?_
                                      refine g_iinc F (v := (nI (k + 1))) (lv' := [some (.ref (ad 0)), some (.int sd), some (.int (nI (q.toNatClampNeg))), some (.int o), some (.int (nI (σ.1 6))), some (.int ((y1 * 1103515245) + (nI (12345)))), some (.int sm), some (.int (nI nn)), some (.int (nI (k + 1))), some (.int (nI ((drR (σ.1 2) (drZ y1)).toNatClampNeg)))]) dX2_drawn_233 rfl (nI_add _ _) (by decide) rfl rfl (np := 236) rfl ?_
                                      refine g_goto F dX2_drawn_236 (np := 121) (by decide) ?_
                                      refine WG.dropL (i := 9) (lv' := [some (.ref (ad 0)), some (.int sd), some (.int (nI (q.toNatClampNeg))), some (.int o), some (.int (nI (σ.1 6))), some (.int ((y1 * 1103515245) + (nI (12345)))), some (.int sm), some (.int (nI nn)), some (.int (nI (k + 1))), none]) rfl ?_
                                      exact ih121 ((y1 * 1103515245) + (nI (12345))) (k + 1) g ((day (((sN (cpS (cpS σ 41 fb) 3 g) 6 dd)).1 6) 1)) (by unfold drK; rw [← k1]; rfl) (by unfold drK; rw [← k1, ← k2, ← k3]; unfold drG; first | (rw [pif_f (fun z => z.1 ((nI_le0 (by omega)).mp c172))]; done) | (rw [pif_f (fun z => c181 z.2.1)]; done) | (rw [pif_f (fun z => z.2.2.1 c195)]; done) | (rw [pif_f (fun z => absurd z.2.2.2 (Int32.not_lt.mpr c210))]; done) | (rw [pif_t ⟨hm0, c181, c195, Int32.not_le.mp c210⟩])) (by rw [k3]; exact day_s _ _) (by omega) (by omega)
                                    · refine g_iload F dX2_drawn_198 rfl (np := 200) rfl ?_
                                      refine g_bipush F (v := (nI 16)) dX2_drawn_200 (by decide) (np := 202) rfl ?_
                                      refine g_iushr F dX2_drawn_202 (np := 203) rfl ?_
                                      refine g_bipush F (v := (nI 12)) dX2_drawn_203 (by decide) (np := 205) rfl ?_
                                      refine g_irem F dX2_drawn_205 (by decide) (np := 206) rfl ?_
                                      refine g_iload_n F dX2_drawn_206 rfl rfl (np := 207) rfl ?_
                                      refine g_bipush F (v := (nI 100)) dX2_drawn_207 (by decide) (np := 209) rfl ?_
                                      refine g_iremN F (by omega) (by decide) (by decide) dX2_drawn_209 (np := 210) rfl ?_
                                      refine g_icmp_ge F dX2_drawn_210 (tp := 224) (by decide) (np := 213) rfl (fun c210 => ?_) (fun c210 => ?_)
                                      · refine g_aload_n F dX2_drawn_224 rfl rfl (np := 225) rfl ?_
                                        refine g_aload_n F dX2_drawn_225 rfl rfl (np := 226) rfl ?_
                                        refine g_iconst F (v := (nI 1)) dX2_drawn_226 (by decide) (np := 227) rfl ?_
                                        refine g_runV F (C := RX2) (ci := 2) (T0 := TX2) (N := 42) (rest := [.ref (ad 0)]) (ct_X2_ahead hE ((sN (cpS (cpS σ 41 fb) 3 g) 6 dd)) 1 (by omega) (by show dd < 2 ^ 30; rw [k3]; have := day_le (σ.1 6) k; omega)) (lw_V q1836 q1838 qs78 q102 q1839) hcV_X2_ahead ⟨Nat.le_of_ble_eq_true rfl, Nat.le_of_ble_eq_true rfl⟩ rfl (fun h hs => hs.obj) rfl rfl (Nat.le_of_ble_eq_true rfl) dX2_drawn_227 ⟨Nat.le_of_ble_eq_true rfl, Nat.le_of_ble_eq_true rfl⟩ (np := 230) rfl (k_RI ?_)
                                        refine h_put F (k := 6) (n := day (((sN (cpS (cpS σ 41 fb) 3 g) 6 dd)).1 6) 1) (ty := .int) rfl (by decide) (mset_6 _ _ _) rfl rfl rfl rfl q1552 dX2_drawn_230 (np := 233) rfl ?_
                                        refine WG.weak (S' := MH D ad h0 (sN (cpS (cpS σ 41 fb) 3 g) 6 (day (((sN (cpS (cpS σ 41 fb) 3 g) 6 dd)).1 6) 1))) (fun h hs => by rw [sN_sN] at hs; exact hs) ?_
                                        refine g_iinc F (v := (nI (k + 1))) (lv' := [some (.ref (ad 0)), some (.int sd), some (.int (nI (q.toNatClampNeg))), some (.int o), some (.int (nI (σ.1 6))), some (.int ((y1 * 1103515245) + (nI (12345)))), some (.int sm), some (.int (nI nn)), some (.int (nI (k + 1))), some (.int (nI ((drR (σ.1 2) (drZ y1)).toNatClampNeg)))]) dX2_drawn_233 rfl (nI_add _ _) (by decide) rfl rfl (np := 236) rfl ?_
                                        refine g_goto F dX2_drawn_236 (np := 121) (by decide) ?_
                                        refine WG.dropL (i := 9) (lv' := [some (.ref (ad 0)), some (.int sd), some (.int (nI (q.toNatClampNeg))), some (.int o), some (.int (nI (σ.1 6))), some (.int ((y1 * 1103515245) + (nI (12345)))), some (.int sm), some (.int (nI nn)), some (.int (nI (k + 1))), none]) rfl ?_
                                        exact ih121 ((y1 * 1103515245) + (nI (12345))) (k + 1) g ((day (((sN (cpS (cpS σ 41 fb) 3 g) 6 dd)).1 6) 1)) (by unfold drK; rw [← k1]; rfl) (by unfold drK; rw [← k1, ← k2, ← k3]; unfold drG; first | (rw [pif_f (fun z => z.1 ((nI_le0 (by omega)).mp c172))]; done) | (rw [pif_f (fun z => c181 z.2.1)]; done) | (rw [pif_f (fun z => z.2.2.1 c195)]; done) | (rw [pif_f (fun z => absurd z.2.2.2 (Int32.not_lt.mpr c210))]; done) | (rw [pif_t ⟨hm0, c181, c195, Int32.not_le.mp c210⟩])) (by rw [k3]; exact day_s _ _) (by omega) (by omega)
                                      · refine g_aload_n F dX2_drawn_213 rfl rfl (np := 214) rfl ?_
                                        refine h_get F (k := 3) (v := .ref (ad 3)) (by decide) rfl q1549 dX2_drawn_214 (np := 217) rfl ?_
                                        refine g_bipush F (v := (nI 60)) dX2_drawn_217 (by decide) (np := 219) rfl ?_
                                        refine g_iload F dX2_drawn_219 rfl (np := 221) rfl ?_
                                        refine g_iaddN F dX2_drawn_221 (np := 222) rfl ?_
                                        refine g_iconst F (v := (nI 1)) dX2_drawn_222 (by decide) (np := 223) rfl ?_
                                        refine h_ast F (k := 3) (i := 60 + ((drR (σ.1 2) (drZ y1)).toNatClampNeg)) (L := 75) rfl rfl (by decide) (by omega) rfl dX2_drawn_223 (by decide) (by decide) (np := 224) rfl ?_
                                        refine WG.weak (S' := MH D ad h0 (sN (cpS (cpS σ 41 fb) 3 (va_up g (60 + ((drR (σ.1 2) (drZ y1)).toNatClampNeg)) (nI (1)))) 6 dd)) (fun h hs => by rw [cpS_sA]; exact hs) ?_
                                        refine g_aload_n F dX2_drawn_224 rfl rfl (np := 225) rfl ?_
                                        refine g_aload_n F dX2_drawn_225 rfl rfl (np := 226) rfl ?_
                                        refine g_iconst F (v := (nI 1)) dX2_drawn_226 (by decide) (np := 227) rfl ?_
                                        refine g_runV F (C := RX2) (ci := 2) (T0 := TX2) (N := 42) (rest := [.ref (ad 0)]) (ct_X2_ahead hE (sN (cpS (cpS σ 41 fb) 3 (va_up g (60 + ((drR (σ.1 2) (drZ y1)).toNatClampNeg)) (nI (1)))) 6 dd) 1 (by omega) (by show dd < 2 ^ 30; rw [k3]; have := day_le (σ.1 6) k; omega)) (lw_V q1836 q1838 qs78 q102 q1839) hcV_X2_ahead ⟨Nat.le_of_ble_eq_true rfl, Nat.le_of_ble_eq_true rfl⟩ rfl (fun h hs => hs.obj) rfl rfl (Nat.le_of_ble_eq_true rfl) dX2_drawn_227 ⟨Nat.le_of_ble_eq_true rfl, Nat.le_of_ble_eq_true rfl⟩ (np := 230) rfl (k_RI ?_)
                                        refine h_put F (k := 6) (n := day ((sN (cpS (cpS σ 41 fb) 3 (va_up g (60 + ((drR (σ.1 2) (drZ y1)).toNatClampNeg)) (nI (1)))) 6 dd).1 6) 1) (ty := .int) rfl (by decide) (mset_6 _ _ _) rfl rfl rfl rfl q1552 dX2_drawn_230 (np := 233) rfl ?_
                                        refine WG.weak (S' := MH D ad h0 (sN (cpS (cpS σ 41 fb) 3 (va_up g (60 + ((drR (σ.1 2) (drZ y1)).toNatClampNeg)) (nI (1)))) 6 (day ((sN (cpS (cpS σ 41 fb) 3 (va_up g (60 + ((drR (σ.1 2) (drZ y1)).toNatClampNeg)) (nI (1)))) 6 dd).1 6) 1))) (fun h hs => by rw [sN_sN] at hs; exact hs) ?_
                                        refine g_iinc F (v := (nI (k + 1))) (lv' := [some (.ref (ad 0)), some (.int sd), some (.int (nI (q.toNatClampNeg))), some (.int o), some (.int (nI (σ.1 6))), some (.int ((y1 * 1103515245) + (nI (12345)))), some (.int sm), some (.int (nI nn)), some (.int (nI (k + 1))), some (.int (nI ((drR (σ.1 2) (drZ y1)).toNatClampNeg)))]) dX2_drawn_233 rfl (nI_add _ _) (by decide) rfl rfl (np := 236) rfl ?_
                                        refine g_goto F dX2_drawn_236 (np := 121) (by decide) ?_
                                        refine WG.dropL (i := 9) (lv' := [some (.ref (ad 0)), some (.int sd), some (.int (nI (q.toNatClampNeg))), some (.int o), some (.int (nI (σ.1 6))), some (.int ((y1 * 1103515245) + (nI (12345)))), some (.int sm), some (.int (nI nn)), some (.int (nI (k + 1))), none]) rfl ?_
                                        exact ih121 ((y1 * 1103515245) + (nI (12345))) (k + 1) ((va_up g (60 + ((drR (σ.1 2) (drZ y1)).toNatClampNeg)) (nI (1)))) ((day ((sN (cpS (cpS σ 41 fb) 3 (va_up g (60 + ((drR (σ.1 2) (drZ y1)).toNatClampNeg)) (nI (1)))) 6 dd).1 6) 1)) (by unfold drK; rw [← k1]; rfl) (by unfold drK; rw [← k1, ← k2, ← k3]; unfold drG; first | (rw [pif_f (fun z => z.1 ((nI_le0 (by omega)).mp c172))]; done) | (rw [pif_f (fun z => c181 z.2.1)]; done) | (rw [pif_f (fun z => z.2.2.1 c195)]; done) | (rw [pif_f (fun z => absurd z.2.2.2 (Int32.not_lt.mpr c210))]; done) | (rw [pif_t ⟨hm0, c181, c195, Int32.not_le.mp c210⟩])) (by rw [k3]; exact day_s _ _) (by omega) (by omega)
                              refine g_aload_n F dX2_drawn_145 rfl rfl (np := 146) rfl ?_
                              refine h_get F (k := 2) (v := .int (nI (σ.1 2))) (by decide) rfl q1548 dX2_drawn_146 (np := 149) rfl ?_
                              refine g_if_neN F (by omega) dX2_drawn_149 (tp := 156) (by decide) (np := 152) rfl (fun c149 => ?_) (fun c149 => ?_)
                              · refine g_iload F dX2_drawn_156 rfl (np := 158) rfl ?_
                                refine g_bipush F (v := (nI 8)) dX2_drawn_158 (by decide) (np := 160) rfl ?_
                                refine g_iushr F dX2_drawn_160 (np := 161) rfl ?_
                                refine g_aload_n F dX2_drawn_161 rfl rfl (np := 162) rfl ?_
                                refine h_get F (k := 2) (v := .int (nI (σ.1 2))) (by decide) rfl q1548 dX2_drawn_162 (np := 165) rfl ?_
                                refine g_irem F dX2_drawn_165 (by exact fun z => c149 ((nI_eq (by omega) (by decide)).mp (z.trans nI_0.symm))) (np := 166) rfl ?_
                                exact J166 (((((y1 * 1103515245) + (nI (12345))).toUInt32 >>> ((nI (8)).toUInt32 &&& Int32.toUInt32 31)).toInt32) - ((((y1 * 1103515245) + (nI (12345))).toUInt32 >>> ((nI (8)).toUInt32 &&& Int32.toUInt32 31)).toInt32) / (nI (σ.1 2)) * (nI (σ.1 2))) (by first | exact fun z => absurd c149 z | exact fun _ => rfl)
                              · refine g_iconst F (v := (nI 0)) dX2_drawn_152 (by decide) (np := 153) rfl ?_
                                refine g_goto F dX2_drawn_153 (np := 166) (by decide) ?_
                                exact J166 (nI (0)) (by first | exact fun z => absurd c149 z | exact fun _ => rfl)
                        refine WG.weak (S' := MH D ad h0 (sN (cpS (cpS σ 41 fb) 3 (σ.2.1 3)) 6 (σ.1 6))) (fun h hs => by rw [show sN (cpS (cpS σ 41 fb) 3 (σ.2.1 3)) 6 (σ.1 6) = cpS σ 41 fb from dr_in (cpS σ 41 fb)]; exact hs) ?_
                        exact L121 _ y 0 ((σ.2.1 3)) ((σ.1 6)) (by rfl) (by rfl) (by exact (day_0 ht99).symm) (by exact Nat.zero_le _) (Nat.lt_succ_self _)
                  exact L108 _ sd (nI (0)) 0 (by rfl) (by rfl) (by exact Nat.zero_le _) (Nat.lt_succ_self _)
                · refine g_aload_n F dX2_drawn_76 rfl rfl (np := 77) rfl ?_
                  refine h_get F (k := 41) (v := .ref (ad 41)) (by decide) rfl q1587 dX2_drawn_77 (np := 80) rfl ?_
                  refine g_iload F dX2_drawn_80 rfl (np := 82) rfl ?_
                  refine g_aload_n F dX2_drawn_82 rfl rfl (np := 83) rfl ?_
                  refine h_get F (k := 3) (v := .ref (ad 3)) (by decide) rfl q1549 dX2_drawn_83 (np := 86) rfl ?_
                  refine g_bipush F (v := (nI 60)) dX2_drawn_86 (by decide) (np := 88) rfl ?_
                  refine g_iload F dX2_drawn_88 rfl (np := 90) rfl ?_
                  refine g_iaddN F dX2_drawn_90 (np := 91) rfl ?_
                  refine h_ald F (k := 3) (i := 60 + i) (L := 75) (v := σ.2.1 3 (60 + i)) rfl rfl (by decide) (by omega) rfl rfl dX2_drawn_91 (by decide) (by decide) (np := 92) rfl ?_
                  refine h_ast F (k := 41) (i := i) (L := 15) rfl rfl (by decide) (by omega) rfl dX2_drawn_92 (by decide) (by decide) (np := 93) rfl ?_
                  refine WG.weak (S' := MH D ad h0 (cpS σ 41 (va_up fb i (σ.2.1 3 (60 + i))))) (fun h hs => by rw [cpS_sA]; exact hs) ?_
                  refine g_iinc F (v := (nI (i + 1))) (lv' := [some (.ref (ad 0)), some (.int sd), some (.int (nI (q.toNatClampNeg))), some (.int o), some (.int (nI (σ.1 6))), some (.int (nI (i + 1))), none, none, none, none]) dX2_drawn_93 rfl (nI_add _ _) (by decide) rfl rfl (np := 96) rfl ?_
                  refine g_goto F dX2_drawn_96 (np := 67) (by decide) ?_
                  exact ih67 (i + 1) ((va_up fb i (σ.2.1 3 (60 + i)))) (by exact cp_step (P := fun j => σ.2.1 3 (60 + j)) h1 rfl) (by omega) (by omega)
            refine WG.weak (S' := MH D ad h0 (cpS σ 41 (σ.2.1 41))) (fun h hs => by rw [cpS_id]; exact hs) ?_
            exact L67 _ 0 ((σ.2.1 41)) (by intro j; rw [if_neg (Nat.not_lt_zero j)]) (by omega) (Nat.lt_succ_self _)
          refine g_iload_n F dX2_drawn_43 rfl rfl (np := 44) rfl ?_
          refine g_iconst F (v := (-1)) dX2_drawn_44 (by decide) (np := 45) rfl ?_
          refine g_icmp_eq F dX2_drawn_45 (tp := 58) (by decide) (np := 48) rfl (fun c45 => ?_) (fun c45 => ?_)
          · exact J58  (by exact ⟨c1, c15, c31, c40, by first | exact Or.inl c45 | exact Or.inr c53⟩)
          · refine g_aload_n F dX2_drawn_48 rfl rfl (np := 49) rfl ?_
            refine g_iload_n F dX2_drawn_49 rfl rfl (np := 50) rfl ?_
            refine g_runV F (C := RX2) (ci := 2) (T0 := TX2) (N := 42) (rest := []) (ct_X2_isOwner hE σ o (by omega)) (lw_V q1688 q1690 qs54 q102 q1691) hcV_X2_isOwner ⟨Nat.le_of_ble_eq_true rfl, Nat.le_of_ble_eq_true rfl⟩ rfl (fun h hs => hs.obj) rfl rfl (Nat.le_of_ble_eq_true rfl) dX2_drawn_50 ⟨Nat.le_of_ble_eq_true rfl, Nat.le_of_ble_eq_true rfl⟩ (np := 53) rfl (k_RI ?_)
            refine g_if_neB F dX2_drawn_53 (tp := 58) (by decide) (np := 56) rfl (fun c53 => ?_) (fun c53 => ?_)
            · exact J58  (by exact ⟨c1, c15, c31, c40, by first | exact Or.inl c45 | exact Or.inr c53⟩)
            · refine g_iconst F (v := (-1)) dX2_drawn_56 (by decide) (np := 57) rfl ?_
              have hσ : σ = (gDrawn σ q o) := by unfold gDrawn; rw [pif_f (fun z => by obtain ⟨z1, z2, z3, z4, z5⟩ := z; first | exact z1 c1 | exact c15 z2 | exact c31 z3 | exact z4 c40 | exact z5.elim c45 c53)]
              have hv : -1 = rDrawn L σ sd q o := by unfold rDrawn; rw [pif_f (fun z => by obtain ⟨z1, z2, z3, z4, z5⟩ := z; first | exact z1 c1 | exact c15 z2 | exact c31 z3 | exact z4 c40 | exact z5.elim c45 c53)]
              exact g_iret F hr rfl (Nat.le_of_ble_eq_true rfl) (Nat.le_of_ble_eq_true rfl) dX2_drawn_57 (fun h hs => by rw [← hT]; exact ⟨congrArg (fun z => some (Value.int z)) hv, (hσ ▸ hs)⟩)
