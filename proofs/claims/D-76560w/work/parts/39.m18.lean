/-! WALKS (printed by walk.py): law -/
set_option maxRecDepth 100000
set_option maxRecDepth 100000 in
theorem ct_X2_law {l : Launch} {D : va_G} {E : State → Prop} {B : Nat} (hE : Stab E) {ad : Nat → Nat} {h0 : AH} (σ : MSt)   (htp : σ.1 7 ≤ 120) : Ct l D E B yX2_law cX2_law 4 (some .int) 45 935 0 0 [.ref (ad 0)] (MH D ad h0 σ) (RE (fun r σ' => lawPost σ r σ') (fun _ σ' => MH D ad h0 σ')) := by
  refine Ct.of (nL := 4) (lv := [some (.ref (ad 0)), none, none, none]) (by decide) (Nat.le_of_ble_eq_true rfl) hE 3 rfl ?_
  generalize hT : RE (fun r σ' => lawPost σ r σ') (fun _ σ' => MH D ad h0 σ') = T
  intro zp ze zs zm zb zt zc F hr hnm
  generalize ([.ref (ad 0)] : List Value).toArray = za at F ⊢
  refine g_aload_n F dX2_law_0 rfl rfl (np := 1) rfl ?_
  refine g_iconst F (v := (nI 0)) dX2_law_1 (by decide) (np := 2) rfl ?_
  refine h_put F (k := 15) (n := 0) (ty := .int) rfl (by decide) (mset_15 _ _ _) rfl rfl rfl rfl q1561 dX2_law_2 (np := 5) rfl ?_
  refine g_aload_n F dX2_law_5 rfl rfl (np := 6) rfl ?_
  refine g_iconst F (v := (nI 0)) dX2_law_6 (by decide) (np := 7) rfl ?_
  refine h_put F (k := 16) (n := 0) (ty := .int) rfl (by decide) (mset_16 _ _ _) rfl rfl rfl rfl q1562 dX2_law_7 (np := 10) rfl ?_
  refine g_aload_n F dX2_law_10 rfl rfl (np := 11) rfl ?_
  refine g_iconst F (v := (nI 0)) dX2_law_11 (by decide) (np := 12) rfl ?_
  refine h_put F (k := 17) (n := 0) (ty := .int) rfl (by decide) (mset_17 _ _ _) rfl rfl rfl rfl q1563 dX2_law_12 (np := 15) rfl ?_
  refine g_aload_n F dX2_law_15 rfl rfl (np := 16) rfl ?_
  refine g_iconst F (v := (nI 0)) dX2_law_16 (by decide) (np := 17) rfl ?_
  refine h_put F (k := 18) (n := 0) (ty := .int) rfl (by decide) (mset_18 _ _ _) rfl rfl rfl rfl q1564 dX2_law_17 (np := 20) rfl ?_
  refine g_aload_n F dX2_law_20 rfl rfl (np := 21) rfl ?_
  refine g_runV F (C := RX2) (ci := 2) (T0 := TX2) (N := 42) (rest := []) (ct_X2_isLine hE (sN (sN (sN (sN σ 15 0) 16 0) 17 0) 18 0) (by exact htp) (by exact Nat.zero_le _) (by exact Nat.le_refl _) (by rfl) (by exact Nat.zero_le _)) (lw_V q1756 q1758 qs62 q102 q1759) hcV_X2_isLine ⟨Nat.le_of_ble_eq_true rfl, Nat.le_of_ble_eq_true rfl⟩ rfl (fun h hs => hs.obj) rfl rfl (Nat.le_of_ble_eq_true rfl) dX2_law_21 ⟨Nat.le_of_ble_eq_true rfl, Nat.le_of_ble_eq_true rfl⟩ (np := 24) rfl (k_RE (fun r0 σ0 hp0 => ?_))
  obtain ⟨b0, ls0, hI0⟩ := lnI_step (lnsR_0 σ) (Nat.zero_le _) (Nat.zero_le _) (by omega) rfl hp0
  refine g_istore_n F (lv' := [some (.ref (ad 0)), some (.int r0), none, none]) dX2_law_24 rfl (by decide) rfl rfl (np := 25) rfl ?_
  have L25 : ∀ (zn : Nat) (r : Int32) (b : Nat) (ls : List (List Nat × List Nat)) (k : Nat) (σ1 : MSt), (lnI σ b ls k r σ1) → k < zn → WG zp l ze ({ frames := 45, cells := 0, slots := 0, locals := 935 } : Room) zs zm za zb zt zc D B 4 (MQ zb (QT D B T) za zs 0 0 (zA B)) (MH D ad h0 σ1) 0 0 25 [some (.ref (ad 0)), some (.int r), none, none] [] := by
    intro zn
    induction zn with
    | zero => intro r b ls k σ1 h hm; exact absurd hm (Nat.not_lt_zero _)
    | succ zn ih25 =>
      intro r b ls k σ1 h hm
      refine g_iload_n F dX2_law_25 rfl rfl (np := 26) rfl ?_
      refine g_if_eq F dX2_law_26 (tp := 46) (by decide) (np := 29) rfl (fun c26 => ?_) (fun c26 => ?_)
      · obtain ⟨v1, v2, v3⟩ := lnI_b h
        refine WG.weak (S' := MH D ad h0 σ1) (fun h hs => by rw [show σ1 = σ1 from by first | rfl | exact (emS_0 σ1).symm]; exact hs) ?_
        refine g_iload_n F dX2_law_46 rfl rfl (np := 47) rfl ?_
        have J66 : ∀ (so : Nat), ((so = 1 ∧ lawSo σ ∧ lnsR σ (lawRes σ).2.2 (σ1.1 15) σ1 ∧ σ1.1 15 ≤ 120) ∨ (so = 0 ∧ ¬ lawSo σ ∧ gar σ σ1 ∧ (lawRes σ).2.1 = σ1.1 15)) → WG zp l ze ({ frames := 45, cells := 0, slots := 0, locals := 935 } : Room) zs zm za zb zt zc D B 4 (MQ zb (QT D B T) za zs 0 0 (zA B)) (MH D ad h0 σ1) 0 0 66 [some (.ref (ad 0)), some (.int r), none, none] [.int (nI so)] := by
          intro so hso
          refine g_istore_n F (lv' := [some (.ref (ad 0)), some (.int r), some (.int (nI so)), none]) dX2_law_66 rfl (by decide) rfl rfl (np := 67) rfl ?_
          refine g_aload_n F dX2_law_67 rfl rfl (np := 68) rfl ?_
          refine g_iconst F (v := (nI 0)) dX2_law_68 (by decide) (np := 69) rfl ?_
          refine h_put F (k := 7) (n := 0) (ty := .int) rfl (by decide) (mset_7 _ _ _) rfl rfl rfl rfl q1553 dX2_law_69 (np := 72) rfl ?_
          refine g_iload_n F dX2_law_72 rfl rfl (np := 73) rfl ?_
          refine g_if_neN F (by omega) dX2_law_73 (tp := 84) (by decide) (np := 76) rfl (fun c73 => ?_) (fun c73 => ?_)
          · obtain ⟨-, y1, y2, y3⟩ := hso.resolve_right (fun z => c73 z.1)
            have hA := And.intro y1 (And.intro y2.1 y2)
            obtain ⟨u1, u2, u3, u4, u5, u6, u7⟩ := y2
            refine g_aload_n F dX2_law_84 rfl rfl (np := 85) rfl ?_
            refine g_iconst F (v := (nI 1)) dX2_law_85 (by decide) (np := 86) rfl ?_
            refine h_put F (k := 9) (n := 1) (ty := .boolean) rfl (by decide) (mset_9 _ _ _) rfl rfl rfl rfl q1555 dX2_law_86 (np := 89) rfl ?_
            refine g_aload_n F dX2_law_89 rfl rfl (np := 90) rfl ?_
            refine g_aload_n F dX2_law_90 rfl rfl (np := 91) rfl ?_
            refine h_get F (k := 18) (v := .int (nI (σ1.1 18))) (by decide) rfl q1564 dX2_law_91 (np := 94) rfl ?_
            refine h_put F (k := 10) (n := σ1.1 18) (ty := .int) rfl (by decide) (mset_10 _ _ _) rfl rfl rfl rfl q1556 dX2_law_94 (np := 97) rfl ?_
            refine g_iconst F (v := (nI 0)) dX2_law_97 (by decide) (np := 98) rfl ?_
            refine g_istore_n F (lv' := [some (.ref (ad 0)), some (.int r), some (.int (nI so)), some (.int (nI 0))]) dX2_law_98 rfl (by decide) rfl rfl (np := 99) rfl ?_
            have L99 : ∀ (zn : Nat) (i : Nat) (f : Nat → Int32) (g : Nat → Int32) (e : Nat → Int32), (∀ j, f j = if j < i then σ1.2.1 19 j else σ1.2.1 11 j) → (∀ j, g j = if j < i then σ1.2.1 20 j else σ1.2.1 12 j) → (∀ j, e j = if j < i then σ1.2.1 21 j else σ1.2.1 13 j) → (i ≤ σ1.1 18) → σ1.1 18 - i < zn → WG zp l ze ({ frames := 45, cells := 0, slots := 0, locals := 935 } : Room) zs zm za zb zt zc D B 4 (MQ zb (QT D B T) za zs 0 0 (zA B)) (MH D ad h0 (cpS (cpS (cpS (sN (sN (sN σ1 7 0) 9 1) 10 (σ1.1 18)) 11 f) 12 g) 13 e)) 0 0 99 [some (.ref (ad 0)), some (.int r), some (.int (nI so)), some (.int (nI i))] [] := by
              intro zn
              induction zn with
              | zero => intro i f g e f1 g1 e1 i1 hm; exact absurd hm (Nat.not_lt_zero _)
              | succ zn ih99 =>
                intro i f g e f1 g1 e1 i1 hm
                refine g_iload_n F dX2_law_99 rfl rfl (np := 100) rfl ?_
                refine g_aload_n F dX2_law_100 rfl rfl (np := 101) rfl ?_
                refine h_get F (k := 10) (v := .int (nI (σ1.1 18))) (by decide) rfl q1556 dX2_law_101 (np := 104) rfl ?_
                refine g_icmp_geN F (by omega) (by omega) dX2_law_104 (tp := 149) (by decide) (np := 107) rfl (fun c104 => ?_) (fun c104 => ?_)
                · refine g_iconst F (v := (nI 0)) dX2_law_149 (by decide) (np := 150) rfl ?_
                  refine g_istore_n F (lv' := [some (.ref (ad 0)), some (.int r), some (.int (nI so)), some (.int (nI 0))]) dX2_law_150 rfl (by decide) rfl rfl (np := 151) rfl ?_
                  have L151 : ∀ (zn : Nat) (i2 : Nat) (c : Nat → Int32), (∀ j, c j = if j < i2 then σ1.2.1 22 j else σ1.2.1 14 j) → (i2 ≤ σ1.1 17) → σ1.1 17 - i2 < zn → WG zp l ze ({ frames := 45, cells := 0, slots := 0, locals := 935 } : Room) zs zm za zb zt zc D B 4 (MQ zb (QT D B T) za zs 0 0 (zA B)) (MH D ad h0 (cpS (cpS (cpS (cpS (sN (sN (sN σ1 7 0) 9 1) 10 (σ1.1 18)) 11 f) 12 g) 13 e) 14 c)) 0 0 151 [some (.ref (ad 0)), some (.int r), some (.int (nI so)), some (.int (nI i2))] [] := by
                    intro zn
                    induction zn with
                    | zero => intro i2 c c1 i3 hm; exact absurd hm (Nat.not_lt_zero _)
                    | succ zn ih151 =>
                      intro i2 c c1 i3 hm
                      refine g_iload_n F dX2_law_151 rfl rfl (np := 152) rfl ?_
                      refine g_aload_n F dX2_law_152 rfl rfl (np := 153) rfl ?_
                      refine h_get F (k := 17) (v := .int (nI (σ1.1 17))) (by decide) rfl q1563 dX2_law_153 (np := 156) rfl ?_
                      refine g_icmp_geN F (by omega) (by omega) dX2_law_156 (tp := 177) (by decide) (np := 159) rfl (fun c156 => ?_) (fun c156 => ?_)
                      · have hf : ∀ j, j < σ1.1 18 → f j = σ1.2.1 19 j := fun j hj => by rw [f1, if_pos (by omega)]
                        have hg : ∀ j, j < σ1.1 18 → g j = σ1.2.1 20 j := fun j hj => by rw [g1, if_pos (by omega)]
                        have he : ∀ j, j < σ1.1 18 → e j = σ1.2.1 21 j := fun j hj => by rw [e1, if_pos (by omega)]
                        have hc : ∀ j, j < σ1.1 17 → c j = σ1.2.1 22 j := fun j hj => by rw [c1, if_pos (by omega)]
                        refine g_iconst F (v := (nI 1)) dX2_law_177 (by decide) (np := 178) rfl ?_
                        exact g_iret F hr rfl (Nat.le_of_ble_eq_true rfl) (Nat.le_of_ble_eq_true rfl) dX2_law_178 (fun h hs => by rw [← hT]; exact ⟨_, (cpS (cpS (cpS (cpS (sN (sN (sN σ1 7 0) 9 1) 10 (σ1.1 18)) 11 f) 12 g) 13 e) 14 c), Or.inl ⟨hA.1, rfl, rfl, law_gar hA.2.1 f g e c, law_fin hA.2.2 y3 hf hg he hc⟩, rfl, hs⟩)
                      · refine g_aload_n F dX2_law_159 rfl rfl (np := 160) rfl ?_
                        refine h_get F (k := 14) (v := .ref (ad 14)) (by decide) rfl q1560 dX2_law_160 (np := 163) rfl ?_
                        refine g_iload_n F dX2_law_163 rfl rfl (np := 164) rfl ?_
                        refine g_aload_n F dX2_law_164 rfl rfl (np := 165) rfl ?_
                        refine h_get F (k := 22) (v := .ref (ad 22)) (by decide) rfl q1568 dX2_law_165 (np := 168) rfl ?_
                        refine g_iload_n F dX2_law_168 rfl rfl (np := 169) rfl ?_
                        refine h_ald F (k := 22) (i := i2) (L := 200) (v := σ1.2.1 22 i2) rfl rfl (by decide) (by omega) rfl rfl dX2_law_169 (by decide) (by decide) (np := 170) rfl ?_
                        refine h_ast F (k := 14) (i := i2) (L := 200) rfl rfl (by decide) (by omega) rfl dX2_law_170 (by decide) (by decide) (np := 171) rfl ?_
                        refine WG.weak (S' := MH D ad h0 (cpS (cpS (cpS (cpS (sN (sN (sN σ1 7 0) 9 1) 10 (σ1.1 18)) 11 f) 12 g) 13 e) 14 (va_up c i2 (σ1.2.1 22 i2)))) (fun h hs => by rw [cpS_sA]; exact hs) ?_
                        refine g_iinc F (v := (nI (i2 + 1))) (lv' := [some (.ref (ad 0)), some (.int r), some (.int (nI so)), some (.int (nI (i2 + 1)))]) dX2_law_171 rfl (nI_add _ _) (by decide) rfl rfl (np := 174) rfl ?_
                        refine g_goto F dX2_law_174 (np := 151) (by decide) ?_
                        exact ih151 (i2 + 1) ((va_up c i2 (σ1.2.1 22 i2))) (by exact cp_step c1 rfl) (by omega) (by omega)
                  refine WG.weak (S' := MH D ad h0 (cpS (cpS (cpS (cpS (sN (sN (sN σ1 7 0) 9 1) 10 (σ1.1 18)) 11 f) 12 g) 13 e) 14 (σ1.2.1 14))) (fun h hs => by rw [show σ1.2.1 14 = ((cpS (cpS (cpS (sN (sN (sN σ1 7 0) 9 1) 10 (σ1.1 18)) 11 f) 12 g) 13 e)).2.1 14 from rfl, cpS_id]; exact hs) ?_
                  exact L151 _ 0 ((σ1.2.1 14)) (by intro j; rw [if_neg (Nat.not_lt_zero j)]) (by exact Nat.zero_le _) (Nat.lt_succ_self _)
                · refine g_aload_n F dX2_law_107 rfl rfl (np := 108) rfl ?_
                  refine h_get F (k := 11) (v := .ref (ad 11)) (by decide) rfl q1557 dX2_law_108 (np := 111) rfl ?_
                  refine g_iload_n F dX2_law_111 rfl rfl (np := 112) rfl ?_
                  refine g_aload_n F dX2_law_112 rfl rfl (np := 113) rfl ?_
                  refine h_get F (k := 19) (v := .ref (ad 19)) (by decide) rfl q1565 dX2_law_113 (np := 116) rfl ?_
                  refine g_iload_n F dX2_law_116 rfl rfl (np := 117) rfl ?_
                  refine h_ald F (k := 19) (i := i) (L := 61) (v := σ1.2.1 19 i) rfl rfl (by decide) (by omega) rfl rfl dX2_law_117 (by decide) (by decide) (np := 118) rfl ?_
                  refine h_ast F (k := 11) (i := i) (L := 60) rfl rfl (by decide) (by omega) rfl dX2_law_118 (by decide) (by decide) (np := 119) rfl ?_
                  refine WG.weak (S' := MH D ad h0 (cpS (cpS (cpS (sN (sN (sN σ1 7 0) 9 1) 10 (σ1.1 18)) 11 (va_up f i (σ1.2.1 19 i))) 12 g) 13 e)) (fun h hs => by rw [cpS_sA_ne _ (by decide), cpS_sA_ne _ (by decide), ← cpS_sA] at hs; exact hs) ?_
                  refine g_aload_n F dX2_law_119 rfl rfl (np := 120) rfl ?_
                  refine h_get F (k := 12) (v := .ref (ad 12)) (by decide) rfl q1558 dX2_law_120 (np := 123) rfl ?_
                  refine g_iload_n F dX2_law_123 rfl rfl (np := 124) rfl ?_
                  refine g_aload_n F dX2_law_124 rfl rfl (np := 125) rfl ?_
                  refine h_get F (k := 20) (v := .ref (ad 20)) (by decide) rfl q1566 dX2_law_125 (np := 128) rfl ?_
                  refine g_iload_n F dX2_law_128 rfl rfl (np := 129) rfl ?_
                  refine h_ald F (k := 20) (i := i) (L := 61) (v := σ1.2.1 20 i) rfl rfl (by decide) (by omega) rfl rfl dX2_law_129 (by decide) (by decide) (np := 130) rfl ?_
                  refine h_ast F (k := 12) (i := i) (L := 60) rfl rfl (by decide) (by omega) rfl dX2_law_130 (by decide) (by decide) (np := 131) rfl ?_
                  refine WG.weak (S' := MH D ad h0 (cpS (cpS (cpS (sN (sN (sN σ1 7 0) 9 1) 10 (σ1.1 18)) 11 (va_up f i (σ1.2.1 19 i))) 12 (va_up g i (σ1.2.1 20 i))) 13 e)) (fun h hs => by rw [cpS_sA_ne _ (by decide), ← cpS_sA] at hs; exact hs) ?_
                  refine g_aload_n F dX2_law_131 rfl rfl (np := 132) rfl ?_
                  refine h_get F (k := 13) (v := .ref (ad 13)) (by decide) rfl q1559 dX2_law_132 (np := 135) rfl ?_
                  refine g_iload_n F dX2_law_135 rfl rfl (np := 136) rfl ?_
                  refine g_aload_n F dX2_law_136 rfl rfl (np := 137) rfl ?_
                  refine h_get F (k := 21) (v := .ref (ad 21)) (by decide) rfl q1567 dX2_law_137 (np := 140) rfl ?_
                  refine g_iload_n F dX2_law_140 rfl rfl (np := 141) rfl ?_
                  refine h_ald F (k := 21) (i := i) (L := 61) (v := σ1.2.1 21 i) rfl rfl (by decide) (by omega) rfl rfl dX2_law_141 (by decide) (by decide) (np := 142) rfl ?_
                  refine h_ast F (k := 13) (i := i) (L := 60) rfl rfl (by decide) (by omega) rfl dX2_law_142 (by decide) (by decide) (np := 143) rfl ?_
                  refine WG.weak (S' := MH D ad h0 (cpS (cpS (cpS (sN (sN (sN σ1 7 0) 9 1) 10 (σ1.1 18)) 11 (va_up f i (σ1.2.1 19 i))) 12 (va_up g i (σ1.2.1 20 i))) 13 (va_up e i (σ1.2.1 21 i)))) (fun h hs => by rw [cpS_sA]; exact hs) ?_
                  refine g_iinc F (v := (nI (i + 1))) (lv' := [some (.ref (ad 0)), some (.int r), some (.int (nI so)), some (.int (nI (i + 1)))]) dX2_law_143 rfl (nI_add _ _) (by decide) rfl rfl (np := 146) rfl ?_
                  refine g_goto F dX2_law_146 (np := 99) (by decide) ?_
                  exact ih99 (i + 1) ((va_up f i (σ1.2.1 19 i))) ((va_up g i (σ1.2.1 20 i))) ((va_up e i (σ1.2.1 21 i))) (by exact cp_step f1 rfl) (by exact cp_step g1 rfl) (by exact cp_step e1 rfl) (by omega) (by omega)
            refine WG.weak (S' := MH D ad h0 (cpS (cpS (cpS (sN (sN (sN σ1 7 0) 9 1) 10 (σ1.1 18)) 11 (σ1.2.1 11)) 12 (σ1.2.1 12)) 13 (σ1.2.1 13))) (fun h hs => by rw [show cpS (cpS (cpS (sN (sN (sN σ1 7 0) 9 1) 10 (σ1.1 18)) 11 (σ1.2.1 11)) 12 (σ1.2.1 12)) 13 (σ1.2.1 13) = (sN (sN (sN σ1 7 0) 9 1) 10 (σ1.1 18)) from by rw [show σ1.2.1 11 = ((sN (sN (sN σ1 7 0) 9 1) 10 (σ1.1 18))).2.1 11 from rfl, cpS_id, show σ1.2.1 12 = ((sN (sN (sN σ1 7 0) 9 1) 10 (σ1.1 18))).2.1 12 from rfl, cpS_id, show σ1.2.1 13 = ((sN (sN (sN σ1 7 0) 9 1) 10 (σ1.1 18))).2.1 13 from rfl, cpS_id]]; exact hs) ?_
            exact L99 _ 0 ((σ1.2.1 11)) ((σ1.2.1 12)) ((σ1.2.1 13)) (by intro j; rw [if_neg (Nat.not_lt_zero j)]) (by intro j; rw [if_neg (Nat.not_lt_zero j)]) (by intro j; rw [if_neg (Nat.not_lt_zero j)]) (by exact Nat.zero_le _) (Nat.lt_succ_self _)
          · refine g_bipush F (v := (-100)) dX2_law_76 (by decide) (np := 78) rfl ?_
            refine g_aload_n F dX2_law_78 rfl rfl (np := 79) rfl ?_
            refine h_get F (k := 15) (v := .int (nI (σ1.1 15))) (by decide) rfl q1561 dX2_law_79 (np := 82) rfl ?_
            refine g_isub F dX2_law_82 (np := 83) rfl ?_
            exact g_iret F hr rfl (Nat.le_of_ble_eq_true rfl) (Nat.le_of_ble_eq_true rfl) dX2_law_83 (fun h hs => by rw [← hT]; exact ⟨_, (sN σ1 7 0), Or.inr (by obtain ⟨-, b2, b3, b4⟩ := hso.resolve_left (fun z => absurd (z.1.symm.trans c73) (by decide)); exact ⟨b2, by rw [b4], gar_sN7 b3 0⟩), rfl, hs⟩)
        refine g_if_eq F dX2_law_47 (tp := 65) (by decide) (np := 50) rfl (fun c47 => ?_) (fun c47 => ?_)
        · refine g_iconst F (v := (nI 0)) dX2_law_65 (by decide) (np := 66) rfl ?_
          exact J66 0 (by first | exact absurd c26 c47 | exact absurd c47 c26 | (have q := lnI_no h c26; exact Or.inr ⟨rfl, fun z => absurd (q.1 ▸ z.1) Bool.noConfusion, q.2.1, by rw [q.1]; exact q.2.2.symm⟩) | (have q := lnI_so h c26 (show ¬ sgnT σ b = nI 59 from by rw [← gar_sgn hg, ← s2]; exact c35); exact Or.inl ⟨rfl, ⟨by rw [q.1], by rw [q.1]; show b = σ.1 7; rw [← gar_7 hg, ← s2]; exact c58⟩, by rw [q.1, s2]; exact q.2, by omega⟩) | (have q := lnI_so h c26 (show ¬ sgnT σ b = nI 59 from by rw [← gar_sgn hg, ← s2]; exact c35); exact Or.inr ⟨rfl, fun z => c58 (by have w := z.2; rw [q.1] at w; rw [s2, gar_7 hg]; exact w), hg, by rw [q.1]; exact s2.symm⟩))
        · refine g_aload_n F dX2_law_50 rfl rfl (np := 51) rfl ?_
          refine h_get F (k := 15) (v := .int (nI (σ1.1 15))) (by decide) rfl q1561 dX2_law_51 (np := 54) rfl ?_
          refine g_aload_n F dX2_law_54 rfl rfl (np := 55) rfl ?_
          refine h_get F (k := 7) (v := .int (nI (σ1.1 7))) (by decide) rfl q1553 dX2_law_55 (np := 58) rfl ?_
          refine g_icmp_neN F (by omega) (by omega) dX2_law_58 (tp := 65) (by decide) (np := 61) rfl (fun c58 => ?_) (fun c58 => ?_)
          · refine g_iconst F (v := (nI 0)) dX2_law_65 (by decide) (np := 66) rfl ?_
            exact J66 0 (by first | exact absurd c26 c47 | exact absurd c47 c26 | (have q := lnI_no h c26; exact Or.inr ⟨rfl, fun z => absurd (q.1 ▸ z.1) Bool.noConfusion, q.2.1, by rw [q.1]; exact q.2.2.symm⟩) | (have q := lnI_so h c26 (show ¬ sgnT σ b = nI 59 from by rw [← gar_sgn hg, ← s2]; exact c35); exact Or.inl ⟨rfl, ⟨by rw [q.1], by rw [q.1]; show b = σ.1 7; rw [← gar_7 hg, ← s2]; exact c58⟩, by rw [q.1, s2]; exact q.2, by omega⟩) | (have q := lnI_so h c26 (show ¬ sgnT σ b = nI 59 from by rw [← gar_sgn hg, ← s2]; exact c35); exact Or.inr ⟨rfl, fun z => c58 (by have w := z.2; rw [q.1] at w; rw [s2, gar_7 hg]; exact w), hg, by rw [q.1]; exact s2.symm⟩))
          · refine g_iconst F (v := (nI 1)) dX2_law_61 (by decide) (np := 62) rfl ?_
            refine g_goto F dX2_law_62 (np := 66) (by decide) ?_
            exact J66 1 (by first | exact absurd c26 c47 | exact absurd c47 c26 | (have q := lnI_no h c26; exact Or.inr ⟨rfl, fun z => absurd (q.1 ▸ z.1) Bool.noConfusion, q.2.1, by rw [q.1]; exact q.2.2.symm⟩) | (have q := lnI_so h c26 (show ¬ sgnT σ b = nI 59 from by rw [← gar_sgn hg, ← s2]; exact c35); exact Or.inl ⟨rfl, ⟨by rw [q.1], by rw [q.1]; show b = σ.1 7; rw [← gar_7 hg, ← s2]; exact c58⟩, by rw [q.1, s2]; exact q.2, by omega⟩) | (have q := lnI_so h c26 (show ¬ sgnT σ b = nI 59 from by rw [← gar_sgn hg, ← s2]; exact c35); exact Or.inr ⟨rfl, fun z => c58 (by have w := z.2; rw [q.1] at w; rw [s2, gar_7 hg]; exact w), hg, by rw [q.1]; exact s2.symm⟩))
      · obtain ⟨-, hS, hbn, hbk, hR⟩ := h.resolve_right (fun z => c26 z.1)
        have hg := hS.1
        obtain ⟨s1, s2, s3, s4, s5, s6, s7⟩ := hS
        refine WG.weak (S' := MH D ad h0 (emS σ1 (σ1.1 15) [])) (fun h hs => by rw [show (emS σ1 (σ1.1 15) []) = σ1 from by exact emS_0 σ1]; exact hs) ?_
        refine g_aload_n F dX2_law_29 rfl rfl (np := 30) rfl ?_
        refine g_bipush F (v := (nI 59)) dX2_law_30 (by decide) (np := 32) rfl ?_
        refine g_runV F (C := RX2) (ci := 2) (T0 := TX2) (N := 42) (rest := []) (ct_X2_is hE (emS σ1 (σ1.1 15) []) ((sgnT σ1)) ((σ1.1 15)) (nI (59)) (by rfl) (by exact (emS_15 _ _ _).symm) (by show σ1.1 7 ≤ 120; rw [gar_7 hg]; exact htp) (by rw [emS_15, emS_7, gar_7 hg, s2]; exact hbn)) (lw_V q1799 q1801 qs72 q102 q1802) hcV_X2_is ⟨Nat.le_of_ble_eq_true rfl, Nat.le_of_ble_eq_true rfl⟩ rfl (fun h hs => hs.obj) rfl rfl (Nat.le_of_ble_eq_true rfl) dX2_law_32 ⟨Nat.le_of_ble_eq_true rfl, Nat.le_of_ble_eq_true rfl⟩ (np := 35) rfl (k_RI ?_)
        refine g_if_eqB F dX2_law_35 (tp := 46) (by decide) (np := 38) rfl (fun c35 => ?_) (fun c35 => ?_)
        · refine WG.weak (S' := MH D ad h0 (emS σ1 (σ1.1 15) [])) (fun h hs => by rw [← isS_f (σ := σ1) (b := (σ1.1 15)) (cs := []) c35]; exact hs) ?_
          obtain ⟨v1, v2, v3⟩ := lnI_b h
          refine WG.weak (S' := MH D ad h0 σ1) (fun h hs => by rw [show σ1 = (emS σ1 (σ1.1 15) []) from by first | rfl | exact (emS_0 σ1).symm]; exact hs) ?_
          refine g_iload_n F dX2_law_46 rfl rfl (np := 47) rfl ?_
          have J66 : ∀ (so : Nat), ((so = 1 ∧ lawSo σ ∧ lnsR σ (lawRes σ).2.2 (σ1.1 15) σ1 ∧ σ1.1 15 ≤ 120) ∨ (so = 0 ∧ ¬ lawSo σ ∧ gar σ σ1 ∧ (lawRes σ).2.1 = σ1.1 15)) → WG zp l ze ({ frames := 45, cells := 0, slots := 0, locals := 935 } : Room) zs zm za zb zt zc D B 4 (MQ zb (QT D B T) za zs 0 0 (zA B)) (MH D ad h0 σ1) 0 0 66 [some (.ref (ad 0)), some (.int r), none, none] [.int (nI so)] := by
            intro so hso
            refine g_istore_n F (lv' := [some (.ref (ad 0)), some (.int r), some (.int (nI so)), none]) dX2_law_66 rfl (by decide) rfl rfl (np := 67) rfl ?_
            refine g_aload_n F dX2_law_67 rfl rfl (np := 68) rfl ?_
            refine g_iconst F (v := (nI 0)) dX2_law_68 (by decide) (np := 69) rfl ?_
            refine h_put F (k := 7) (n := 0) (ty := .int) rfl (by decide) (mset_7 _ _ _) rfl rfl rfl rfl q1553 dX2_law_69 (np := 72) rfl ?_
            refine g_iload_n F dX2_law_72 rfl rfl (np := 73) rfl ?_
            refine g_if_neN F (by omega) dX2_law_73 (tp := 84) (by decide) (np := 76) rfl (fun c73 => ?_) (fun c73 => ?_)
            · obtain ⟨-, y1, y2, y3⟩ := hso.resolve_right (fun z => c73 z.1)
              have hA := And.intro y1 (And.intro y2.1 y2)
              obtain ⟨u1, u2, u3, u4, u5, u6, u7⟩ := y2
              refine g_aload_n F dX2_law_84 rfl rfl (np := 85) rfl ?_
              refine g_iconst F (v := (nI 1)) dX2_law_85 (by decide) (np := 86) rfl ?_
              refine h_put F (k := 9) (n := 1) (ty := .boolean) rfl (by decide) (mset_9 _ _ _) rfl rfl rfl rfl q1555 dX2_law_86 (np := 89) rfl ?_
              refine g_aload_n F dX2_law_89 rfl rfl (np := 90) rfl ?_
              refine g_aload_n F dX2_law_90 rfl rfl (np := 91) rfl ?_
              refine h_get F (k := 18) (v := .int (nI (σ1.1 18))) (by decide) rfl q1564 dX2_law_91 (np := 94) rfl ?_
              refine h_put F (k := 10) (n := σ1.1 18) (ty := .int) rfl (by decide) (mset_10 _ _ _) rfl rfl rfl rfl q1556 dX2_law_94 (np := 97) rfl ?_
              refine g_iconst F (v := (nI 0)) dX2_law_97 (by decide) (np := 98) rfl ?_
              refine g_istore_n F (lv' := [some (.ref (ad 0)), some (.int r), some (.int (nI so)), some (.int (nI 0))]) dX2_law_98 rfl (by decide) rfl rfl (np := 99) rfl ?_
              have L99 : ∀ (zn : Nat) (i : Nat) (f : Nat → Int32) (g : Nat → Int32) (e : Nat → Int32), (∀ j, f j = if j < i then σ1.2.1 19 j else σ1.2.1 11 j) → (∀ j, g j = if j < i then σ1.2.1 20 j else σ1.2.1 12 j) → (∀ j, e j = if j < i then σ1.2.1 21 j else σ1.2.1 13 j) → (i ≤ σ1.1 18) → σ1.1 18 - i < zn → WG zp l ze ({ frames := 45, cells := 0, slots := 0, locals := 935 } : Room) zs zm za zb zt zc D B 4 (MQ zb (QT D B T) za zs 0 0 (zA B)) (MH D ad h0 (cpS (cpS (cpS (sN (sN (sN σ1 7 0) 9 1) 10 (σ1.1 18)) 11 f) 12 g) 13 e)) 0 0 99 [some (.ref (ad 0)), some (.int r), some (.int (nI so)), some (.int (nI i))] [] := by
                intro zn
                induction zn with
                | zero => intro i f g e f1 g1 e1 i1 hm; exact absurd hm (Nat.not_lt_zero _)
                | succ zn ih99 =>
                  intro i f g e f1 g1 e1 i1 hm
                  refine g_iload_n F dX2_law_99 rfl rfl (np := 100) rfl ?_
                  refine g_aload_n F dX2_law_100 rfl rfl (np := 101) rfl ?_
                  refine h_get F (k := 10) (v := .int (nI (σ1.1 18))) (by decide) rfl q1556 dX2_law_101 (np := 104) rfl ?_
                  refine g_icmp_geN F (by omega) (by omega) dX2_law_104 (tp := 149) (by decide) (np := 107) rfl (fun c104 => ?_) (fun c104 => ?_)
                  · refine g_iconst F (v := (nI 0)) dX2_law_149 (by decide) (np := 150) rfl ?_
                    refine g_istore_n F (lv' := [some (.ref (ad 0)), some (.int r), some (.int (nI so)), some (.int (nI 0))]) dX2_law_150 rfl (by decide) rfl rfl (np := 151) rfl ?_
                    have L151 : ∀ (zn : Nat) (i2 : Nat) (c : Nat → Int32), (∀ j, c j = if j < i2 then σ1.2.1 22 j else σ1.2.1 14 j) → (i2 ≤ σ1.1 17) → σ1.1 17 - i2 < zn → WG zp l ze ({ frames := 45, cells := 0, slots := 0, locals := 935 } : Room) zs zm za zb zt zc D B 4 (MQ zb (QT D B T) za zs 0 0 (zA B)) (MH D ad h0 (cpS (cpS (cpS (cpS (sN (sN (sN σ1 7 0) 9 1) 10 (σ1.1 18)) 11 f) 12 g) 13 e) 14 c)) 0 0 151 [some (.ref (ad 0)), some (.int r), some (.int (nI so)), some (.int (nI i2))] [] := by
                      intro zn
                      induction zn with
                      | zero => intro i2 c c1 i3 hm; exact absurd hm (Nat.not_lt_zero _)
                      | succ zn ih151 =>
                        intro i2 c c1 i3 hm
                        refine g_iload_n F dX2_law_151 rfl rfl (np := 152) rfl ?_
                        refine g_aload_n F dX2_law_152 rfl rfl (np := 153) rfl ?_
                        refine h_get F (k := 17) (v := .int (nI (σ1.1 17))) (by decide) rfl q1563 dX2_law_153 (np := 156) rfl ?_
                        refine g_icmp_geN F (by omega) (by omega) dX2_law_156 (tp := 177) (by decide) (np := 159) rfl (fun c156 => ?_) (fun c156 => ?_)
                        · have hf : ∀ j, j < σ1.1 18 → f j = σ1.2.1 19 j := fun j hj => by rw [f1, if_pos (by omega)]
                          have hg : ∀ j, j < σ1.1 18 → g j = σ1.2.1 20 j := fun j hj => by rw [g1, if_pos (by omega)]
                          have he : ∀ j, j < σ1.1 18 → e j = σ1.2.1 21 j := fun j hj => by rw [e1, if_pos (by omega)]
                          have hc : ∀ j, j < σ1.1 17 → c j = σ1.2.1 22 j := fun j hj => by rw [c1, if_pos (by omega)]
                          refine g_iconst F (v := (nI 1)) dX2_law_177 (by decide) (np := 178) rfl ?_
                          exact g_iret F hr rfl (Nat.le_of_ble_eq_true rfl) (Nat.le_of_ble_eq_true rfl) dX2_law_178 (fun h hs => by rw [← hT]; exact ⟨_, (cpS (cpS (cpS (cpS (sN (sN (sN σ1 7 0) 9 1) 10 (σ1.1 18)) 11 f) 12 g) 13 e) 14 c), Or.inl ⟨hA.1, rfl, rfl, law_gar hA.2.1 f g e c, law_fin hA.2.2 y3 hf hg he hc⟩, rfl, hs⟩)
                        · refine g_aload_n F dX2_law_159 rfl rfl (np := 160) rfl ?_
                          refine h_get F (k := 14) (v := .ref (ad 14)) (by decide) rfl q1560 dX2_law_160 (np := 163) rfl ?_
                          refine g_iload_n F dX2_law_163 rfl rfl (np := 164) rfl ?_
                          refine g_aload_n F dX2_law_164 rfl rfl (np := 165) rfl ?_
                          refine h_get F (k := 22) (v := .ref (ad 22)) (by decide) rfl q1568 dX2_law_165 (np := 168) rfl ?_
                          refine g_iload_n F dX2_law_168 rfl rfl (np := 169) rfl ?_
                          refine h_ald F (k := 22) (i := i2) (L := 200) (v := σ1.2.1 22 i2) rfl rfl (by decide) (by omega) rfl rfl dX2_law_169 (by decide) (by decide) (np := 170) rfl ?_
                          refine h_ast F (k := 14) (i := i2) (L := 200) rfl rfl (by decide) (by omega) rfl dX2_law_170 (by decide) (by decide) (np := 171) rfl ?_
                          refine WG.weak (S' := MH D ad h0 (cpS (cpS (cpS (cpS (sN (sN (sN σ1 7 0) 9 1) 10 (σ1.1 18)) 11 f) 12 g) 13 e) 14 (va_up c i2 (σ1.2.1 22 i2)))) (fun h hs => by rw [cpS_sA]; exact hs) ?_
                          refine g_iinc F (v := (nI (i2 + 1))) (lv' := [some (.ref (ad 0)), some (.int r), some (.int (nI so)), some (.int (nI (i2 + 1)))]) dX2_law_171 rfl (nI_add _ _) (by decide) rfl rfl (np := 174) rfl ?_
                          refine g_goto F dX2_law_174 (np := 151) (by decide) ?_
                          exact ih151 (i2 + 1) ((va_up c i2 (σ1.2.1 22 i2))) (by exact cp_step c1 rfl) (by omega) (by omega)
                    refine WG.weak (S' := MH D ad h0 (cpS (cpS (cpS (cpS (sN (sN (sN σ1 7 0) 9 1) 10 (σ1.1 18)) 11 f) 12 g) 13 e) 14 (σ1.2.1 14))) (fun h hs => by rw [show σ1.2.1 14 = ((cpS (cpS (cpS (sN (sN (sN σ1 7 0) 9 1) 10 (σ1.1 18)) 11 f) 12 g) 13 e)).2.1 14 from rfl, cpS_id]; exact hs) ?_
                    exact L151 _ 0 ((σ1.2.1 14)) (by intro j; rw [if_neg (Nat.not_lt_zero j)]) (by exact Nat.zero_le _) (Nat.lt_succ_self _)
                  · refine g_aload_n F dX2_law_107 rfl rfl (np := 108) rfl ?_
                    refine h_get F (k := 11) (v := .ref (ad 11)) (by decide) rfl q1557 dX2_law_108 (np := 111) rfl ?_
                    refine g_iload_n F dX2_law_111 rfl rfl (np := 112) rfl ?_
                    refine g_aload_n F dX2_law_112 rfl rfl (np := 113) rfl ?_
                    refine h_get F (k := 19) (v := .ref (ad 19)) (by decide) rfl q1565 dX2_law_113 (np := 116) rfl ?_
                    refine g_iload_n F dX2_law_116 rfl rfl (np := 117) rfl ?_
                    refine h_ald F (k := 19) (i := i) (L := 61) (v := σ1.2.1 19 i) rfl rfl (by decide) (by omega) rfl rfl dX2_law_117 (by decide) (by decide) (np := 118) rfl ?_
                    refine h_ast F (k := 11) (i := i) (L := 60) rfl rfl (by decide) (by omega) rfl dX2_law_118 (by decide) (by decide) (np := 119) rfl ?_
                    refine WG.weak (S' := MH D ad h0 (cpS (cpS (cpS (sN (sN (sN σ1 7 0) 9 1) 10 (σ1.1 18)) 11 (va_up f i (σ1.2.1 19 i))) 12 g) 13 e)) (fun h hs => by rw [cpS_sA_ne _ (by decide), cpS_sA_ne _ (by decide), ← cpS_sA] at hs; exact hs) ?_
                    refine g_aload_n F dX2_law_119 rfl rfl (np := 120) rfl ?_
                    refine h_get F (k := 12) (v := .ref (ad 12)) (by decide) rfl q1558 dX2_law_120 (np := 123) rfl ?_
                    refine g_iload_n F dX2_law_123 rfl rfl (np := 124) rfl ?_
                    refine g_aload_n F dX2_law_124 rfl rfl (np := 125) rfl ?_
                    refine h_get F (k := 20) (v := .ref (ad 20)) (by decide) rfl q1566 dX2_law_125 (np := 128) rfl ?_
                    refine g_iload_n F dX2_law_128 rfl rfl (np := 129) rfl ?_
                    refine h_ald F (k := 20) (i := i) (L := 61) (v := σ1.2.1 20 i) rfl rfl (by decide) (by omega) rfl rfl dX2_law_129 (by decide) (by decide) (np := 130) rfl ?_
                    refine h_ast F (k := 12) (i := i) (L := 60) rfl rfl (by decide) (by omega) rfl dX2_law_130 (by decide) (by decide) (np := 131) rfl ?_
                    refine WG.weak (S' := MH D ad h0 (cpS (cpS (cpS (sN (sN (sN σ1 7 0) 9 1) 10 (σ1.1 18)) 11 (va_up f i (σ1.2.1 19 i))) 12 (va_up g i (σ1.2.1 20 i))) 13 e)) (fun h hs => by rw [cpS_sA_ne _ (by decide), ← cpS_sA] at hs; exact hs) ?_
                    refine g_aload_n F dX2_law_131 rfl rfl (np := 132) rfl ?_
                    refine h_get F (k := 13) (v := .ref (ad 13)) (by decide) rfl q1559 dX2_law_132 (np := 135) rfl ?_
                    refine g_iload_n F dX2_law_135 rfl rfl (np := 136) rfl ?_
                    refine g_aload_n F dX2_law_136 rfl rfl (np := 137) rfl ?_
                    refine h_get F (k := 21) (v := .ref (ad 21)) (by decide) rfl q1567 dX2_law_137 (np := 140) rfl ?_
                    refine g_iload_n F dX2_law_140 rfl rfl (np := 141) rfl ?_
                    refine h_ald F (k := 21) (i := i) (L := 61) (v := σ1.2.1 21 i) rfl rfl (by decide) (by omega) rfl rfl dX2_law_141 (by decide) (by decide) (np := 142) rfl ?_
                    refine h_ast F (k := 13) (i := i) (L := 60) rfl rfl (by decide) (by omega) rfl dX2_law_142 (by decide) (by decide) (np := 143) rfl ?_
                    refine WG.weak (S' := MH D ad h0 (cpS (cpS (cpS (sN (sN (sN σ1 7 0) 9 1) 10 (σ1.1 18)) 11 (va_up f i (σ1.2.1 19 i))) 12 (va_up g i (σ1.2.1 20 i))) 13 (va_up e i (σ1.2.1 21 i)))) (fun h hs => by rw [cpS_sA]; exact hs) ?_
                    refine g_iinc F (v := (nI (i + 1))) (lv' := [some (.ref (ad 0)), some (.int r), some (.int (nI so)), some (.int (nI (i + 1)))]) dX2_law_143 rfl (nI_add _ _) (by decide) rfl rfl (np := 146) rfl ?_
                    refine g_goto F dX2_law_146 (np := 99) (by decide) ?_
                    exact ih99 (i + 1) ((va_up f i (σ1.2.1 19 i))) ((va_up g i (σ1.2.1 20 i))) ((va_up e i (σ1.2.1 21 i))) (by exact cp_step f1 rfl) (by exact cp_step g1 rfl) (by exact cp_step e1 rfl) (by omega) (by omega)
              refine WG.weak (S' := MH D ad h0 (cpS (cpS (cpS (sN (sN (sN σ1 7 0) 9 1) 10 (σ1.1 18)) 11 (σ1.2.1 11)) 12 (σ1.2.1 12)) 13 (σ1.2.1 13))) (fun h hs => by rw [show cpS (cpS (cpS (sN (sN (sN σ1 7 0) 9 1) 10 (σ1.1 18)) 11 (σ1.2.1 11)) 12 (σ1.2.1 12)) 13 (σ1.2.1 13) = (sN (sN (sN σ1 7 0) 9 1) 10 (σ1.1 18)) from by rw [show σ1.2.1 11 = ((sN (sN (sN σ1 7 0) 9 1) 10 (σ1.1 18))).2.1 11 from rfl, cpS_id, show σ1.2.1 12 = ((sN (sN (sN σ1 7 0) 9 1) 10 (σ1.1 18))).2.1 12 from rfl, cpS_id, show σ1.2.1 13 = ((sN (sN (sN σ1 7 0) 9 1) 10 (σ1.1 18))).2.1 13 from rfl, cpS_id]]; exact hs) ?_
              exact L99 _ 0 ((σ1.2.1 11)) ((σ1.2.1 12)) ((σ1.2.1 13)) (by intro j; rw [if_neg (Nat.not_lt_zero j)]) (by intro j; rw [if_neg (Nat.not_lt_zero j)]) (by intro j; rw [if_neg (Nat.not_lt_zero j)]) (by exact Nat.zero_le _) (Nat.lt_succ_self _)
            · refine g_bipush F (v := (-100)) dX2_law_76 (by decide) (np := 78) rfl ?_
              refine g_aload_n F dX2_law_78 rfl rfl (np := 79) rfl ?_
              refine h_get F (k := 15) (v := .int (nI (σ1.1 15))) (by decide) rfl q1561 dX2_law_79 (np := 82) rfl ?_
              refine g_isub F dX2_law_82 (np := 83) rfl ?_
              exact g_iret F hr rfl (Nat.le_of_ble_eq_true rfl) (Nat.le_of_ble_eq_true rfl) dX2_law_83 (fun h hs => by rw [← hT]; exact ⟨_, (sN σ1 7 0), Or.inr (by obtain ⟨-, b2, b3, b4⟩ := hso.resolve_left (fun z => absurd (z.1.symm.trans c73) (by decide)); exact ⟨b2, by rw [b4], gar_sN7 b3 0⟩), rfl, hs⟩)
          refine g_if_eq F dX2_law_47 (tp := 65) (by decide) (np := 50) rfl (fun c47 => ?_) (fun c47 => ?_)
          · refine g_iconst F (v := (nI 0)) dX2_law_65 (by decide) (np := 66) rfl ?_
            exact J66 0 (by first | exact absurd c26 c47 | exact absurd c47 c26 | (have q := lnI_no h c26; exact Or.inr ⟨rfl, fun z => absurd (q.1 ▸ z.1) Bool.noConfusion, q.2.1, by rw [q.1]; exact q.2.2.symm⟩) | (have q := lnI_so h c26 (show ¬ sgnT σ b = nI 59 from by rw [← gar_sgn hg, ← s2]; exact c35); exact Or.inl ⟨rfl, ⟨by rw [q.1], by rw [q.1]; show b = σ.1 7; rw [← gar_7 hg, ← s2]; exact c58⟩, by rw [q.1, s2]; exact q.2, by omega⟩) | (have q := lnI_so h c26 (show ¬ sgnT σ b = nI 59 from by rw [← gar_sgn hg, ← s2]; exact c35); exact Or.inr ⟨rfl, fun z => c58 (by have w := z.2; rw [q.1] at w; rw [s2, gar_7 hg]; exact w), hg, by rw [q.1]; exact s2.symm⟩))
          · refine g_aload_n F dX2_law_50 rfl rfl (np := 51) rfl ?_
            refine h_get F (k := 15) (v := .int (nI (σ1.1 15))) (by decide) rfl q1561 dX2_law_51 (np := 54) rfl ?_
            refine g_aload_n F dX2_law_54 rfl rfl (np := 55) rfl ?_
            refine h_get F (k := 7) (v := .int (nI (σ1.1 7))) (by decide) rfl q1553 dX2_law_55 (np := 58) rfl ?_
            refine g_icmp_neN F (by omega) (by omega) dX2_law_58 (tp := 65) (by decide) (np := 61) rfl (fun c58 => ?_) (fun c58 => ?_)
            · refine g_iconst F (v := (nI 0)) dX2_law_65 (by decide) (np := 66) rfl ?_
              exact J66 0 (by first | exact absurd c26 c47 | exact absurd c47 c26 | (have q := lnI_no h c26; exact Or.inr ⟨rfl, fun z => absurd (q.1 ▸ z.1) Bool.noConfusion, q.2.1, by rw [q.1]; exact q.2.2.symm⟩) | (have q := lnI_so h c26 (show ¬ sgnT σ b = nI 59 from by rw [← gar_sgn hg, ← s2]; exact c35); exact Or.inl ⟨rfl, ⟨by rw [q.1], by rw [q.1]; show b = σ.1 7; rw [← gar_7 hg, ← s2]; exact c58⟩, by rw [q.1, s2]; exact q.2, by omega⟩) | (have q := lnI_so h c26 (show ¬ sgnT σ b = nI 59 from by rw [← gar_sgn hg, ← s2]; exact c35); exact Or.inr ⟨rfl, fun z => c58 (by have w := z.2; rw [q.1] at w; rw [s2, gar_7 hg]; exact w), hg, by rw [q.1]; exact s2.symm⟩))
            · refine g_iconst F (v := (nI 1)) dX2_law_61 (by decide) (np := 62) rfl ?_
              refine g_goto F dX2_law_62 (np := 66) (by decide) ?_
              exact J66 1 (by first | exact absurd c26 c47 | exact absurd c47 c26 | (have q := lnI_no h c26; exact Or.inr ⟨rfl, fun z => absurd (q.1 ▸ z.1) Bool.noConfusion, q.2.1, by rw [q.1]; exact q.2.2.symm⟩) | (have q := lnI_so h c26 (show ¬ sgnT σ b = nI 59 from by rw [← gar_sgn hg, ← s2]; exact c35); exact Or.inl ⟨rfl, ⟨by rw [q.1], by rw [q.1]; show b = σ.1 7; rw [← gar_7 hg, ← s2]; exact c58⟩, by rw [q.1, s2]; exact q.2, by omega⟩) | (have q := lnI_so h c26 (show ¬ sgnT σ b = nI 59 from by rw [← gar_sgn hg, ← s2]; exact c35); exact Or.inr ⟨rfl, fun z => c58 (by have w := z.2; rw [q.1] at w; rw [s2, gar_7 hg]; exact w), hg, by rw [q.1]; exact s2.symm⟩))
        · refine WG.weak (S' := MH D ad h0 (emS σ1 (σ1.1 15 + 1) [])) (fun h hs => by rw [← isS_t (σ := σ1) (b := (σ1.1 15)) (cs := []) c35]; exact hs) ?_
          have hb1 := sgnT_lt c35 (by decide)
          rw [gar_7 hg, s2] at hb1
          obtain ⟨k0, rfl⟩ : ∃ k0, k = k0 + 1 := ⟨k - 1, by omega⟩
          refine g_aload_n F dX2_law_38 rfl rfl (np := 39) rfl ?_
          refine g_runV F (C := RX2) (ci := 2) (T0 := TX2) (N := 42) (rest := []) (ct_X2_isLine hE (emS σ1 (σ1.1 15 + 1) []) (by show σ1.1 7 ≤ 120; rw [gar_7 hg]; exact htp) (by rw [emS_15, emS_7, gar_7 hg, s2]; omega) (by rw [emS_17, emS_15]; show σ1.1 17 + 0 ≤ _; omega) (by exact s3) (by show σ1.1 18 ≤ 60; omega)) (lw_V q1756 q1758 qs62 q102 q1759) hcV_X2_isLine ⟨Nat.le_of_ble_eq_true rfl, Nat.le_of_ble_eq_true rfl⟩ rfl (fun h hs => hs.obj) rfl rfl (Nat.le_of_ble_eq_true rfl) dX2_law_39 ⟨Nat.le_of_ble_eq_true rfl, Nat.le_of_ble_eq_true rfl⟩ (np := 42) rfl (k_RE (fun r0 σ0 hp0 => ?_))
          have hR2 := hR
          rw [gar_sgn hg, s2] at c35
          rw [if_pos c35] at hR2
          have hS9 := lnsR_at (show lnsR σ ls b σ1 from ⟨s1, s2, s3, s4, s5, s6, s7⟩)
          rw [← s2] at hS9
          obtain ⟨b0, ls0, hI0⟩ := lnI_step (k := k0) hS9 (by omega) (by omega) (by omega) (by rw [s2]; exact hR2) hp0
          refine g_istore_n F (lv' := [some (.ref (ad 0)), some (.int r0), none, none]) dX2_law_42 rfl (by decide) rfl rfl (np := 43) rfl ?_
          refine g_goto F dX2_law_43 (np := 25) (by decide) ?_
          exact ih25 r0 b0 ls0 k0 σ0 (by exact hI0) (by omega)
  exact L25 _ r0 b0 ls0 ((σ.1 7)) σ0 (by exact hI0) (Nat.lt_succ_self _)
