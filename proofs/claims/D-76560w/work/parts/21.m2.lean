/-! WALKS (printed by walk.py): byLaw, storeysOf -/
set_option maxRecDepth 100000
set_option maxRecDepth 100000 in
theorem ct_X2_byLaw {l : Launch} {D : va_G} {E : State → Prop} {B : Nat} (hE : Stab E) {ad : Nat → Nat} {h0 : AH} (σ : MSt) (ls : List (List Nat × List Nat)) (p : Nat) (hp : p < σ.1 2) (hok : mOK σ (some ls)) : Ct l D E B yX2_byLaw cX2_byLaw 4 (some .int) 2 47 0 0 [.ref (ad 0), .int (nI p)] (MH D ad h0 σ) (RI (sLines (sNames (mV σ (some ls)) (σ.1 6) p) ls) (MH D ad h0 σ)) := by
  refine Ct.of (nL := 4) (lv := [some (.ref (ad 0)), some (.int (nI p)), none, none]) (by decide) (Nat.le_of_ble_eq_true rfl) hE 2 rfl ?_
  generalize hT : RI (sLines (sNames (mV σ (some ls)) (σ.1 6) p) ls) (MH D ad h0 σ) = T
  intro zp ze zs zm zb zt zc F hr hnm
  generalize ([.ref (ad 0), .int (nI p)] : List Value).toArray = za at F ⊢
  obtain ⟨ho8, hm15, ht99, hby, hlaw⟩ := hok
  obtain ⟨hl1, hl2, hl3, hl4⟩ := hlaw
  obtain ⟨o0, ho0, eo0⟩ := hby p hp
  refine g_iconst F (v := (nI 0)) dX2_byLaw_0 (by decide) (np := 1) rfl ?_
  refine g_istore_n F (lv' := [some (.ref (ad 0)), some (.int (nI p)), some (.int (nI 0)), none]) dX2_byLaw_1 rfl (by decide) rfl rfl (np := 2) rfl ?_
  refine g_iconst F (v := (nI 0)) dX2_byLaw_2 (by decide) (np := 3) rfl ?_
  refine g_istore_n F (lv' := [some (.ref (ad 0)), some (.int (nI p)), some (.int (nI 0)), some (.int (nI 0))]) dX2_byLaw_3 rfl (by decide) rfl rfl (np := 4) rfl ?_
  have L4 : ∀ (zn : Nat) (his : Nat) (q : Nat), (his = sCnt (mP σ) (σ.1 6) (σ.2.1 4 p) q) → (q ≤ σ.1 2) → σ.1 2 - q < zn → WG zp l ze ({ frames := 2, cells := 0, slots := 0, locals := 47 } : Room) zs zm za zb zt zc D B 4 (MQ zb (QT D B T) za zs 0 0 (zA B)) (MH D ad h0 σ) 0 0 4 [some (.ref (ad 0)), some (.int (nI p)), some (.int (nI his)), some (.int (nI q))] [] := by
    intro zn
    induction zn with
    | zero => intro his q h1 h2 hm; exact absurd hm (Nat.not_lt_zero _)
    | succ zn ih4 =>
      intro his q h1 h2 hm
      refine g_iload_n F dX2_byLaw_4 rfl rfl (np := 5) rfl ?_
      refine g_aload_n F dX2_byLaw_5 rfl rfl (np := 6) rfl ?_
      refine h_get F (k := 2) (v := .int (nI (σ.1 2))) (by decide) rfl q1548 dX2_byLaw_6 (np := 9) rfl ?_
      refine g_icmp_geN F (by omega) (by omega) dX2_byLaw_9 (tp := 35) (by decide) (np := 12) rfl (fun c9 => ?_) (fun c9 => ?_)
      · have hq : q = σ.1 2 := by omega
        have hhis : nI his = nI (sCnt (mP σ) (σ.1 6) (σ.2.1 4 p) (σ.1 2)) := by rw [h1, hq]
        refine WG.ex (fun nm0 => ?_)
        refine WG.ex (fun sk0 => ?_)
        refine g_aload_n F dX2_byLaw_35 rfl rfl (np := 36) rfl ?_
        refine m_get F (k := 24) (v := .ref (ad 24)) (by decide) rfl q1570 dX2_byLaw_36 (np := 39) rfl ?_
        refine g_iconst F (v := (nI 0)) dX2_byLaw_39 (by decide) (np := 40) rfl ?_
        refine g_aload_n F dX2_byLaw_40 rfl rfl (np := 41) rfl ?_
        refine m_get F (k := 3) (v := .ref (ad 3)) (by decide) rfl q1549 dX2_byLaw_41 (np := 44) rfl ?_
        refine g_iload_n F dX2_byLaw_44 rfl rfl (np := 45) rfl ?_
        refine m_ald F (k := 3) (i := p) (L := 75) (v := σ.2.1 3 p) rfl rfl (by decide) (by omega) rfl rfl dX2_byLaw_45 (np := 46) rfl ?_
        refine m_ast F (k := 24) (i := 0) (L := 6) rfl rfl (by decide) (by decide) rfl dX2_byLaw_46 (np := 47) rfl ?_
        refine WG.weak (S' := MS D ad h0 (scr σ (va_up nm0 0 (σ.2.1 3 p)) sk0)) (fun h hs => by rw [← scr_sA24]; exact hs) ?_
        refine g_aload_n F dX2_byLaw_47 rfl rfl (np := 48) rfl ?_
        refine m_get F (k := 24) (v := .ref (ad 24)) (by decide) rfl q1570 dX2_byLaw_48 (np := 51) rfl ?_
        refine g_iconst F (v := (nI 1)) dX2_byLaw_51 (by decide) (np := 52) rfl ?_
        refine g_iconst F (v := (nI 0)) dX2_byLaw_52 (by decide) (np := 53) rfl ?_
        refine g_aload_n F dX2_byLaw_53 rfl rfl (np := 54) rfl ?_
        refine m_get F (k := 6) (v := .int (nI (σ.1 6))) (by decide) rfl q1552 dX2_byLaw_54 (np := 57) rfl ?_
        refine g_aload_n F dX2_byLaw_57 rfl rfl (np := 58) rfl ?_
        refine m_get F (k := 3) (v := .ref (ad 3)) (by decide) rfl q1549 dX2_byLaw_58 (np := 61) rfl ?_
        refine g_bipush F (v := (nI 45)) dX2_byLaw_61 (by decide) (np := 63) rfl ?_
        refine g_iload_n F dX2_byLaw_63 rfl rfl (np := 64) rfl ?_
        refine g_iaddN F dX2_byLaw_64 (np := 65) rfl ?_
        refine m_ald F (k := 3) (i := 45 + p) (L := 75) (v := σ.2.1 3 (45 + p)) rfl rfl (by decide) (by omega) rfl rfl dX2_byLaw_65 (np := 66) rfl ?_
        refine g_isub F dX2_byLaw_66 (np := 67) rfl ?_
        refine g_max F (rest := [.int (nI 1), .ref (ad 24)]) q1823 (by decide) (by decide) (Nat.le_of_ble_eq_true rfl) (Nat.le_of_ble_eq_true rfl) dX2_byLaw_67 (np := 70) rfl ?_
        refine m_ast F (k := 24) (i := 1) (L := 6) rfl rfl (by decide) (by decide) rfl dX2_byLaw_70 (np := 71) rfl ?_
        refine WG.weak (S' := MS D ad h0 (scr σ (va_up (va_up nm0 0 (σ.2.1 3 p)) 1 (jmax (nI (0)) ((nI (σ.1 6)) - (σ.2.1 3 (45 + p))))) sk0)) (fun h hs => by rw [← scr_sA24]; exact hs) ?_
        refine g_aload_n F dX2_byLaw_71 rfl rfl (np := 72) rfl ?_
        refine m_get F (k := 24) (v := .ref (ad 24)) (by decide) rfl q1570 dX2_byLaw_72 (np := 75) rfl ?_
        refine g_iconst F (v := (nI 2)) dX2_byLaw_75 (by decide) (np := 76) rfl ?_
        refine g_aload_n F dX2_byLaw_76 rfl rfl (np := 77) rfl ?_
        refine m_get F (k := 3) (v := .ref (ad 3)) (by decide) rfl q1549 dX2_byLaw_77 (np := 80) rfl ?_
        refine g_bipush F (v := (nI 30)) dX2_byLaw_80 (by decide) (np := 82) rfl ?_
        refine g_iload_n F dX2_byLaw_82 rfl rfl (np := 83) rfl ?_
        refine g_iaddN F dX2_byLaw_83 (np := 84) rfl ?_
        refine m_ald F (k := 3) (i := 30 + p) (L := 75) (v := σ.2.1 3 (30 + p)) rfl rfl (by decide) (by omega) rfl rfl dX2_byLaw_84 (np := 85) rfl ?_
        refine m_ast F (k := 24) (i := 2) (L := 6) rfl rfl (by decide) (by decide) rfl dX2_byLaw_85 (np := 86) rfl ?_
        refine WG.weak (S' := MS D ad h0 (scr σ (va_up (va_up (va_up nm0 0 (σ.2.1 3 p)) 1 (jmax (nI (0)) ((nI (σ.1 6)) - (σ.2.1 3 (45 + p))))) 2 (σ.2.1 3 (30 + p))) sk0)) (fun h hs => by rw [← scr_sA24]; exact hs) ?_
        refine g_aload_n F dX2_byLaw_86 rfl rfl (np := 87) rfl ?_
        refine m_get F (k := 24) (v := .ref (ad 24)) (by decide) rfl q1570 dX2_byLaw_87 (np := 90) rfl ?_
        refine g_iconst F (v := (nI 3)) dX2_byLaw_90 (by decide) (np := 91) rfl ?_
        refine g_aload_n F dX2_byLaw_91 rfl rfl (np := 92) rfl ?_
        refine m_get F (k := 3) (v := .ref (ad 3)) (by decide) rfl q1549 dX2_byLaw_92 (np := 95) rfl ?_
        refine g_bipush F (v := (nI 15)) dX2_byLaw_95 (by decide) (np := 97) rfl ?_
        refine g_iload_n F dX2_byLaw_97 rfl rfl (np := 98) rfl ?_
        refine g_iaddN F dX2_byLaw_98 (np := 99) rfl ?_
        refine m_ald F (k := 3) (i := 15 + p) (L := 75) (v := σ.2.1 3 (15 + p)) rfl rfl (by decide) (by omega) rfl rfl dX2_byLaw_99 (np := 100) rfl ?_
        refine m_ast F (k := 24) (i := 3) (L := 6) rfl rfl (by decide) (by decide) rfl dX2_byLaw_100 (np := 101) rfl ?_
        refine WG.weak (S' := MS D ad h0 (scr σ (va_up (va_up (va_up (va_up nm0 0 (σ.2.1 3 p)) 1 (jmax (nI (0)) ((nI (σ.1 6)) - (σ.2.1 3 (45 + p))))) 2 (σ.2.1 3 (30 + p))) 3 (σ.2.1 3 (15 + p))) sk0)) (fun h hs => by rw [← scr_sA24]; exact hs) ?_
        refine g_aload_n F dX2_byLaw_101 rfl rfl (np := 102) rfl ?_
        refine m_get F (k := 24) (v := .ref (ad 24)) (by decide) rfl q1570 dX2_byLaw_102 (np := 105) rfl ?_
        refine g_iconst F (v := (nI 4)) dX2_byLaw_105 (by decide) (np := 106) rfl ?_
        refine g_aload_n F dX2_byLaw_106 rfl rfl (np := 107) rfl ?_
        refine m_get F (k := 1) (v := .ref (ad 1)) (by decide) rfl q1547 dX2_byLaw_107 (np := 110) rfl ?_
        refine g_aload_n F dX2_byLaw_110 rfl rfl (np := 111) rfl ?_
        refine m_get F (k := 4) (v := .ref (ad 4)) (by decide) rfl q1550 dX2_byLaw_111 (np := 114) rfl ?_
        refine g_iload_n F dX2_byLaw_114 rfl rfl (np := 115) rfl ?_
        refine m_ald F (k := 4) (i := p) (L := 15) (v := σ.2.1 4 p) rfl rfl (by decide) (by omega) rfl rfl dX2_byLaw_115 (np := 116) rfl ?_
        refine WG.eqv (st' := [.int (nI o0), .ref (ad 1), .int (nI 4), .ref (ad 24)]) (congrArg (fun z => ([.int z, .ref (ad 1), .int (nI 4), .ref (ad 24)] : List Value)) (show (σ.2.1 4 p) = (nI o0) from by exact eo0)) rfl ?_
        refine m_ald F (k := 1) (i := o0) (L := 8) (v := σ.2.1 1 o0) rfl rfl (by decide) (by omega) rfl rfl dX2_byLaw_116 (np := 117) rfl ?_
        refine m_ast F (k := 24) (i := 4) (L := 6) rfl rfl (by decide) (by decide) rfl dX2_byLaw_117 (np := 118) rfl ?_
        refine WG.weak (S' := MS D ad h0 (scr σ (va_up (va_up (va_up (va_up (va_up nm0 0 (σ.2.1 3 p)) 1 (jmax (nI (0)) ((nI (σ.1 6)) - (σ.2.1 3 (45 + p))))) 2 (σ.2.1 3 (30 + p))) 3 (σ.2.1 3 (15 + p))) 4 (σ.2.1 1 o0)) sk0)) (fun h hs => by rw [← scr_sA24]; exact hs) ?_
        refine g_aload_n F dX2_byLaw_118 rfl rfl (np := 119) rfl ?_
        refine m_get F (k := 24) (v := .ref (ad 24)) (by decide) rfl q1570 dX2_byLaw_119 (np := 122) rfl ?_
        refine g_iconst F (v := (nI 5)) dX2_byLaw_122 (by decide) (np := 123) rfl ?_
        refine g_iload_n F dX2_byLaw_123 rfl rfl (np := 124) rfl ?_
        refine m_ast F (k := 24) (i := 5) (L := 6) rfl rfl (by decide) (by decide) rfl dX2_byLaw_124 (np := 125) rfl ?_
        refine WG.weak (S' := MS D ad h0 (scr σ (va_up (va_up (va_up (va_up (va_up (va_up nm0 0 (σ.2.1 3 p)) 1 (jmax (nI (0)) ((nI (σ.1 6)) - (σ.2.1 3 (45 + p))))) 2 (σ.2.1 3 (30 + p))) 3 (σ.2.1 3 (15 + p))) 4 (σ.2.1 1 o0)) 5 (nI (his))) sk0)) (fun h hs => by rw [← scr_sA24]; exact hs) ?_
        obtain ⟨nmF, hnF⟩ : ∃ f, f = (va_up (va_up (va_up (va_up (va_up (va_up nm0 0 (σ.2.1 3 p)) 1 (jmax (nI (0)) ((nI (σ.1 6)) - (σ.2.1 3 (45 + p))))) 2 (σ.2.1 3 (30 + p))) 3 (σ.2.1 3 (15 + p))) 4 (σ.2.1 1 o0)) 5 (nI (his))) := ⟨_, rfl⟩
        rw [← hnF]
        have hnm : ∀ k, k ≤ 5 → nmF k = sNames (mV σ (some ls)) (σ.1 6) p k := by
          intro k hk
          rw [hnF]
          rcases (show k = 0 ∨ k = 1 ∨ k = 2 ∨ k = 3 ∨ k = 4 ∨ k = 5 by omega) with rfl | rfl | rfl | rfl | rfl | rfl
          · simp [va_up, sNames, mV, mP_2, scr]
          · simp [va_up, sNames, mV, mP_5]
          · simp [va_up, sNames, mV, mP_4, scr]
          · simp [va_up, sNames, mV, mP_3, scr]
          · simp [va_up, sNames, mV, mP_0, scr, eo0, nI_clamp (show o0 < 2 ^ 31 by omega)]
          · simp [va_up, sNames, mV, mP_0, hhis]
        refine g_iconst F (v := (nI 0)) dX2_byLaw_125 (by decide) (np := 126) rfl ?_
        refine g_istore_n F (lv' := [some (.ref (ad 0)), some (.int (nI p)), some (.int (nI his)), some (.int (nI 0))]) dX2_byLaw_126 rfl (by decide) rfl rfl (np := 127) rfl ?_
        have L127 : ∀ (zn : Nat) (i : Nat) (sk : Nat → Int32), (i ≤ ls.length) → (sLines (sNames (mV σ (some ls)) (σ.1 6) p) (ls.drop i) = sLines (sNames (mV σ (some ls)) (σ.1 6) p) ls) → ls.length - i < zn → WG zp l ze ({ frames := 2, cells := 0, slots := 0, locals := 47 } : Room) zs zm za zb zt zc D B 4 (MQ zb (QT D B T) za zs 0 0 (zA B)) (MS D ad h0 (scr σ nmF sk)) 0 0 127 [some (.ref (ad 0)), some (.int (nI p)), some (.int (nI his)), some (.int (nI i))] [] := by
          intro zn
          induction zn with
          | zero => intro i sk g1 g2 hm; exact absurd hm (Nat.not_lt_zero _)
          | succ zn ih127 =>
            intro i sk g1 g2 hm
            refine g_iload_n F dX2_byLaw_127 rfl rfl (np := 128) rfl ?_
            refine g_aload_n F dX2_byLaw_128 rfl rfl (np := 129) rfl ?_
            refine m_get F (k := 10) (v := .int (nI (σ.1 10))) (by decide) rfl q1556 dX2_byLaw_129 (np := 132) rfl ?_
            refine g_icmp_geN F (by omega) (by omega) dX2_byLaw_132 (tp := 195) (by decide) (np := 135) rfl (fun c132 => ?_) (fun c132 => ?_)
            · refine g_iconst F (v := (nI 0)) dX2_byLaw_195 (by decide) (np := 196) rfl ?_
              have hv : nI (0) = sLines (sNames (mV σ (some ls)) (σ.1 6) p) ls := by rw [← g2, show ls.drop i = [] from List.drop_eq_nil_of_le (by omega)]; rfl
              exact g_iret F hr rfl (Nat.le_of_ble_eq_true rfl) (Nat.le_of_ble_eq_true rfl) dX2_byLaw_196 (fun h hs => by rw [← hT]; exact ⟨congrArg (fun z => some (Value.int z)) hv, ⟨_, _, hs⟩⟩)
            · have hil : i < ls.length := by omega
              obtain ⟨t, g, hq0⟩ : ∃ t g, ls[i]? = some (t, g) := ⟨ls[i].1, ls[i].2, by simp [hil]⟩
              have hdr : ls.drop i = (t, g) :: ls.drop (i + 1) := by
                rw [List.drop_eq_getElem_cons hil]
                have e0 := List.getElem?_eq_getElem hil
                rw [hq0] at e0
                rw [← Option.some.inj e0]
              obtain ⟨a, q1, q2, q3, q4, q5, q6, q7, q8⟩ := hl4 i (t, g) hq0
              simp only at q2 q3 q4 q5 q6 q7 q8
              refine g_aload_n F dX2_byLaw_135 rfl rfl (np := 136) rfl ?_
              refine m_get F (k := 12) (v := .ref (ad 12)) (by decide) rfl q1558 dX2_byLaw_136 (np := 139) rfl ?_
              refine g_iload_n F dX2_byLaw_139 rfl rfl (np := 140) rfl ?_
              refine m_ald F (k := 12) (i := i) (L := 60) (v := σ.2.1 12 i) rfl rfl (by decide) (by omega) rfl rfl dX2_byLaw_140 (np := 141) rfl ?_
              refine WG.eqv (st' := [.int (nI (a + t.length))]) (congrArg (fun z => ([.int z] : List Value)) (show (σ.2.1 12 i) = (nI (a + t.length)) from by exact q2)) rfl ?_
              refine g_aload_n F dX2_byLaw_141 rfl rfl (np := 142) rfl ?_
              refine m_get F (k := 11) (v := .ref (ad 11)) (by decide) rfl q1557 dX2_byLaw_142 (np := 145) rfl ?_
              refine g_iload_n F dX2_byLaw_145 rfl rfl (np := 146) rfl ?_
              refine m_ald F (k := 11) (i := i) (L := 60) (v := σ.2.1 11 i) rfl rfl (by decide) (by omega) rfl rfl dX2_byLaw_146 (np := 147) rfl ?_
              refine WG.eqv (st' := [.int (nI a), .int (nI (a + t.length))]) (congrArg (fun z => ([.int z, .int (nI (a + t.length))] : List Value)) (show (σ.2.1 11 i) = (nI a) from by exact q1)) rfl ?_
              refine g_icmp_leN F (by omega) (by omega) dX2_byLaw_147 (tp := 172) (by decide) (np := 150) rfl (fun c147 => ?_) (fun c147 => ?_)
              · refine g_aload_n F dX2_byLaw_172 rfl rfl (np := 173) rfl ?_
                refine g_aload_n F dX2_byLaw_173 rfl rfl (np := 174) rfl ?_
                refine m_get F (k := 12) (v := .ref (ad 12)) (by decide) rfl q1558 dX2_byLaw_174 (np := 177) rfl ?_
                refine g_iload_n F dX2_byLaw_177 rfl rfl (np := 178) rfl ?_
                refine m_ald F (k := 12) (i := i) (L := 60) (v := σ.2.1 12 i) rfl rfl (by decide) (by omega) rfl rfl dX2_byLaw_178 (np := 179) rfl ?_
                refine WG.eqv (st' := [.int (nI (a + t.length)), .ref (ad 0)]) (congrArg (fun z => ([.int z, .ref (ad 0)] : List Value)) (show (σ.2.1 12 i) = (nI (a + t.length)) from by exact q2)) rfl ?_
                refine g_aload_n F dX2_byLaw_179 rfl rfl (np := 180) rfl ?_
                refine m_get F (k := 13) (v := .ref (ad 13)) (by decide) rfl q1559 dX2_byLaw_180 (np := 183) rfl ?_
                refine g_iload_n F dX2_byLaw_183 rfl rfl (np := 184) rfl ?_
                refine m_ald F (k := 13) (i := i) (L := 60) (v := σ.2.1 13 i) rfl rfl (by decide) (by omega) rfl rfl dX2_byLaw_184 (np := 185) rfl ?_
                refine WG.eqv (st' := [.int (nI (a + t.length + g.length)), .int (nI (a + t.length)), .ref (ad 0)]) (congrArg (fun z => ([.int z, .int (nI (a + t.length)), .ref (ad 0)] : List Value)) (show (σ.2.1 13 i) = (nI (a + t.length + g.length)) from by exact q3)) rfl ?_
                refine g_runV F (C := RX2) (ci := 2) (T0 := TX2) (N := 42) (rest := []) (ct_X2_worked hE (scr σ nmF sk) g (a + t.length) (a + t.length + g.length) (by rfl) (by omega) (by exact q6) (by exact q8)) (lw_V q1824 q1826 qs77 q102 q1827) hcV_X2_worked ⟨Nat.le_of_ble_eq_true rfl, Nat.le_of_ble_eq_true rfl⟩ rfl (fun h hs => hs.obj) rfl rfl (Nat.le_of_ble_eq_true rfl) dX2_byLaw_185 ⟨Nat.le_of_ble_eq_true rfl, Nat.le_of_ble_eq_true rfl⟩ (np := 188) rfl (k_RE (fun r185 σ185 hp185 => ?_))
                subst hp185
                refine WG.weak (S' := MS D ad h0 (scr σ nmF σ185)) (fun h hs => by rw [← skM_scr]; exact hs) ?_
                have hv : zev ((scr σ nmF sk).2.1 24) g = sLines (sNames (mV σ (some ls)) (σ.1 6) p) ls := by show zev nmF g = _; rw [zev_names hnm g, ← g2, hdr]; unfold sLines; first | (rw [if_neg (fun z => ‹¬ _ = (0 : Int32)› (by show zev nmF t = _; rw [zev_names hnm t]; exact z.2))]; done) | (rw [if_neg (fun z => z.1 (by cases t with | nil => rfl | cons x y => exact absurd c147 (by simp only [List.length_cons]; omega)))]; done)
                exact g_iret F hr rfl (Nat.le_of_ble_eq_true rfl) (Nat.le_of_ble_eq_true rfl) dX2_byLaw_188 (fun h hs => by rw [← hT]; exact ⟨congrArg (fun z => some (Value.int z)) hv, ⟨_, _, hs⟩⟩)
              · have htn : t ≠ [] := by rintro rfl; simp at c147
                have hwt : zwf 0 t 1 := q7.resolve_left htn
                refine g_aload_n F dX2_byLaw_150 rfl rfl (np := 151) rfl ?_
                refine g_aload_n F dX2_byLaw_151 rfl rfl (np := 152) rfl ?_
                refine m_get F (k := 11) (v := .ref (ad 11)) (by decide) rfl q1557 dX2_byLaw_152 (np := 155) rfl ?_
                refine g_iload_n F dX2_byLaw_155 rfl rfl (np := 156) rfl ?_
                refine m_ald F (k := 11) (i := i) (L := 60) (v := σ.2.1 11 i) rfl rfl (by decide) (by omega) rfl rfl dX2_byLaw_156 (np := 157) rfl ?_
                refine WG.eqv (st' := [.int (nI a), .ref (ad 0)]) (congrArg (fun z => ([.int z, .ref (ad 0)] : List Value)) (show (σ.2.1 11 i) = (nI a) from by exact q1)) rfl ?_
                refine g_aload_n F dX2_byLaw_157 rfl rfl (np := 158) rfl ?_
                refine m_get F (k := 12) (v := .ref (ad 12)) (by decide) rfl q1558 dX2_byLaw_158 (np := 161) rfl ?_
                refine g_iload_n F dX2_byLaw_161 rfl rfl (np := 162) rfl ?_
                refine m_ald F (k := 12) (i := i) (L := 60) (v := σ.2.1 12 i) rfl rfl (by decide) (by omega) rfl rfl dX2_byLaw_162 (np := 163) rfl ?_
                refine WG.eqv (st' := [.int (nI (a + t.length)), .int (nI a), .ref (ad 0)]) (congrArg (fun z => ([.int z, .int (nI a), .ref (ad 0)] : List Value)) (show (σ.2.1 12 i) = (nI (a + t.length)) from by exact q2)) rfl ?_
                refine g_runV F (C := RX2) (ci := 2) (T0 := TX2) (N := 42) (rest := []) (ct_X2_worked hE (scr σ nmF sk) t a (a + t.length) (by rfl) (by omega) (by exact q5) (by exact hwt)) (lw_V q1824 q1826 qs77 q102 q1827) hcV_X2_worked ⟨Nat.le_of_ble_eq_true rfl, Nat.le_of_ble_eq_true rfl⟩ rfl (fun h hs => hs.obj) rfl rfl (Nat.le_of_ble_eq_true rfl) dX2_byLaw_163 ⟨Nat.le_of_ble_eq_true rfl, Nat.le_of_ble_eq_true rfl⟩ (np := 166) rfl (k_RE (fun r163 σ163 hp163 => ?_))
                subst hp163
                refine WG.weak (S' := MS D ad h0 (scr σ nmF σ163)) (fun h hs => by rw [← skM_scr]; exact hs) ?_
                refine g_if_ne F dX2_byLaw_166 (tp := 172) (by decide) (np := 169) rfl (fun c166 => ?_) (fun c166 => ?_)
                · refine g_aload_n F dX2_byLaw_172 rfl rfl (np := 173) rfl ?_
                  refine g_aload_n F dX2_byLaw_173 rfl rfl (np := 174) rfl ?_
                  refine m_get F (k := 12) (v := .ref (ad 12)) (by decide) rfl q1558 dX2_byLaw_174 (np := 177) rfl ?_
                  refine g_iload_n F dX2_byLaw_177 rfl rfl (np := 178) rfl ?_
                  refine m_ald F (k := 12) (i := i) (L := 60) (v := σ.2.1 12 i) rfl rfl (by decide) (by omega) rfl rfl dX2_byLaw_178 (np := 179) rfl ?_
                  refine WG.eqv (st' := [.int (nI (a + t.length)), .ref (ad 0)]) (congrArg (fun z => ([.int z, .ref (ad 0)] : List Value)) (show (σ.2.1 12 i) = (nI (a + t.length)) from by exact q2)) rfl ?_
                  refine g_aload_n F dX2_byLaw_179 rfl rfl (np := 180) rfl ?_
                  refine m_get F (k := 13) (v := .ref (ad 13)) (by decide) rfl q1559 dX2_byLaw_180 (np := 183) rfl ?_
                  refine g_iload_n F dX2_byLaw_183 rfl rfl (np := 184) rfl ?_
                  refine m_ald F (k := 13) (i := i) (L := 60) (v := σ.2.1 13 i) rfl rfl (by decide) (by omega) rfl rfl dX2_byLaw_184 (np := 185) rfl ?_
                  refine WG.eqv (st' := [.int (nI (a + t.length + g.length)), .int (nI (a + t.length)), .ref (ad 0)]) (congrArg (fun z => ([.int z, .int (nI (a + t.length)), .ref (ad 0)] : List Value)) (show (σ.2.1 13 i) = (nI (a + t.length + g.length)) from by exact q3)) rfl ?_
                  refine g_runV F (C := RX2) (ci := 2) (T0 := TX2) (N := 42) (rest := []) (ct_X2_worked hE (scr σ nmF σ163) g (a + t.length) (a + t.length + g.length) (by rfl) (by omega) (by exact q6) (by exact q8)) (lw_V q1824 q1826 qs77 q102 q1827) hcV_X2_worked ⟨Nat.le_of_ble_eq_true rfl, Nat.le_of_ble_eq_true rfl⟩ rfl (fun h hs => hs.obj) rfl rfl (Nat.le_of_ble_eq_true rfl) dX2_byLaw_185 ⟨Nat.le_of_ble_eq_true rfl, Nat.le_of_ble_eq_true rfl⟩ (np := 188) rfl (k_RE (fun r185 σ185 hp185 => ?_))
                  subst hp185
                  refine WG.weak (S' := MS D ad h0 (scr σ nmF σ185)) (fun h hs => by rw [← skM_scr]; exact hs) ?_
                  have hv : zev ((scr σ nmF σ163).2.1 24) g = sLines (sNames (mV σ (some ls)) (σ.1 6) p) ls := by show zev nmF g = _; rw [zev_names hnm g, ← g2, hdr]; unfold sLines; first | (rw [if_neg (fun z => ‹¬ _ = (0 : Int32)› (by show zev nmF t = _; rw [zev_names hnm t]; exact z.2))]; done) | (rw [if_neg (fun z => z.1 (by cases t with | nil => rfl | cons x y => exact absurd c147 (by simp only [List.length_cons]; omega)))]; done)
                  exact g_iret F hr rfl (Nat.le_of_ble_eq_true rfl) (Nat.le_of_ble_eq_true rfl) dX2_byLaw_188 (fun h hs => by rw [← hT]; exact ⟨congrArg (fun z => some (Value.int z)) hv, ⟨_, _, hs⟩⟩)
                · refine g_goto F dX2_byLaw_169 (np := 189) (by decide) ?_
                  refine g_iinc F (v := (nI (i + 1))) (lv' := [some (.ref (ad 0)), some (.int (nI p)), some (.int (nI his)), some (.int (nI (i + 1)))]) dX2_byLaw_189 rfl (nI_add _ _) (by decide) rfl rfl (np := 192) rfl ?_
                  refine g_goto F dX2_byLaw_192 (np := 127) (by decide) ?_
                  exact ih127 (i + 1) σ163 (by omega) (by rw [← g2, hdr]; show _ = if t ≠ [] ∧ zev _ t = 0 then _ else _; rw [if_pos ⟨htn, (zev_names hnm t).symm.trans c166⟩]) (by omega)
        exact L127 _ 0 sk0 (by omega) (by rfl) (Nat.lt_succ_self _)
      · refine g_aload_n F dX2_byLaw_12 rfl rfl (np := 13) rfl ?_
        refine g_iload_n F dX2_byLaw_13 rfl rfl (np := 14) rfl ?_
        refine g_aload_n F dX2_byLaw_14 rfl rfl (np := 15) rfl ?_
        refine h_get F (k := 4) (v := .ref (ad 4)) (by decide) rfl q1550 dX2_byLaw_15 (np := 18) rfl ?_
        refine g_iload_n F dX2_byLaw_18 rfl rfl (np := 19) rfl ?_
        refine h_ald F (k := 4) (i := p) (L := 15) (v := σ.2.1 4 p) rfl rfl (by decide) (by omega) rfl rfl dX2_byLaw_19 (by decide) (by decide) (np := 20) rfl ?_
        refine g_runV F (C := RX2) (ci := 2) (T0 := TX2) (N := 42) (rest := []) (ct_X2_isHis hE σ q (σ.2.1 4 p) (by omega)) (lw_V q1819 q1821 qs76 q102 q1822) hcV_X2_isHis ⟨Nat.le_of_ble_eq_true rfl, Nat.le_of_ble_eq_true rfl⟩ rfl (fun h hs => hs.obj) rfl rfl (Nat.le_of_ble_eq_true rfl) dX2_byLaw_20 ⟨Nat.le_of_ble_eq_true rfl, Nat.le_of_ble_eq_true rfl⟩ (np := 23) rfl (k_RI ?_)
        refine g_if_eqB F dX2_byLaw_23 (tp := 29) (by decide) (np := 26) rfl (fun c23 => ?_) (fun c23 => ?_)
        · refine g_iinc F (v := (nI (q + 1))) (lv' := [some (.ref (ad 0)), some (.int (nI p)), some (.int (nI his)), some (.int (nI (q + 1)))]) dX2_byLaw_29 rfl (nI_add _ _) (by decide) rfl rfl (np := 32) rfl ?_
          refine g_goto F dX2_byLaw_32 (np := 4) (by decide) ?_
          exact ih4 his (q + 1) (by first | (unfold sCnt; rw [pif_t ‹_›, h1]; done) | (unfold sCnt; rw [pif_f ‹_›, h1, Nat.add_zero]; done)) (by first | assumption | omega) (by omega)
        · refine g_iinc F (v := (nI (his + 1))) (lv' := [some (.ref (ad 0)), some (.int (nI p)), some (.int (nI (his + 1))), some (.int (nI q))]) dX2_byLaw_26 rfl (nI_add _ _) (by decide) rfl rfl (np := 29) rfl ?_
          refine g_iinc F (v := (nI (q + 1))) (lv' := [some (.ref (ad 0)), some (.int (nI p)), some (.int (nI (his + 1))), some (.int (nI (q + 1)))]) dX2_byLaw_29 rfl (nI_add _ _) (by decide) rfl rfl (np := 32) rfl ?_
          refine g_goto F dX2_byLaw_32 (np := 4) (by decide) ?_
          exact ih4 (his + 1) (q + 1) (by first | (unfold sCnt; rw [pif_t ‹_›, h1]; done) | (unfold sCnt; rw [pif_f ‹_›, h1, Nat.add_zero]; done)) (by first | assumption | omega) (by omega)
  exact L4 _ 0 0 (by rfl) (by omega) (Nat.lt_succ_self _)

set_option maxRecDepth 100000 in
theorem ct_X2_storeysOf {l : Launch} {D : va_G} {E : State → Prop} {B : Nat} (hE : Stab E) {ad : Nat → Nat} {h0 : AH} (σ : MSt) (L : LawT) (p : Nat) (hp : p < σ.1 2) (hok : mOK σ L) : Ct l D E B yX2_storeysOf cX2_storeysOf 3 (some .int) 3 70 0 0 [.ref (ad 0), .int (nI p)] (MH D ad h0 σ) (RI (sSt (mV σ L) (σ.1 6) p) (MH D ad h0 σ)) := by
  refine Ct.of (nL := 3) (lv := [some (.ref (ad 0)), some (.int (nI p)), none]) (by decide) (Nat.le_of_ble_eq_true rfl) hE 1 rfl ?_
  generalize hT : RI (sSt (mV σ L) (σ.1 6) p) (MH D ad h0 σ) = T
  intro zp ze zs zm zb zt zc F hr hnm
  generalize ([.ref (ad 0), .int (nI p)] : List Value).toArray = za at F ⊢
  have hok2 := hok
  obtain ⟨ho8, hm15, ht99, hby, hlaw⟩ := hok2
  refine g_aload_n F dX2_storeysOf_0 rfl rfl (np := 1) rfl ?_
  refine g_iload_n F dX2_storeysOf_1 rfl rfl (np := 2) rfl ?_
  refine g_runV F (C := RX2) (ci := 2) (T0 := TX2) (N := 42) (rest := []) (ct_X2_isOpen hE σ p (by omega)) (lw_V q1811 q1813 qs74 q102 q1814) hcV_X2_isOpen ⟨Nat.le_of_ble_eq_true rfl, Nat.le_of_ble_eq_true rfl⟩ rfl (fun h hs => hs.obj) rfl rfl (Nat.le_of_ble_eq_true rfl) dX2_storeysOf_2 ⟨Nat.le_of_ble_eq_true rfl, Nat.le_of_ble_eq_true rfl⟩ (np := 5) rfl (k_RI ?_)
  refine g_if_neB F dX2_storeysOf_5 (tp := 10) (by decide) (np := 8) rfl (fun c5 => ?_) (fun c5 => ?_)
  · refine g_aload_n F dX2_storeysOf_10 rfl rfl (np := 11) rfl ?_
    refine h_get F (k := 9) (v := .int (nI (σ.1 9))) (by decide) rfl q1555 dX2_storeysOf_11 (np := 14) rfl ?_
    refine g_if_eqN F (by first | (cases L with | none => have := hlaw; simp only [lawM] at this; omega | some ls => have := hlaw.1; omega)) dX2_storeysOf_14 (tp := 25) (by decide) (np := 17) rfl (fun c14 => ?_) (fun c14 => ?_)
    · have hLs : L = none := by
        cases L with
        | none => rfl
        | some ls => exact absurd (hlaw.1.symm.trans c14) (by decide)
      refine g_aload_n F dX2_storeysOf_25 rfl rfl (np := 26) rfl ?_
      refine h_get F (k := 3) (v := .ref (ad 3)) (by decide) rfl q1549 dX2_storeysOf_26 (np := 29) rfl ?_
      refine g_iload_n F dX2_storeysOf_29 rfl rfl (np := 30) rfl ?_
      refine h_ald F (k := 3) (i := p) (L := 75) (v := σ.2.1 3 p) rfl rfl (by decide) (by omega) rfl rfl dX2_storeysOf_30 (by decide) (by decide) (np := 31) rfl ?_
      refine g_bipush F (v := (nI 20)) dX2_storeysOf_31 (by decide) (np := 33) rfl ?_
      refine g_idiv F dX2_storeysOf_33 (by decide) (np := 34) rfl ?_
      refine g_iconst F (v := (nI 1)) dX2_storeysOf_34 (by decide) (np := 35) rfl ?_
      refine g_iadd F dX2_storeysOf_35 (np := 36) rfl ?_
      refine g_aload_n F dX2_storeysOf_36 rfl rfl (np := 37) rfl ?_
      refine h_get F (k := 3) (v := .ref (ad 3)) (by decide) rfl q1549 dX2_storeysOf_37 (np := 40) rfl ?_
      refine g_bipush F (v := (nI 15)) dX2_storeysOf_40 (by decide) (np := 42) rfl ?_
      refine g_iload_n F dX2_storeysOf_42 rfl rfl (np := 43) rfl ?_
      refine g_iaddN F dX2_storeysOf_43 (np := 44) rfl ?_
      refine h_ald F (k := 3) (i := 15 + p) (L := 75) (v := σ.2.1 3 (15 + p)) rfl rfl (by decide) (by omega) rfl rfl dX2_storeysOf_44 (by decide) (by decide) (np := 45) rfl ?_
      refine g_iconst F (v := (nI 2)) dX2_storeysOf_45 (by decide) (np := 46) rfl ?_
      refine g_icmp_ne F dX2_storeysOf_46 (tp := 53) (by decide) (np := 49) rfl (fun c46 => ?_) (fun c46 => ?_)
      · refine g_iconst F (v := (nI 0)) dX2_storeysOf_53 (by decide) (np := 54) rfl ?_
        refine g_iadd F dX2_storeysOf_54 (np := 55) rfl ?_
        refine g_istore_n F (lv' := [some (.ref (ad 0)), some (.int (nI p)), some (.int ((((σ.2.1 3 p) / (nI (20))) + (nI (1))) + (nI (0))))]) dX2_storeysOf_55 rfl (by decide) rfl rfl (np := 56) rfl ?_
        refine g_iconst F (v := (nI 0)) dX2_storeysOf_56 (by decide) (np := 57) rfl ?_
        refine g_bipush F (v := (nI 9)) dX2_storeysOf_57 (by decide) (np := 59) rfl ?_
        refine g_iload_n F dX2_storeysOf_59 rfl rfl (np := 60) rfl ?_
        refine g_min F (rest := [.int (nI 0)]) q1831 (by decide) (by decide) (Nat.le_of_ble_eq_true rfl) (Nat.le_of_ble_eq_true rfl) dX2_storeysOf_60 (np := 63) rfl ?_
        refine g_max F (rest := []) q1823 (by decide) (by decide) (Nat.le_of_ble_eq_true rfl) (Nat.le_of_ble_eq_true rfl) dX2_storeysOf_63 (np := 66) rfl ?_
        have hv : jmax (nI (0)) (jmin (nI (9)) ((((σ.2.1 3 p) / (nI (20))) + (nI (1))) + (nI (0)))) = sSt (mV σ L) (σ.1 6) p := by unfold sSt; rw [pif_t (by assumption), hLs]; simp_all [sRaw, mV, mP_2, mP_3]
        exact g_iret F hr rfl (Nat.le_of_ble_eq_true rfl) (Nat.le_of_ble_eq_true rfl) dX2_storeysOf_66 (fun h hs => by rw [← hT]; exact ⟨congrArg (fun z => some (Value.int z)) hv, hs⟩)
      · refine g_iconst F (v := (nI 1)) dX2_storeysOf_49 (by decide) (np := 50) rfl ?_
        refine g_goto F dX2_storeysOf_50 (np := 54) (by decide) ?_
        refine g_iadd F dX2_storeysOf_54 (np := 55) rfl ?_
        refine g_istore_n F (lv' := [some (.ref (ad 0)), some (.int (nI p)), some (.int ((((σ.2.1 3 p) / (nI (20))) + (nI (1))) + (nI (1))))]) dX2_storeysOf_55 rfl (by decide) rfl rfl (np := 56) rfl ?_
        refine g_iconst F (v := (nI 0)) dX2_storeysOf_56 (by decide) (np := 57) rfl ?_
        refine g_bipush F (v := (nI 9)) dX2_storeysOf_57 (by decide) (np := 59) rfl ?_
        refine g_iload_n F dX2_storeysOf_59 rfl rfl (np := 60) rfl ?_
        refine g_min F (rest := [.int (nI 0)]) q1831 (by decide) (by decide) (Nat.le_of_ble_eq_true rfl) (Nat.le_of_ble_eq_true rfl) dX2_storeysOf_60 (np := 63) rfl ?_
        refine g_max F (rest := []) q1823 (by decide) (by decide) (Nat.le_of_ble_eq_true rfl) (Nat.le_of_ble_eq_true rfl) dX2_storeysOf_63 (np := 66) rfl ?_
        have hv : jmax (nI (0)) (jmin (nI (9)) ((((σ.2.1 3 p) / (nI (20))) + (nI (1))) + (nI (1)))) = sSt (mV σ L) (σ.1 6) p := by unfold sSt; rw [pif_t (by assumption), hLs]; simp_all [sRaw, mV, mP_2, mP_3]
        exact g_iret F hr rfl (Nat.le_of_ble_eq_true rfl) (Nat.le_of_ble_eq_true rfl) dX2_storeysOf_66 (fun h hs => by rw [← hT]; exact ⟨congrArg (fun z => some (Value.int z)) hv, hs⟩)
    · obtain ⟨ls, hLs⟩ : ∃ ls, L = some ls := by
        cases L with
        | none => exact absurd hlaw c14
        | some ls => exact ⟨ls, rfl⟩
      refine g_aload_n F dX2_storeysOf_17 rfl rfl (np := 18) rfl ?_
      refine g_iload_n F dX2_storeysOf_18 rfl rfl (np := 19) rfl ?_
      refine g_runV F (C := RX2) (ci := 2) (T0 := TX2) (N := 42) (rest := []) (ct_X2_byLaw hE σ ls p (by exact hp) (by exact hLs ▸ hok)) (lw_V q1815 q1817 qs75 q102 q1818) hcV_X2_byLaw ⟨Nat.le_of_ble_eq_true rfl, Nat.le_of_ble_eq_true rfl⟩ rfl (fun h hs => hs.obj) rfl rfl (Nat.le_of_ble_eq_true rfl) dX2_storeysOf_19 ⟨Nat.le_of_ble_eq_true rfl, Nat.le_of_ble_eq_true rfl⟩ (np := 22) rfl (k_RI ?_)
      refine g_goto F dX2_storeysOf_22 (np := 55) (by decide) ?_
      refine g_istore_n F (lv' := [some (.ref (ad 0)), some (.int (nI p)), some (.int (sLines (sNames (mV σ (some ls)) (σ.1 6) p) ls))]) dX2_storeysOf_55 rfl (by decide) rfl rfl (np := 56) rfl ?_
      refine g_iconst F (v := (nI 0)) dX2_storeysOf_56 (by decide) (np := 57) rfl ?_
      refine g_bipush F (v := (nI 9)) dX2_storeysOf_57 (by decide) (np := 59) rfl ?_
      refine g_iload_n F dX2_storeysOf_59 rfl rfl (np := 60) rfl ?_
      refine g_min F (rest := [.int (nI 0)]) q1831 (by decide) (by decide) (Nat.le_of_ble_eq_true rfl) (Nat.le_of_ble_eq_true rfl) dX2_storeysOf_60 (np := 63) rfl ?_
      refine g_max F (rest := []) q1823 (by decide) (by decide) (Nat.le_of_ble_eq_true rfl) (Nat.le_of_ble_eq_true rfl) dX2_storeysOf_63 (np := 66) rfl ?_
      have hv : jmax (nI (0)) (jmin (nI (9)) (sLines (sNames (mV σ (some ls)) (σ.1 6) p) ls)) = sSt (mV σ L) (σ.1 6) p := by unfold sSt; rw [pif_t (by assumption), hLs]; simp_all [sRaw, mV, mP_2, mP_3]
      exact g_iret F hr rfl (Nat.le_of_ble_eq_true rfl) (Nat.le_of_ble_eq_true rfl) dX2_storeysOf_66 (fun h hs => by rw [← hT]; exact ⟨congrArg (fun z => some (Value.int z)) hv, hs⟩)
  · refine g_iconst F (v := (nI 0)) dX2_storeysOf_8 (by decide) (np := 9) rfl ?_
    have hv : nI (0) = sSt (mV σ L) (σ.1 6) p := by unfold sSt; rw [pif_f (by assumption)]; rfl
    exact g_iret F hr rfl (Nat.le_of_ble_eq_true rfl) (Nat.le_of_ble_eq_true rfl) dX2_storeysOf_9 (fun h hs => by rw [← hT]; exact ⟨congrArg (fun z => some (Value.int z)) hv, hs⟩)
