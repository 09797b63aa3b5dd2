/-! WALKS (printed by walk.py): keep, row, isRow, kept, put, element, shift, count, above, body, trace, taken -/
set_option maxRecDepth 100000
set_option maxRecDepth 100000 in
theorem ct_X2_keep {l : Launch} {D : va_G} {E : State → Prop} {B : Nat} (hE : Stab E) {ad : Nat → Nat} {h0 : AH} (σ : MSt)  (i : Int32) (b : Int32) (hnb : σ.1 34 ≤ 50) : Ct l D E B yX2_keep cX2_keep 3 (some .int) 2 42 0 0 [.ref (ad 0), .int i, .int b] (MH D ad h0 σ) (RI (rKeep σ i b) (MH D ad h0 (gKeep σ i b))) := by
  refine Ct.of (nL := 3) (lv := [some (.ref (ad 0)), some (.int i), some (.int b)]) (by decide) (Nat.le_of_ble_eq_true rfl) hE 0 rfl ?_
  generalize hT : RI (rKeep σ i b) (MH D ad h0 (gKeep σ i b)) = T
  intro zp ze zs zm zb zt zc F hr hnm
  generalize ([.ref (ad 0), .int i, .int b] : List Value).toArray = za at F ⊢
  refine g_iload_n F dX2_keep_0 rfl rfl (np := 1) rfl ?_
  refine g_runS F (rest := []) (ct_X2_isShelf hE i ) (lw_S q1704 q1705 q102 q1706) hcS_X2_isShelf ⟨Nat.le_of_ble_eq_true rfl, Nat.le_of_ble_eq_true rfl⟩ rfl rfl (Nat.le_of_ble_eq_true rfl) dX2_keep_1 ⟨Nat.le_of_ble_eq_true rfl, Nat.le_of_ble_eq_true rfl⟩ (np := 4) rfl (k_RI ?_)
  refine g_if_eqB F dX2_keep_4 (tp := 21) (by decide) (np := 7) rfl (fun c4 => ?_) (fun c4 => ?_)
  · refine g_iconst F (v := (-1)) dX2_keep_21 (by decide) (np := 22) rfl ?_
    have hσ : σ = (gKeep σ i b) := by unfold gKeep; first | (rw [pif_f (fun z => c4 z.1)]; done) | (rw [pif_f (fun z => c18 ((keepP_w (by omega)).mpr z.2))]; done)
    have hv : -1 = rKeep σ i b := by unfold rKeep; first | (rw [pif_f (fun z => c4 z.1)]; done) | (rw [pif_f (fun z => c18 ((keepP_w (by omega)).mpr z.2))]; done)
    exact g_iret F hr rfl (Nat.le_of_ble_eq_true rfl) (Nat.le_of_ble_eq_true rfl) dX2_keep_22 (fun h hs => by rw [← hT]; exact ⟨congrArg (fun z => some (Value.int z)) hv, (hσ ▸ hs)⟩)
  · obtain ⟨hil, hie⟩ := inN_cl (by decide) c4
    refine WG.eqv (lv' := [some (.ref (ad 0)), some (.int (nI (i.toNatClampNeg))), some (.int b)]) rfl (congrArg (fun z => ([some (.ref (ad 0)), some (.int z), some (.int b)] : List (Option Value))) (show i = (nI (i.toNatClampNeg)) from by exact hie)) ?_
    refine g_iload_n F dX2_keep_7 rfl rfl (np := 8) rfl ?_
    refine g_iconst F (v := (-1)) dX2_keep_8 (by decide) (np := 9) rfl ?_
    refine g_aload_n F dX2_keep_9 rfl rfl (np := 10) rfl ?_
    refine h_get F (k := 34) (v := .int (nI (σ.1 34))) (by decide) rfl q1580 dX2_keep_10 (np := 13) rfl ?_
    refine g_iconst F (v := (nI 1)) dX2_keep_13 (by decide) (np := 14) rfl ?_
    refine g_isub F dX2_keep_14 (np := 15) rfl ?_
    refine g_runS F (rest := []) (ct_X2_within hE b (-1) ((nI (σ.1 34)) - (nI (1))) ) (lw_S q1677 q1678 q102 q1679) hcS_X2_within ⟨Nat.le_of_ble_eq_true rfl, Nat.le_of_ble_eq_true rfl⟩ rfl rfl (Nat.le_of_ble_eq_true rfl) dX2_keep_15 ⟨Nat.le_of_ble_eq_true rfl, Nat.le_of_ble_eq_true rfl⟩ (np := 18) rfl (k_RI ?_)
    refine g_if_neB F dX2_keep_18 (tp := 23) (by decide) (np := 21) rfl (fun c18 => ?_) (fun c18 => ?_)
    · have hkb := (keepP_w (by omega)).mp c18
      refine g_aload_n F dX2_keep_23 rfl rfl (np := 24) rfl ?_
      refine h_get F (k := 38) (v := .ref (ad 38)) (by decide) rfl q1584 dX2_keep_24 (np := 27) rfl ?_
      refine g_iload_n F dX2_keep_27 rfl rfl (np := 28) rfl ?_
      refine g_iload_n F dX2_keep_28 rfl rfl (np := 29) rfl ?_
      refine g_if_ge F dX2_keep_29 (tp := 36) (by decide) (np := 32) rfl (fun c29 => ?_) (fun c29 => ?_)
      · refine g_bipush F (v := (nI 10)) dX2_keep_36 (by decide) (np := 38) rfl ?_
        refine g_iload_n F dX2_keep_38 rfl rfl (np := 39) rfl ?_
        refine g_iadd F dX2_keep_39 (np := 40) rfl ?_
        refine h_ast F (k := 38) (i := i.toNatClampNeg) (L := 6) rfl rfl (by decide) (by omega) rfl dX2_keep_40 (by decide) (by decide) (np := 41) rfl ?_
        refine g_aload_n F dX2_keep_41 rfl rfl (np := 42) rfl ?_
        refine h_get F (k := 39) (v := .ref (ad 39)) (by decide) rfl q1585 dX2_keep_42 (np := 45) rfl ?_
        refine g_iload_n F dX2_keep_45 rfl rfl (np := 46) rfl ?_
        refine g_iconst F (v := (nI 0)) dX2_keep_46 (by decide) (np := 47) rfl ?_
        refine h_ast F (k := 39) (i := i.toNatClampNeg) (L := 6) rfl rfl (by decide) (by omega) rfl dX2_keep_47 (by decide) (by decide) (np := 48) rfl ?_
        refine g_iconst F (v := (nI 1)) dX2_keep_48 (by decide) (np := 49) rfl ?_
        have hσ : (sA (sA σ 38 i.toNatClampNeg ((nI (10)) + b)) 39 i.toNatClampNeg (nI (0))) = (gKeep σ i b) := by unfold gKeep; rw [pif_t ⟨c4, hkb⟩]; first | (rw [if_pos (Int32.not_le.mp c29)]; rfl) | (rw [if_neg (Int32.not_lt.mpr c29)]; rfl)
        have hv : nI (1) = rKeep σ i b := by unfold rKeep; rw [pif_t ⟨c4, hkb⟩]; rfl
        exact g_iret F hr rfl (Nat.le_of_ble_eq_true rfl) (Nat.le_of_ble_eq_true rfl) dX2_keep_49 (fun h hs => by rw [← hT]; exact ⟨congrArg (fun z => some (Value.int z)) hv, (hσ ▸ hs)⟩)
      · refine g_iconst F (v := (-1)) dX2_keep_32 (by decide) (np := 33) rfl ?_
        refine g_goto F dX2_keep_33 (np := 40) (by decide) ?_
        refine h_ast F (k := 38) (i := i.toNatClampNeg) (L := 6) rfl rfl (by decide) (by omega) rfl dX2_keep_40 (by decide) (by decide) (np := 41) rfl ?_
        refine g_aload_n F dX2_keep_41 rfl rfl (np := 42) rfl ?_
        refine h_get F (k := 39) (v := .ref (ad 39)) (by decide) rfl q1585 dX2_keep_42 (np := 45) rfl ?_
        refine g_iload_n F dX2_keep_45 rfl rfl (np := 46) rfl ?_
        refine g_iconst F (v := (nI 0)) dX2_keep_46 (by decide) (np := 47) rfl ?_
        refine h_ast F (k := 39) (i := i.toNatClampNeg) (L := 6) rfl rfl (by decide) (by omega) rfl dX2_keep_47 (by decide) (by decide) (np := 48) rfl ?_
        refine g_iconst F (v := (nI 1)) dX2_keep_48 (by decide) (np := 49) rfl ?_
        have hσ : (sA (sA σ 38 i.toNatClampNeg (-1)) 39 i.toNatClampNeg (nI (0))) = (gKeep σ i b) := by unfold gKeep; rw [pif_t ⟨c4, hkb⟩]; first | (rw [if_pos (Int32.not_le.mp c29)]; rfl) | (rw [if_neg (Int32.not_lt.mpr c29)]; rfl)
        have hv : nI (1) = rKeep σ i b := by unfold rKeep; rw [pif_t ⟨c4, hkb⟩]; rfl
        exact g_iret F hr rfl (Nat.le_of_ble_eq_true rfl) (Nat.le_of_ble_eq_true rfl) dX2_keep_49 (fun h hs => by rw [← hT]; exact ⟨congrArg (fun z => some (Value.int z)) hv, (hσ ▸ hs)⟩)
    · refine g_iconst F (v := (-1)) dX2_keep_21 (by decide) (np := 22) rfl ?_
      have hσ : σ = (gKeep σ i b) := by unfold gKeep; first | (rw [pif_f (fun z => c4 z.1)]; done) | (rw [pif_f (fun z => c18 ((keepP_w (by omega)).mpr z.2))]; done)
      have hv : -1 = rKeep σ i b := by unfold rKeep; first | (rw [pif_f (fun z => c4 z.1)]; done) | (rw [pif_f (fun z => c18 ((keepP_w (by omega)).mpr z.2))]; done)
      exact g_iret F hr rfl (Nat.le_of_ble_eq_true rfl) (Nat.le_of_ble_eq_true rfl) dX2_keep_22 (fun h hs => by rw [← hT]; exact ⟨congrArg (fun z => some (Value.int z)) hv, (hσ ▸ hs)⟩)

set_option maxRecDepth 100000 in
theorem ct_X2_row {l : Launch} {D : va_G} {E : State → Prop} {B : Nat} (hE : Stab E) {ad : Nat → Nat} {h0 : AH} (σ : MSt)  (i : Int32) (so : Int32) (n : Int32) : Ct l D E B yX2_row cX2_row 5 (some .int) 2 42 0 0 [.ref (ad 0), .int i, .int so, .int n] (MH D ad h0 σ) (RI (rRow i so n) (MH D ad h0 (gRow σ i so n))) := by
  refine Ct.of (nL := 5) (lv := [some (.ref (ad 0)), some (.int i), some (.int so), some (.int n), none]) (by decide) (Nat.le_of_ble_eq_true rfl) hE 1 rfl ?_
  generalize hT : RI (rRow i so n) (MH D ad h0 (gRow σ i so n)) = T
  intro zp ze zs zm zb zt zc F hr hnm
  generalize ([.ref (ad 0), .int i, .int so, .int n] : List Value).toArray = za at F ⊢
  refine g_iload_n F dX2_row_0 rfl rfl (np := 1) rfl ?_
  refine g_runS F (rest := []) (ct_X2_isShelf hE i ) (lw_S q1704 q1705 q102 q1706) hcS_X2_isShelf ⟨Nat.le_of_ble_eq_true rfl, Nat.le_of_ble_eq_true rfl⟩ rfl rfl (Nat.le_of_ble_eq_true rfl) dX2_row_1 ⟨Nat.le_of_ble_eq_true rfl, Nat.le_of_ble_eq_true rfl⟩ (np := 4) rfl (k_RI ?_)
  refine g_if_eqB F dX2_row_4 (tp := 22) (by decide) (np := 7) rfl (fun c4 => ?_) (fun c4 => ?_)
  · refine g_iconst F (v := (-1)) dX2_row_22 (by decide) (np := 23) rfl ?_
    have hσ : σ = (gRow σ i so n) := by unfold gRow; rw [pif_f (fun z => by obtain ⟨z1, z2, z3, z4⟩ := z; first | exact c4 z1 | exact c13 (bt4.mpr z2) | exact c19 z3 | exact Int32.not_le.mpr c19 z3)]
    have hv : -1 = rRow i so n := by unfold rRow; rw [pif_f (fun z => by obtain ⟨z1, z2, z3⟩ := z; first | exact c4 z1 | exact c13 (bt4.mpr z2) | exact c19 z3 | exact Int32.not_le.mpr c19 z3)]
    exact g_iret F hr rfl (Nat.le_of_ble_eq_true rfl) (Nat.le_of_ble_eq_true rfl) dX2_row_23 (fun h hs => by rw [← hT]; exact ⟨congrArg (fun z => some (Value.int z)) hv, (hσ ▸ hs)⟩)
  · obtain ⟨hil, hie⟩ := inN_cl (by decide) c4
    refine WG.eqv (lv' := [some (.ref (ad 0)), some (.int (nI (i.toNatClampNeg))), some (.int so), some (.int n), none]) rfl (congrArg (fun z => ([some (.ref (ad 0)), some (.int z), some (.int so), some (.int n), none] : List (Option Value))) (show i = (nI (i.toNatClampNeg)) from by exact hie)) ?_
    refine g_iload_n F dX2_row_7 rfl rfl (np := 8) rfl ?_
    refine g_iconst F (v := (nI 0)) dX2_row_8 (by decide) (np := 9) rfl ?_
    refine g_iconst F (v := (nI 4)) dX2_row_9 (by decide) (np := 10) rfl ?_
    refine g_runS F (rest := []) (ct_X2_within hE so (nI (0)) (nI (4)) ) (lw_S q1677 q1678 q102 q1679) hcS_X2_within ⟨Nat.le_of_ble_eq_true rfl, Nat.le_of_ble_eq_true rfl⟩ rfl rfl (Nat.le_of_ble_eq_true rfl) dX2_row_10 ⟨Nat.le_of_ble_eq_true rfl, Nat.le_of_ble_eq_true rfl⟩ (np := 13) rfl (k_RI ?_)
    refine g_if_eqB F dX2_row_13 (tp := 22) (by decide) (np := 16) rfl (fun c13 => ?_) (fun c13 => ?_)
    · refine g_iconst F (v := (-1)) dX2_row_22 (by decide) (np := 23) rfl ?_
      have hσ : σ = (gRow σ i so n) := by unfold gRow; rw [pif_f (fun z => by obtain ⟨z1, z2, z3, z4⟩ := z; first | exact c4 z1 | exact c13 (bt4.mpr z2) | exact c19 z3 | exact Int32.not_le.mpr c19 z3)]
      have hv : -1 = rRow i so n := by unfold rRow; rw [pif_f (fun z => by obtain ⟨z1, z2, z3⟩ := z; first | exact c4 z1 | exact c13 (bt4.mpr z2) | exact c19 z3 | exact Int32.not_le.mpr c19 z3)]
      exact g_iret F hr rfl (Nat.le_of_ble_eq_true rfl) (Nat.le_of_ble_eq_true rfl) dX2_row_23 (fun h hs => by rw [← hT]; exact ⟨congrArg (fun z => some (Value.int z)) hv, (hσ ▸ hs)⟩)
    · refine g_iload_n F dX2_row_16 rfl rfl (np := 17) rfl ?_
      refine g_bipush F (v := (nI 60)) dX2_row_17 (by decide) (np := 19) rfl ?_
      refine g_icmp_le F dX2_row_19 (tp := 24) (by decide) (np := 22) rfl (fun c19 => ?_) (fun c19 => ?_)
      · refine g_iload_n F dX2_row_24 rfl rfl (np := 25) rfl ?_
        refine g_if_ge F dX2_row_25 (tp := 31) (by decide) (np := 28) rfl (fun c25 => ?_) (fun c25 => ?_)
        · refine g_aload_n F dX2_row_31 rfl rfl (np := 32) rfl ?_
          refine h_get F (k := 38) (v := .ref (ad 38)) (by decide) rfl q1584 dX2_row_32 (np := 35) rfl ?_
          refine g_iload_n F dX2_row_35 rfl rfl (np := 36) rfl ?_
          refine g_iload_n F dX2_row_36 rfl rfl (np := 37) rfl ?_
          refine h_ast F (k := 38) (i := i.toNatClampNeg) (L := 6) rfl rfl (by decide) (by omega) rfl dX2_row_37 (by decide) (by decide) (np := 38) rfl ?_
          refine g_aload_n F dX2_row_38 rfl rfl (np := 39) rfl ?_
          refine h_get F (k := 39) (v := .ref (ad 39)) (by decide) rfl q1585 dX2_row_39 (np := 42) rfl ?_
          refine g_iload_n F dX2_row_42 rfl rfl (np := 43) rfl ?_
          refine g_iload_n F dX2_row_43 rfl rfl (np := 44) rfl ?_
          refine h_ast F (k := 39) (i := i.toNatClampNeg) (L := 6) rfl rfl (by decide) (by omega) rfl dX2_row_44 (by decide) (by decide) (np := 45) rfl ?_
          refine g_iconst F (v := (nI 0)) dX2_row_45 (by decide) (np := 46) rfl ?_
          refine g_istore F (lv' := [some (.ref (ad 0)), some (.int (nI (i.toNatClampNeg))), some (.int so), some (.int n), some (.int (nI 0))]) dX2_row_46 (by decide) rfl rfl (np := 48) rfl ?_
          have L48 : ∀ (zn : Nat) (k : Nat) (f : Nat → Int64), (∀ j, f j = if 60 * i.toNatClampNeg ≤ j ∧ j < 60 * i.toNatClampNeg + k then 0 else σ.2.2 j) → (k ≤ 60) → 60 - k < zn → WG zp l ze ({ frames := 2, cells := 0, slots := 0, locals := 42 } : Room) zs zm za zb zt zc D B 5 (MQ zb (QT D B T) za zs 0 0 (zA B)) (MH D ad h0 (sL (sA (sA σ 38 i.toNatClampNeg so) 39 i.toNatClampNeg n) f)) 0 0 48 [some (.ref (ad 0)), some (.int (nI (i.toNatClampNeg))), some (.int so), some (.int n), some (.int (nI k))] [] := by
            intro zn
            induction zn with
            | zero => intro k f h1 h2 hm; exact absurd hm (Nat.not_lt_zero _)
            | succ zn ih48 =>
              intro k f h1 h2 hm
              refine g_iload F dX2_row_48 rfl (np := 50) rfl ?_
              refine g_bipush F (v := (nI 60)) dX2_row_50 (by decide) (np := 52) rfl ?_
              refine g_icmp_geN F (by omega) (by decide) dX2_row_52 (tp := 74) (by decide) (np := 55) rfl (fun c52 => ?_) (fun c52 => ?_)
              · have hf : f = fun j => if 60 * i.toNatClampNeg ≤ j ∧ j < 60 * i.toNatClampNeg + 60 then 0 else σ.2.2 j := by funext j; rw [h1, show k = 60 by omega]
                refine g_iconst F (v := (nI 1)) dX2_row_74 (by decide) (np := 75) rfl ?_
                have hσ : (sL (sA (sA σ 38 i.toNatClampNeg so) 39 i.toNatClampNeg n) f) = (gRow σ i so n) := by unfold gRow; rw [pif_t ⟨c4, bt4.mp c13, by first | exact c19 | exact Int32.not_lt.mp c19, by first | exact Int32.not_lt.mpr c25 | exact c25⟩, hf]
                have hv : nI (1) = rRow i so n := by unfold rRow; rw [pif_t ⟨c4, bt4.mp c13, by first | exact c19 | exact Int32.not_lt.mp c19⟩, if_neg (by first | exact Int32.not_lt.mpr c25 | exact c25)]; rfl
                exact g_iret F hr rfl (Nat.le_of_ble_eq_true rfl) (Nat.le_of_ble_eq_true rfl) dX2_row_75 (fun h hs => by rw [← hT]; exact ⟨congrArg (fun z => some (Value.int z)) hv, (hσ ▸ hs)⟩)
              · refine g_aload_n F dX2_row_55 rfl rfl (np := 56) rfl ?_
                refine h_get F (k := 40) (v := .ref (ad 40)) (by decide) rfl q1586 dX2_row_56 (np := 59) rfl ?_
                refine g_bipush F (v := (nI 60)) dX2_row_59 (by decide) (np := 61) rfl ?_
                refine g_iload_n F dX2_row_61 rfl rfl (np := 62) rfl ?_
                refine g_imulN F dX2_row_62 (np := 63) rfl ?_
                refine g_iload F dX2_row_63 rfl (np := 65) rfl ?_
                refine g_iaddN F dX2_row_65 (np := 66) rfl ?_
                refine g_lconst F (v := 0) dX2_row_66 (by decide) (np := 67) rfl ?_
                refine h_last F (i := (60 * i.toNatClampNeg) + k) (by omega) rfl dX2_row_67 (np := 68) rfl ?_
                refine g_iinc F (v := (nI (k + 1))) (lv' := [some (.ref (ad 0)), some (.int (nI (i.toNatClampNeg))), some (.int so), some (.int n), some (.int (nI (k + 1)))]) dX2_row_68 rfl (nI_add _ _) (by decide) rfl rfl (np := 71) rfl ?_
                refine g_goto F dX2_row_71 (np := 48) (by decide) ?_
                exact ih48 (k + 1) ((va_up f ((60 * i.toNatClampNeg) + k) 0)) (by exact cl_step (P := fun _ => 0) h1 rfl) (by omega) (by omega)
          refine WG.weak (S' := MH D ad h0 (sL (sA (sA σ 38 i.toNatClampNeg so) 39 i.toNatClampNeg n) (σ.2.2))) (fun h hs => by exact hs) ?_
          exact L48 _ 0 ((σ.2.2)) (by intro j; rw [if_neg (by omega)]) (by omega) (Nat.lt_succ_self _)
        · refine g_bipush F (v := (-14)) dX2_row_28 (by decide) (np := 30) rfl ?_
          have hσ : σ = (gRow σ i so n) := by unfold gRow; rw [pif_f (fun z => by first | exact z.2.2.2 (Int32.not_le.mp c25) | exact z.2.2.2 c25)]
          have hv : -14 = rRow i so n := by unfold rRow; rw [pif_t ⟨c4, bt4.mp c13, by first | exact c19 | exact Int32.not_lt.mp c19⟩, if_pos (by first | exact Int32.not_le.mp c25 | exact c25)]
          exact g_iret F hr rfl (Nat.le_of_ble_eq_true rfl) (Nat.le_of_ble_eq_true rfl) dX2_row_30 (fun h hs => by rw [← hT]; exact ⟨congrArg (fun z => some (Value.int z)) hv, (hσ ▸ hs)⟩)
      · refine g_iconst F (v := (-1)) dX2_row_22 (by decide) (np := 23) rfl ?_
        have hσ : σ = (gRow σ i so n) := by unfold gRow; rw [pif_f (fun z => by obtain ⟨z1, z2, z3, z4⟩ := z; first | exact c4 z1 | exact c13 (bt4.mpr z2) | exact c19 z3 | exact Int32.not_le.mpr c19 z3)]
        have hv : -1 = rRow i so n := by unfold rRow; rw [pif_f (fun z => by obtain ⟨z1, z2, z3⟩ := z; first | exact c4 z1 | exact c13 (bt4.mpr z2) | exact c19 z3 | exact Int32.not_le.mpr c19 z3)]
        exact g_iret F hr rfl (Nat.le_of_ble_eq_true rfl) (Nat.le_of_ble_eq_true rfl) dX2_row_23 (fun h hs => by rw [← hT]; exact ⟨congrArg (fun z => some (Value.int z)) hv, (hσ ▸ hs)⟩)

set_option maxRecDepth 100000 in
theorem ct_X2_isRow {l : Launch} {D : va_G} {E : State → Prop} {B : Nat} (hE : Stab E) {ad : Nat → Nat} {h0 : AH} (σ : MSt)  (i : Nat) (hi : i < 6) : Ct l D E B yX2_isRow cX2_isRow 2 (some .boolean) 1 22 0 0 [.ref (ad 0), .int (nI i)] (MH D ad h0 σ) (RI (bI (inN (σ.2.1 38 i) 5)) (MH D ad h0 σ)) := by
  refine Ct.of (nL := 2) (lv := [some (.ref (ad 0)), some (.int (nI i))]) (by decide) (Nat.le_of_ble_eq_true rfl) hE 0 rfl ?_
  generalize hT : RI (bI (inN (σ.2.1 38 i) 5)) (MH D ad h0 σ) = T
  intro zp ze zs zm zb zt zc F hr hnm
  generalize ([.ref (ad 0), .int (nI i)] : List Value).toArray = za at F ⊢
  refine g_aload_n F dX2_isRow_0 rfl rfl (np := 1) rfl ?_
  refine h_get F (k := 38) (v := .ref (ad 38)) (by decide) rfl q1584 dX2_isRow_1 (np := 4) rfl ?_
  refine g_iload_n F dX2_isRow_4 rfl rfl (np := 5) rfl ?_
  refine h_ald F (k := 38) (i := i) (L := 6) (v := σ.2.1 38 i) rfl rfl (by decide) (by omega) rfl rfl dX2_isRow_5 (by decide) (by decide) (np := 6) rfl ?_
  refine g_iconst F (v := (nI 0)) dX2_isRow_6 (by decide) (np := 7) rfl ?_
  refine g_iconst F (v := (nI 4)) dX2_isRow_7 (by decide) (np := 8) rfl ?_
  refine g_runS F (rest := []) (ct_X2_within hE (σ.2.1 38 i) (nI (0)) (nI (4)) ) (lw_S q1677 q1678 q102 q1679) hcS_X2_within ⟨Nat.le_of_ble_eq_true rfl, Nat.le_of_ble_eq_true rfl⟩ rfl rfl (Nat.le_of_ble_eq_true rfl) dX2_isRow_8 ⟨Nat.le_of_ble_eq_true rfl, Nat.le_of_ble_eq_true rfl⟩ (np := 11) rfl (k_RI ?_)
  have hv : bI (btw (σ.2.1 38 i) (nI (0)) (nI (4))) = bI (inN (σ.2.1 38 i) 5) := bI_c (by exact bt4)
  exact g_iret F hr bI_nar (Nat.le_of_ble_eq_true rfl) (Nat.le_of_ble_eq_true rfl) dX2_isRow_11 (fun h hs => by rw [← hT]; exact ⟨congrArg (fun z => some (Value.int z)) hv, hs⟩)

set_option maxRecDepth 100000 in
theorem ct_X2_kept {l : Launch} {D : va_G} {E : State → Prop} {B : Nat} (hE : Stab E) {S : AH → Prop}  (k : Int32) (v : Int64) : Ct l D E B yX2_kept cX2_kept 3 (some .long) 0 0 0 0 [.int k, .long (v)] (S) (RL (sKept k v) (S)) := by
  refine Ct.of (nL := 3) (lv := [some (.int k), some (.long (v)), none]) (by decide) (Nat.le_of_ble_eq_true rfl) hE 0 rfl ?_
  generalize hT : RL (sKept k v) (S) = T
  intro zp ze zs zm zb zt zc F hr hnm
  generalize ([.int k, .long (v)] : List Value).toArray = za at F ⊢
  refine g_iload_n F dX2_kept_0 rfl rfl (np := 1) rfl ?_
  by_cases k1_0 : k = 0
  · refine g_tabIn F (x := k) (v := 0) k1_0 (lo := 0) dX2_kept_1 (j := 0) (by decide) (by decide) (by decide) rfl (np := 32) (by decide) ?_
    refine g_lload_n F dX2_kept_32 rfl rfl (np := 33) rfl ?_
    refine g_l2i F dX2_kept_33 (np := 34) rfl ?_
    refine g_i2b F dX2_kept_34 (np := 35) rfl ?_
    refine g_i2l F dX2_kept_35 (np := 36) rfl ?_
    have hv : v.toInt32.toInt8.toInt32.toInt64 = (sKept k v) := by unfold sKept; first | (rw [if_pos k1_0]; done) | (rw [k1_1]; rfl) | (rw [k1_2]; rfl) | (rw [k1_3]; rfl) | (rw [if_neg k1_0, if_neg (show ¬ k = nI 1 from k1_1), if_neg (show ¬ k = nI 2 from k1_2), if_neg (show ¬ k = nI 3 from k1_3)]; first | (rw [if_pos c51]; done) | (rw [if_neg c51]; done))
    exact g_lret F hr (Nat.le_of_ble_eq_true rfl) (Nat.le_of_ble_eq_true rfl) dX2_kept_36 (fun h hs => by rw [← hT]; exact ⟨congrArg (fun z => some (Value.long z)) hv, hs⟩)
  by_cases k1_1 : k = 1
  · refine g_tabIn F (x := k) (v := 1) k1_1 (lo := 0) dX2_kept_1 (j := 1) (by decide) (by decide) (by decide) rfl (np := 37) (by decide) ?_
    refine g_lload_n F dX2_kept_37 rfl rfl (np := 38) rfl ?_
    refine g_l2i F dX2_kept_38 (np := 39) rfl ?_
    refine g_i2s F dX2_kept_39 (np := 40) rfl ?_
    refine g_i2l F dX2_kept_40 (np := 41) rfl ?_
    have hv : v.toInt32.toInt16.toInt32.toInt64 = (sKept k v) := by unfold sKept; first | (rw [if_pos k1_0]; done) | (rw [k1_1]; rfl) | (rw [k1_2]; rfl) | (rw [k1_3]; rfl) | (rw [if_neg k1_0, if_neg (show ¬ k = nI 1 from k1_1), if_neg (show ¬ k = nI 2 from k1_2), if_neg (show ¬ k = nI 3 from k1_3)]; first | (rw [if_pos c51]; done) | (rw [if_neg c51]; done))
    exact g_lret F hr (Nat.le_of_ble_eq_true rfl) (Nat.le_of_ble_eq_true rfl) dX2_kept_41 (fun h hs => by rw [← hT]; exact ⟨congrArg (fun z => some (Value.long z)) hv, hs⟩)
  by_cases k1_2 : k = 2
  · refine g_tabIn F (x := k) (v := 2) k1_2 (lo := 0) dX2_kept_1 (j := 2) (by decide) (by decide) (by decide) rfl (np := 42) (by decide) ?_
    refine g_lload_n F dX2_kept_42 rfl rfl (np := 43) rfl ?_
    refine g_l2i F dX2_kept_43 (np := 44) rfl ?_
    refine g_i2l F dX2_kept_44 (np := 45) rfl ?_
    have hv : v.toInt32.toInt64 = (sKept k v) := by unfold sKept; first | (rw [if_pos k1_0]; done) | (rw [k1_1]; rfl) | (rw [k1_2]; rfl) | (rw [k1_3]; rfl) | (rw [if_neg k1_0, if_neg (show ¬ k = nI 1 from k1_1), if_neg (show ¬ k = nI 2 from k1_2), if_neg (show ¬ k = nI 3 from k1_3)]; first | (rw [if_pos c51]; done) | (rw [if_neg c51]; done))
    exact g_lret F hr (Nat.le_of_ble_eq_true rfl) (Nat.le_of_ble_eq_true rfl) dX2_kept_45 (fun h hs => by rw [← hT]; exact ⟨congrArg (fun z => some (Value.long z)) hv, hs⟩)
  by_cases k1_3 : k = 3
  · refine g_tabIn F (x := k) (v := 3) k1_3 (lo := 0) dX2_kept_1 (j := 3) (by decide) (by decide) (by decide) rfl (np := 46) (by decide) ?_
    refine g_lload_n F dX2_kept_46 rfl rfl (np := 47) rfl ?_
    have hv : v = (sKept k v) := by unfold sKept; first | (rw [if_pos k1_0]; done) | (rw [k1_1]; rfl) | (rw [k1_2]; rfl) | (rw [k1_3]; rfl) | (rw [if_neg k1_0, if_neg (show ¬ k = nI 1 from k1_1), if_neg (show ¬ k = nI 2 from k1_2), if_neg (show ¬ k = nI 3 from k1_3)]; first | (rw [if_pos c51]; done) | (rw [if_neg c51]; done))
    exact g_lret F hr (Nat.le_of_ble_eq_true rfl) (Nat.le_of_ble_eq_true rfl) dX2_kept_47 (fun h hs => by rw [← hT]; exact ⟨congrArg (fun z => some (Value.long z)) hv, hs⟩)
  refine g_tabOut F (x := k) dX2_kept_1 (by
    have e0 : ¬ (k).toInt = 0 := fun q => k1_0 (Int32.toInt_inj.mp (q.trans (by decide)))
    have e1 : ¬ (k).toInt = 1 := fun q => k1_1 (Int32.toInt_inj.mp (q.trans (by decide)))
    have e2 : ¬ (k).toInt = 2 := fun q => k1_2 (Int32.toInt_inj.mp (q.trans (by decide)))
    have e3 : ¬ (k).toInt = 3 := fun q => k1_3 (Int32.toInt_inj.mp (q.trans (by decide)))
    omega) (np := 48) (by decide) ?_
  refine g_lload_n F dX2_kept_48 rfl rfl (np := 49) rfl ?_
  refine g_lconst F (v := 0) dX2_kept_49 (by decide) (np := 50) rfl ?_
  refine g_lcmp F dX2_kept_50 (np := 51) rfl ?_
  refine g_if_eq F dX2_kept_51 (tp := 58) (by decide) (np := 54) rfl (fun c51 => ?_) (fun c51 => ?_)
  · refine g_lconst F (v := 0) dX2_kept_58 (by decide) (np := 59) rfl ?_
    have hv : 0 = (sKept k v) := by unfold sKept; first | (rw [if_pos k1_0]; done) | (rw [k1_1]; rfl) | (rw [k1_2]; rfl) | (rw [k1_3]; rfl) | (rw [if_neg k1_0, if_neg (show ¬ k = nI 1 from k1_1), if_neg (show ¬ k = nI 2 from k1_2), if_neg (show ¬ k = nI 3 from k1_3)]; first | (rw [if_pos c51]; done) | (rw [if_neg c51]; done))
    exact g_lret F hr (Nat.le_of_ble_eq_true rfl) (Nat.le_of_ble_eq_true rfl) dX2_kept_59 (fun h hs => by rw [← hT]; exact ⟨congrArg (fun z => some (Value.long z)) hv, hs⟩)
  · refine g_lconst F (v := 1) dX2_kept_54 (by decide) (np := 55) rfl ?_
    refine g_goto F dX2_kept_55 (np := 59) (by decide) ?_
    have hv : 1 = (sKept k v) := by unfold sKept; first | (rw [if_pos k1_0]; done) | (rw [k1_1]; rfl) | (rw [k1_2]; rfl) | (rw [k1_3]; rfl) | (rw [if_neg k1_0, if_neg (show ¬ k = nI 1 from k1_1), if_neg (show ¬ k = nI 2 from k1_2), if_neg (show ¬ k = nI 3 from k1_3)]; first | (rw [if_pos c51]; done) | (rw [if_neg c51]; done))
    exact g_lret F hr (Nat.le_of_ble_eq_true rfl) (Nat.le_of_ble_eq_true rfl) dX2_kept_59 (fun h hs => by rw [← hT]; exact ⟨congrArg (fun z => some (Value.long z)) hv, hs⟩)

set_option maxRecDepth 100000 in
theorem ct_X2_put {l : Launch} {D : va_G} {E : State → Prop} {B : Nat} (hE : Stab E) {ad : Nat → Nat} {h0 : AH} (σ : MSt)  (i : Int32) (j : Int32) (v : Int64) (hsh : shOK σ) : Ct l D E B yX2_put cX2_put 5 (some .int) 2 43 0 0 [.ref (ad 0), .int i, .int j, .long (v)] (MH D ad h0 σ) (RI (rPut σ i j) (MH D ad h0 (gPut σ i j v))) := by
  refine Ct.of (nL := 5) (lv := [some (.ref (ad 0)), some (.int i), some (.int j), some (.long (v)), none]) (by decide) (Nat.le_of_ble_eq_true rfl) hE 0 rfl ?_
  generalize hT : RI (rPut σ i j) (MH D ad h0 (gPut σ i j v)) = T
  intro zp ze zs zm zb zt zc F hr hnm
  generalize ([.ref (ad 0), .int i, .int j, .long (v)] : List Value).toArray = za at F ⊢
  refine g_iload_n F dX2_put_0 rfl rfl (np := 1) rfl ?_
  refine g_runS F (rest := []) (ct_X2_isShelf hE i ) (lw_S q1704 q1705 q102 q1706) hcS_X2_isShelf ⟨Nat.le_of_ble_eq_true rfl, Nat.le_of_ble_eq_true rfl⟩ rfl rfl (Nat.le_of_ble_eq_true rfl) dX2_put_1 ⟨Nat.le_of_ble_eq_true rfl, Nat.le_of_ble_eq_true rfl⟩ (np := 4) rfl (k_RI ?_)
  refine g_if_neB F dX2_put_4 (tp := 9) (by decide) (np := 7) rfl (fun c4 => ?_) (fun c4 => ?_)
  · obtain ⟨hil, hie⟩ := inN_cl (by decide) c4
    obtain ⟨n0, hn0, en0⟩ := hsh _ hil
    have en1 : lenN σ i.toNatClampNeg = n0 := by unfold lenN; rw [en0]; exact nI_clamp (by omega)
    refine WG.eqv (lv' := [some (.ref (ad 0)), some (.int (nI (i.toNatClampNeg))), some (.int j), some (.long (v)), none]) rfl (congrArg (fun z => ([some (.ref (ad 0)), some (.int z), some (.int j), some (.long (v)), none] : List (Option Value))) (show i = (nI (i.toNatClampNeg)) from by exact hie)) ?_
    refine g_aload_n F dX2_put_9 rfl rfl (np := 10) rfl ?_
    refine h_get F (k := 38) (v := .ref (ad 38)) (by decide) rfl q1584 dX2_put_10 (np := 13) rfl ?_
    refine g_iload_n F dX2_put_13 rfl rfl (np := 14) rfl ?_
    refine h_ald F (k := 38) (i := i.toNatClampNeg) (L := 6) (v := σ.2.1 38 i.toNatClampNeg) rfl rfl (by decide) (by omega) rfl rfl dX2_put_14 (by decide) (by decide) (np := 15) rfl ?_
    refine g_iconst F (v := (-1)) dX2_put_15 (by decide) (np := 16) rfl ?_
    refine g_icmp_ne F dX2_put_16 (tp := 22) (by decide) (np := 19) rfl (fun c16 => ?_) (fun c16 => ?_)
    · refine g_aload_n F dX2_put_22 rfl rfl (np := 23) rfl ?_
      refine g_iload_n F dX2_put_23 rfl rfl (np := 24) rfl ?_
      refine g_runV F (C := RX2) (ci := 2) (T0 := TX2) (N := 42) (rest := []) (ct_X2_isRow hE σ i.toNatClampNeg (by first | assumption | omega)) (lw_V q2022 q2024 qs98 q102 q2025) hcV_X2_isRow ⟨Nat.le_of_ble_eq_true rfl, Nat.le_of_ble_eq_true rfl⟩ rfl (fun h hs => hs.obj) rfl rfl (Nat.le_of_ble_eq_true rfl) dX2_put_24 ⟨Nat.le_of_ble_eq_true rfl, Nat.le_of_ble_eq_true rfl⟩ (np := 27) rfl (k_RI ?_)
      refine g_if_neB F dX2_put_27 (tp := 33) (by decide) (np := 30) rfl (fun c27 => ?_) (fun c27 => ?_)
      · refine g_iload_n F dX2_put_33 rfl rfl (np := 34) rfl ?_
        refine g_iconst F (v := (nI 0)) dX2_put_34 (by decide) (np := 35) rfl ?_
        refine g_aload_n F dX2_put_35 rfl rfl (np := 36) rfl ?_
        refine h_get F (k := 39) (v := .ref (ad 39)) (by decide) rfl q1585 dX2_put_36 (np := 39) rfl ?_
        refine g_iload_n F dX2_put_39 rfl rfl (np := 40) rfl ?_
        refine h_ald F (k := 39) (i := i.toNatClampNeg) (L := 6) (v := σ.2.1 39 i.toNatClampNeg) rfl rfl (by decide) (by omega) rfl rfl dX2_put_40 (by decide) (by decide) (np := 41) rfl ?_
        refine WG.eqv (st' := [.int (nI n0), .int (nI 0), .int j]) (congrArg (fun z => ([.int z, .int (nI 0), .int j] : List Value)) (show (σ.2.1 39 i.toNatClampNeg) = (nI n0) from by exact en0)) rfl ?_
        refine g_iconst F (v := (nI 1)) dX2_put_41 (by decide) (np := 42) rfl ?_
        refine g_isub F dX2_put_42 (np := 43) rfl ?_
        refine g_runS F (rest := []) (ct_X2_within hE j (nI (0)) ((nI (n0)) - (nI (1))) ) (lw_S q1677 q1678 q102 q1679) hcS_X2_within ⟨Nat.le_of_ble_eq_true rfl, Nat.le_of_ble_eq_true rfl⟩ rfl rfl (Nat.le_of_ble_eq_true rfl) dX2_put_43 ⟨Nat.le_of_ble_eq_true rfl, Nat.le_of_ble_eq_true rfl⟩ (np := 46) rfl (k_RI ?_)
        refine g_if_neB F dX2_put_46 (tp := 52) (by decide) (np := 49) rfl (fun c46 => ?_) (fun c46 => ?_)
        · have hj := (bt_n1 (by omega)).mp c46
          obtain ⟨hjl, hje⟩ := inN_cl (by omega) hj
          refine WG.eqv (lv' := [some (.ref (ad 0)), some (.int (nI (i.toNatClampNeg))), some (.int (nI (j.toNatClampNeg))), some (.long (v)), none]) rfl (congrArg (fun z => ([some (.ref (ad 0)), some (.int (nI (i.toNatClampNeg))), some (.int z), some (.long (v)), none] : List (Option Value))) (show j = (nI (j.toNatClampNeg)) from by exact hje)) ?_
          refine g_aload_n F dX2_put_52 rfl rfl (np := 53) rfl ?_
          refine h_get F (k := 40) (v := .ref (ad 40)) (by decide) rfl q1586 dX2_put_53 (np := 56) rfl ?_
          refine g_bipush F (v := (nI 60)) dX2_put_56 (by decide) (np := 58) rfl ?_
          refine g_iload_n F dX2_put_58 rfl rfl (np := 59) rfl ?_
          refine g_imulN F dX2_put_59 (np := 60) rfl ?_
          refine g_iload_n F dX2_put_60 rfl rfl (np := 61) rfl ?_
          refine g_iaddN F dX2_put_61 (np := 62) rfl ?_
          refine g_aload_n F dX2_put_62 rfl rfl (np := 63) rfl ?_
          refine h_get F (k := 38) (v := .ref (ad 38)) (by decide) rfl q1584 dX2_put_63 (np := 66) rfl ?_
          refine g_iload_n F dX2_put_66 rfl rfl (np := 67) rfl ?_
          refine h_ald F (k := 38) (i := i.toNatClampNeg) (L := 6) (v := σ.2.1 38 i.toNatClampNeg) rfl rfl (by decide) (by omega) rfl rfl dX2_put_67 (by decide) (by decide) (np := 68) rfl ?_
          refine g_lload_n F dX2_put_68 rfl rfl (np := 69) rfl ?_
          refine g_runS F (rest := [.int (nI ((60 * i.toNatClampNeg) + j.toNatClampNeg)), .ref (ad 40)]) (ct_X2_kept hE (σ.2.1 38 i.toNatClampNeg) v ) (lw_S q2026 q2027 q102 q2028) hcS_X2_kept ⟨Nat.le_of_ble_eq_true rfl, Nat.le_of_ble_eq_true rfl⟩ rfl rfl (Nat.le_of_ble_eq_true rfl) dX2_put_69 ⟨Nat.le_of_ble_eq_true rfl, Nat.le_of_ble_eq_true rfl⟩ (np := 72) rfl (k_RL ?_)
          refine h_last F (i := (60 * i.toNatClampNeg) + j.toNatClampNeg) (by omega) rfl dX2_put_72 (np := 73) rfl ?_
          refine g_iconst F (v := (nI 1)) dX2_put_73 (by decide) (np := 74) rfl ?_
          have hσ : (sR σ ((60 * i.toNatClampNeg) + j.toNatClampNeg) (sKept (σ.2.1 38 i.toNatClampNeg) v)) = (gPut σ i j v) := by unfold gPut; rw [pif_t ⟨c4, c27, en1.symm ▸ hj⟩]
          have hv : nI (1) = rPut σ i j := by unfold rPut; rw [pif_t c4, if_neg c16, pif_t c27, en1, pif_t hj]; rfl
          exact g_iret F hr rfl (Nat.le_of_ble_eq_true rfl) (Nat.le_of_ble_eq_true rfl) dX2_put_74 (fun h hs => by rw [← hT]; exact ⟨congrArg (fun z => some (Value.int z)) hv, (hσ ▸ hs)⟩)
        · refine g_bipush F (v := (-13)) dX2_put_49 (by decide) (np := 51) rfl ?_
          have hσ : σ = (gPut σ i j v) := by unfold gPut; rw [pif_f (fun z => c46 ((bt_n1 (by omega)).mpr (en1 ▸ z.2.2)))]
          have hv : -13 = rPut σ i j := by unfold rPut; rw [pif_t c4, if_neg c16, pif_t c27, en1, pif_f (fun z => c46 ((bt_n1 (by omega)).mpr z))]
          exact g_iret F hr rfl (Nat.le_of_ble_eq_true rfl) (Nat.le_of_ble_eq_true rfl) dX2_put_51 (fun h hs => by rw [← hT]; exact ⟨congrArg (fun z => some (Value.int z)) hv, (hσ ▸ hs)⟩)
      · refine g_bipush F (v := (-12)) dX2_put_30 (by decide) (np := 32) rfl ?_
        have hσ : σ = (gPut σ i j v) := by unfold gPut; rw [pif_f (fun z => c27 z.2.1)]
        have hv : -12 = rPut σ i j := by unfold rPut; rw [pif_t c4, if_neg c16, pif_f c27]
        exact g_iret F hr rfl (Nat.le_of_ble_eq_true rfl) (Nat.le_of_ble_eq_true rfl) dX2_put_32 (fun h hs => by rw [← hT]; exact ⟨congrArg (fun z => some (Value.int z)) hv, (hσ ▸ hs)⟩)
    · refine g_bipush F (v := (-11)) dX2_put_19 (by decide) (np := 21) rfl ?_
      have hσ : σ = (gPut σ i j v) := by unfold gPut; rw [pif_f (fun z => by obtain ⟨_, z2, _⟩ := z; rw [c16] at z2; exact absurd z2 (by unfold inN; rintro ⟨q, q1, q2⟩; rcases (show q = 0 ∨ q = 1 ∨ q = 2 ∨ q = 3 ∨ q = 4 by omega) with rfl | rfl | rfl | rfl | rfl <;> exact absurd q2 (by decide)))]
      have hv : -11 = rPut σ i j := by unfold rPut; rw [pif_t c4, if_pos c16]
      exact g_iret F hr rfl (Nat.le_of_ble_eq_true rfl) (Nat.le_of_ble_eq_true rfl) dX2_put_21 (fun h hs => by rw [← hT]; exact ⟨congrArg (fun z => some (Value.int z)) hv, (hσ ▸ hs)⟩)
  · refine g_iconst F (v := (-1)) dX2_put_7 (by decide) (np := 8) rfl ?_
    have hσ : σ = (gPut σ i j v) := by unfold gPut; rw [pif_f (fun z => c4 z.1)]
    have hv : -1 = rPut σ i j := by unfold rPut; rw [pif_f c4]
    exact g_iret F hr rfl (Nat.le_of_ble_eq_true rfl) (Nat.le_of_ble_eq_true rfl) dX2_put_8 (fun h hs => by rw [← hT]; exact ⟨congrArg (fun z => some (Value.int z)) hv, (hσ ▸ hs)⟩)

set_option maxRecDepth 100000 in
theorem ct_X2_element {l : Launch} {D : va_G} {E : State → Prop} {B : Nat} (hE : Stab E) {ad : Nat → Nat} {h0 : AH} (σ : MSt)  (i : Int32) (j : Int32) (hsh : shOK σ) : Ct l D E B yX2_element cX2_element 3 (some .long) 2 43 0 0 [.ref (ad 0), .int i, .int j] (MH D ad h0 σ) (RL (rEl σ i j) (MH D ad h0 σ)) := by
  refine Ct.of (nL := 3) (lv := [some (.ref (ad 0)), some (.int i), some (.int j)]) (by decide) (Nat.le_of_ble_eq_true rfl) hE 0 rfl ?_
  generalize hT : RL (rEl σ i j) (MH D ad h0 σ) = T
  intro zp ze zs zm zb zt zc F hr hnm
  generalize ([.ref (ad 0), .int i, .int j] : List Value).toArray = za at F ⊢
  refine g_iload_n F dX2_element_0 rfl rfl (np := 1) rfl ?_
  refine g_runS F (rest := []) (ct_X2_isShelf hE i ) (lw_S q1704 q1705 q102 q1706) hcS_X2_isShelf ⟨Nat.le_of_ble_eq_true rfl, Nat.le_of_ble_eq_true rfl⟩ rfl rfl (Nat.le_of_ble_eq_true rfl) dX2_element_1 ⟨Nat.le_of_ble_eq_true rfl, Nat.le_of_ble_eq_true rfl⟩ (np := 4) rfl (k_RI ?_)
  refine g_if_eqB F dX2_element_4 (tp := 45) (by decide) (np := 7) rfl (fun c4 => ?_) (fun c4 => ?_)
  · refine g_ldc2 F q2033 dX2_element_45 (np := 48) rfl ?_
    have hv : (-9223372036854775808) = (rEl σ i j) := by unfold rEl; first | (rw [pif_f (fun z => c4 z.1)]; done) | (rw [pif_f (fun z => c12 z.2.1)]; done) | (rw [pif_f (fun z => c28 ((bt_n1 (by omega)).mpr (en1 ▸ z.2.2)))]; done) | (rw [pif_t ⟨c4, c12, en1.symm ▸ hj⟩])
    exact g_lret F hr (Nat.le_of_ble_eq_true rfl) (Nat.le_of_ble_eq_true rfl) dX2_element_48 (fun h hs => by rw [← hT]; exact ⟨congrArg (fun z => some (Value.long z)) hv, hs⟩)
  · obtain ⟨hil, hie⟩ := inN_cl (by decide) c4
    obtain ⟨n0, hn0, en0⟩ := hsh _ hil
    have en1 : lenN σ i.toNatClampNeg = n0 := by unfold lenN; rw [en0]; exact nI_clamp (by omega)
    refine WG.eqv (lv' := [some (.ref (ad 0)), some (.int (nI (i.toNatClampNeg))), some (.int j)]) rfl (congrArg (fun z => ([some (.ref (ad 0)), some (.int z), some (.int j)] : List (Option Value))) (show i = (nI (i.toNatClampNeg)) from by exact hie)) ?_
    refine g_aload_n F dX2_element_7 rfl rfl (np := 8) rfl ?_
    refine g_iload_n F dX2_element_8 rfl rfl (np := 9) rfl ?_
    refine g_runV F (C := RX2) (ci := 2) (T0 := TX2) (N := 42) (rest := []) (ct_X2_isRow hE σ i.toNatClampNeg (by first | assumption | omega)) (lw_V q2022 q2024 qs98 q102 q2025) hcV_X2_isRow ⟨Nat.le_of_ble_eq_true rfl, Nat.le_of_ble_eq_true rfl⟩ rfl (fun h hs => hs.obj) rfl rfl (Nat.le_of_ble_eq_true rfl) dX2_element_9 ⟨Nat.le_of_ble_eq_true rfl, Nat.le_of_ble_eq_true rfl⟩ (np := 12) rfl (k_RI ?_)
    refine g_if_eqB F dX2_element_12 (tp := 45) (by decide) (np := 15) rfl (fun c12 => ?_) (fun c12 => ?_)
    · refine g_ldc2 F q2033 dX2_element_45 (np := 48) rfl ?_
      have hv : (-9223372036854775808) = (rEl σ i j) := by unfold rEl; first | (rw [pif_f (fun z => c4 z.1)]; done) | (rw [pif_f (fun z => c12 z.2.1)]; done) | (rw [pif_f (fun z => c28 ((bt_n1 (by omega)).mpr (en1 ▸ z.2.2)))]; done) | (rw [pif_t ⟨c4, c12, en1.symm ▸ hj⟩])
      exact g_lret F hr (Nat.le_of_ble_eq_true rfl) (Nat.le_of_ble_eq_true rfl) dX2_element_48 (fun h hs => by rw [← hT]; exact ⟨congrArg (fun z => some (Value.long z)) hv, hs⟩)
    · refine g_iload_n F dX2_element_15 rfl rfl (np := 16) rfl ?_
      refine g_iconst F (v := (nI 0)) dX2_element_16 (by decide) (np := 17) rfl ?_
      refine g_aload_n F dX2_element_17 rfl rfl (np := 18) rfl ?_
      refine h_get F (k := 39) (v := .ref (ad 39)) (by decide) rfl q1585 dX2_element_18 (np := 21) rfl ?_
      refine g_iload_n F dX2_element_21 rfl rfl (np := 22) rfl ?_
      refine h_ald F (k := 39) (i := i.toNatClampNeg) (L := 6) (v := σ.2.1 39 i.toNatClampNeg) rfl rfl (by decide) (by omega) rfl rfl dX2_element_22 (by decide) (by decide) (np := 23) rfl ?_
      refine WG.eqv (st' := [.int (nI n0), .int (nI 0), .int j]) (congrArg (fun z => ([.int z, .int (nI 0), .int j] : List Value)) (show (σ.2.1 39 i.toNatClampNeg) = (nI n0) from by exact en0)) rfl ?_
      refine g_iconst F (v := (nI 1)) dX2_element_23 (by decide) (np := 24) rfl ?_
      refine g_isub F dX2_element_24 (np := 25) rfl ?_
      refine g_runS F (rest := []) (ct_X2_within hE j (nI (0)) ((nI (n0)) - (nI (1))) ) (lw_S q1677 q1678 q102 q1679) hcS_X2_within ⟨Nat.le_of_ble_eq_true rfl, Nat.le_of_ble_eq_true rfl⟩ rfl rfl (Nat.le_of_ble_eq_true rfl) dX2_element_25 ⟨Nat.le_of_ble_eq_true rfl, Nat.le_of_ble_eq_true rfl⟩ (np := 28) rfl (k_RI ?_)
      refine g_if_eqB F dX2_element_28 (tp := 45) (by decide) (np := 31) rfl (fun c28 => ?_) (fun c28 => ?_)
      · refine g_ldc2 F q2033 dX2_element_45 (np := 48) rfl ?_
        have hv : (-9223372036854775808) = (rEl σ i j) := by unfold rEl; first | (rw [pif_f (fun z => c4 z.1)]; done) | (rw [pif_f (fun z => c12 z.2.1)]; done) | (rw [pif_f (fun z => c28 ((bt_n1 (by omega)).mpr (en1 ▸ z.2.2)))]; done) | (rw [pif_t ⟨c4, c12, en1.symm ▸ hj⟩])
        exact g_lret F hr (Nat.le_of_ble_eq_true rfl) (Nat.le_of_ble_eq_true rfl) dX2_element_48 (fun h hs => by rw [← hT]; exact ⟨congrArg (fun z => some (Value.long z)) hv, hs⟩)
      · have hj := (bt_n1 (by omega)).mp c28
        obtain ⟨hjl, hje⟩ := inN_cl (by omega) hj
        refine WG.eqv (lv' := [some (.ref (ad 0)), some (.int (nI (i.toNatClampNeg))), some (.int (nI (j.toNatClampNeg)))]) rfl (congrArg (fun z => ([some (.ref (ad 0)), some (.int (nI (i.toNatClampNeg))), some (.int z)] : List (Option Value))) (show j = (nI (j.toNatClampNeg)) from by exact hje)) ?_
        refine g_aload_n F dX2_element_31 rfl rfl (np := 32) rfl ?_
        refine h_get F (k := 40) (v := .ref (ad 40)) (by decide) rfl q1586 dX2_element_32 (np := 35) rfl ?_
        refine g_bipush F (v := (nI 60)) dX2_element_35 (by decide) (np := 37) rfl ?_
        refine g_iload_n F dX2_element_37 rfl rfl (np := 38) rfl ?_
        refine g_imulN F dX2_element_38 (np := 39) rfl ?_
        refine g_iload_n F dX2_element_39 rfl rfl (np := 40) rfl ?_
        refine g_iaddN F dX2_element_40 (np := 41) rfl ?_
        refine h_lald F (i := (60 * i.toNatClampNeg) + j.toNatClampNeg) (v := σ.2.2 ((60 * i.toNatClampNeg) + j.toNatClampNeg)) (by omega) rfl rfl dX2_element_41 (np := 42) rfl ?_
        refine g_goto F dX2_element_42 (np := 48) (by decide) ?_
        have hv : (σ.2.2 ((60 * i.toNatClampNeg) + j.toNatClampNeg)) = (rEl σ i j) := by unfold rEl; first | (rw [pif_f (fun z => c4 z.1)]; done) | (rw [pif_f (fun z => c12 z.2.1)]; done) | (rw [pif_f (fun z => c28 ((bt_n1 (by omega)).mpr (en1 ▸ z.2.2)))]; done) | (rw [pif_t ⟨c4, c12, en1.symm ▸ hj⟩])
        exact g_lret F hr (Nat.le_of_ble_eq_true rfl) (Nat.le_of_ble_eq_true rfl) dX2_element_48 (fun h hs => by rw [← hT]; exact ⟨congrArg (fun z => some (Value.long z)) hv, hs⟩)

set_option maxRecDepth 100000 in
theorem ct_X2_shift {l : Launch} {D : va_G} {E : State → Prop} {B : Nat} (hE : Stab E) {ad : Nat → Nat} {h0 : AH} (σ : MSt)  (i : Int32) (a : Int32) (j : Int32) (b : Int32) (c : Int32) (hsh : shOK σ) : Ct l D E B yX2_shift cX2_shift 7 (some .int) 2 43 0 0 [.ref (ad 0), .int i, .int a, .int j, .int b, .int c] (MH D ad h0 σ) (RI (rShift σ i a j b c) (MH D ad h0 (gShift σ i a j b c))) := by
  refine Ct.of (nL := 7) (lv := [some (.ref (ad 0)), some (.int i), some (.int a), some (.int j), some (.int b), some (.int c), none]) (by decide) (Nat.le_of_ble_eq_true rfl) hE 1 rfl ?_
  generalize hT : RI (rShift σ i a j b c) (MH D ad h0 (gShift σ i a j b c)) = T
  intro zp ze zs zm zb zt zc F hr hnm
  generalize ([.ref (ad 0), .int i, .int a, .int j, .int b, .int c] : List Value).toArray = za at F ⊢
  refine g_iload_n F dX2_shift_0 rfl rfl (np := 1) rfl ?_
  refine g_runS F (rest := []) (ct_X2_isShelf hE i ) (lw_S q1704 q1705 q102 q1706) hcS_X2_isShelf ⟨Nat.le_of_ble_eq_true rfl, Nat.le_of_ble_eq_true rfl⟩ rfl rfl (Nat.le_of_ble_eq_true rfl) dX2_shift_1 ⟨Nat.le_of_ble_eq_true rfl, Nat.le_of_ble_eq_true rfl⟩ (np := 4) rfl (k_RI ?_)
  refine g_if_eqB F dX2_shift_4 (tp := 14) (by decide) (np := 7) rfl (fun c4 => ?_) (fun c4 => ?_)
  · refine g_iconst F (v := (-1)) dX2_shift_14 (by decide) (np := 15) rfl ?_
    have hσ : σ = (gShift σ i a j b c) := by unfold gShift; rw [pif_f (fun z => by obtain ⟨⟨y1, y2⟩, -⟩ := z; first | exact c4 y1 | exact c11 y2)]
    have hv : -1 = rShift σ i a j b c := by unfold rShift; first | (rw [pif_f (fun z => c4 z.1)]; done) | (rw [pif_f (fun z => c11 z.2)]; done)
    exact g_iret F hr rfl (Nat.le_of_ble_eq_true rfl) (Nat.le_of_ble_eq_true rfl) dX2_shift_15 (fun h hs => by rw [← hT]; exact ⟨congrArg (fun z => some (Value.int z)) hv, (hσ ▸ hs)⟩)
  · refine g_iload_n F dX2_shift_7 rfl rfl (np := 8) rfl ?_
    refine g_runS F (rest := []) (ct_X2_isShelf hE j ) (lw_S q1704 q1705 q102 q1706) hcS_X2_isShelf ⟨Nat.le_of_ble_eq_true rfl, Nat.le_of_ble_eq_true rfl⟩ rfl rfl (Nat.le_of_ble_eq_true rfl) dX2_shift_8 ⟨Nat.le_of_ble_eq_true rfl, Nat.le_of_ble_eq_true rfl⟩ (np := 11) rfl (k_RI ?_)
    refine g_if_neB F dX2_shift_11 (tp := 16) (by decide) (np := 14) rfl (fun c11 => ?_) (fun c11 => ?_)
    · obtain ⟨hil, hie⟩ := inN_cl (by decide) c4
      obtain ⟨n0, hn0, en0⟩ := hsh _ hil
      have en1 : lenN σ i.toNatClampNeg = n0 := by unfold lenN; rw [en0]; exact nI_clamp (by omega)
      obtain ⟨hjl, hje⟩ := inN_cl (by decide) c11
      obtain ⟨m0, hm0, em0⟩ := hsh _ hjl
      have em1 : lenN σ j.toNatClampNeg = m0 := by unfold lenN; rw [em0]; exact nI_clamp (by omega)
      refine WG.eqv (lv' := [some (.ref (ad 0)), some (.int (nI (i.toNatClampNeg))), some (.int a), some (.int j), some (.int b), some (.int c), none]) rfl (congrArg (fun z => ([some (.ref (ad 0)), some (.int z), some (.int a), some (.int j), some (.int b), some (.int c), none] : List (Option Value))) (show i = (nI (i.toNatClampNeg)) from by exact hie)) ?_
      refine WG.eqv (lv' := [some (.ref (ad 0)), some (.int (nI (i.toNatClampNeg))), some (.int a), some (.int (nI (j.toNatClampNeg))), some (.int b), some (.int c), none]) rfl (congrArg (fun z => ([some (.ref (ad 0)), some (.int (nI (i.toNatClampNeg))), some (.int a), some (.int z), some (.int b), some (.int c), none] : List (Option Value))) (show j = (nI (j.toNatClampNeg)) from by exact hje)) ?_
      refine g_aload_n F dX2_shift_16 rfl rfl (np := 17) rfl ?_
      refine h_get F (k := 38) (v := .ref (ad 38)) (by decide) rfl q1584 dX2_shift_17 (np := 20) rfl ?_
      refine g_iload_n F dX2_shift_20 rfl rfl (np := 21) rfl ?_
      refine h_ald F (k := 38) (i := i.toNatClampNeg) (L := 6) (v := σ.2.1 38 i.toNatClampNeg) rfl rfl (by decide) (by omega) rfl rfl dX2_shift_21 (by decide) (by decide) (np := 22) rfl ?_
      refine g_iconst F (v := (-1)) dX2_shift_22 (by decide) (np := 23) rfl ?_
      refine g_icmp_eq F dX2_shift_23 (tp := 36) (by decide) (np := 26) rfl (fun c23 => ?_) (fun c23 => ?_)
      · refine g_bipush F (v := (-11)) dX2_shift_36 (by decide) (np := 38) rfl ?_
        have hσ : σ = (gShift σ i a j b c) := by unfold gShift; rw [pif_f (fun z => by obtain ⟨⟨y1, y2⟩, ⟨z1, z2, z3⟩, z4, z5, z6, z7, z8⟩ := z; rw [en1] at z7; rw [em1] at z8; first | exact c4 y1 | exact c11 y2 | exact nN1 (c23 ▸ z1) | exact nN1 (c33 ▸ z2) | exact c44 z1 | exact c52 z2 | exact c67 z3 | exact z4 c75 | exact z5 c79 | exact z6 c84 | exact absurd ((ladd_gt (by omega) (by omega) (by omega)).mp c101) (Nat.not_lt.mpr z7) | exact c119 ((ladd_le (by omega) (by omega) (by omega)).mpr z8))]
        have hv : -11 = rShift σ i a j b c := by unfold rShift; rw [pif_t ⟨c4, c11⟩]; first | (rw [pif_t (Or.inl c23)]; done) | (rw [pif_t (Or.inr c33)]; done)
        exact g_iret F hr rfl (Nat.le_of_ble_eq_true rfl) (Nat.le_of_ble_eq_true rfl) dX2_shift_38 (fun h hs => by rw [← hT]; exact ⟨congrArg (fun z => some (Value.int z)) hv, (hσ ▸ hs)⟩)
      · refine g_aload_n F dX2_shift_26 rfl rfl (np := 27) rfl ?_
        refine h_get F (k := 38) (v := .ref (ad 38)) (by decide) rfl q1584 dX2_shift_27 (np := 30) rfl ?_
        refine g_iload_n F dX2_shift_30 rfl rfl (np := 31) rfl ?_
        refine h_ald F (k := 38) (i := j.toNatClampNeg) (L := 6) (v := σ.2.1 38 j.toNatClampNeg) rfl rfl (by decide) (by omega) rfl rfl dX2_shift_31 (by decide) (by decide) (np := 32) rfl ?_
        refine g_iconst F (v := (-1)) dX2_shift_32 (by decide) (np := 33) rfl ?_
        refine g_icmp_ne F dX2_shift_33 (tp := 39) (by decide) (np := 36) rfl (fun c33 => ?_) (fun c33 => ?_)
        · refine g_aload_n F dX2_shift_39 rfl rfl (np := 40) rfl ?_
          refine g_iload_n F dX2_shift_40 rfl rfl (np := 41) rfl ?_
          refine g_runV F (C := RX2) (ci := 2) (T0 := TX2) (N := 42) (rest := []) (ct_X2_isRow hE σ i.toNatClampNeg (by first | assumption | omega)) (lw_V q2022 q2024 qs98 q102 q2025) hcV_X2_isRow ⟨Nat.le_of_ble_eq_true rfl, Nat.le_of_ble_eq_true rfl⟩ rfl (fun h hs => hs.obj) rfl rfl (Nat.le_of_ble_eq_true rfl) dX2_shift_41 ⟨Nat.le_of_ble_eq_true rfl, Nat.le_of_ble_eq_true rfl⟩ (np := 44) rfl (k_RI ?_)
          refine g_if_eqB F dX2_shift_44 (tp := 70) (by decide) (np := 47) rfl (fun c44 => ?_) (fun c44 => ?_)
          · refine g_bipush F (v := (-12)) dX2_shift_70 (by decide) (np := 72) rfl ?_
            have hσ : σ = (gShift σ i a j b c) := by unfold gShift; rw [pif_f (fun z => by obtain ⟨⟨y1, y2⟩, ⟨z1, z2, z3⟩, z4, z5, z6, z7, z8⟩ := z; rw [en1] at z7; rw [em1] at z8; first | exact c4 y1 | exact c11 y2 | exact nN1 (c23 ▸ z1) | exact nN1 (c33 ▸ z2) | exact c44 z1 | exact c52 z2 | exact c67 z3 | exact z4 c75 | exact z5 c79 | exact z6 c84 | exact absurd ((ladd_gt (by omega) (by omega) (by omega)).mp c101) (Nat.not_lt.mpr z7) | exact c119 ((ladd_le (by omega) (by omega) (by omega)).mpr z8))]
            have hv : -12 = rShift σ i a j b c := by unfold rShift; rw [pif_t ⟨c4, c11⟩, pif_f (fun z => z.elim c23 c33), pif_f (fun z => by obtain ⟨z1, z2, z3⟩ := z; first | exact c44 z1 | exact c52 z2 | exact c67 z3)]
            exact g_iret F hr rfl (Nat.le_of_ble_eq_true rfl) (Nat.le_of_ble_eq_true rfl) dX2_shift_72 (fun h hs => by rw [← hT]; exact ⟨congrArg (fun z => some (Value.int z)) hv, (hσ ▸ hs)⟩)
          · refine g_aload_n F dX2_shift_47 rfl rfl (np := 48) rfl ?_
            refine g_iload_n F dX2_shift_48 rfl rfl (np := 49) rfl ?_
            refine g_runV F (C := RX2) (ci := 2) (T0 := TX2) (N := 42) (rest := []) (ct_X2_isRow hE σ j.toNatClampNeg (by first | assumption | omega)) (lw_V q2022 q2024 qs98 q102 q2025) hcV_X2_isRow ⟨Nat.le_of_ble_eq_true rfl, Nat.le_of_ble_eq_true rfl⟩ rfl (fun h hs => hs.obj) rfl rfl (Nat.le_of_ble_eq_true rfl) dX2_shift_49 ⟨Nat.le_of_ble_eq_true rfl, Nat.le_of_ble_eq_true rfl⟩ (np := 52) rfl (k_RI ?_)
            refine g_if_eqB F dX2_shift_52 (tp := 70) (by decide) (np := 55) rfl (fun c52 => ?_) (fun c52 => ?_)
            · refine g_bipush F (v := (-12)) dX2_shift_70 (by decide) (np := 72) rfl ?_
              have hσ : σ = (gShift σ i a j b c) := by unfold gShift; rw [pif_f (fun z => by obtain ⟨⟨y1, y2⟩, ⟨z1, z2, z3⟩, z4, z5, z6, z7, z8⟩ := z; rw [en1] at z7; rw [em1] at z8; first | exact c4 y1 | exact c11 y2 | exact nN1 (c23 ▸ z1) | exact nN1 (c33 ▸ z2) | exact c44 z1 | exact c52 z2 | exact c67 z3 | exact z4 c75 | exact z5 c79 | exact z6 c84 | exact absurd ((ladd_gt (by omega) (by omega) (by omega)).mp c101) (Nat.not_lt.mpr z7) | exact c119 ((ladd_le (by omega) (by omega) (by omega)).mpr z8))]
              have hv : -12 = rShift σ i a j b c := by unfold rShift; rw [pif_t ⟨c4, c11⟩, pif_f (fun z => z.elim c23 c33), pif_f (fun z => by obtain ⟨z1, z2, z3⟩ := z; first | exact c44 z1 | exact c52 z2 | exact c67 z3)]
              exact g_iret F hr rfl (Nat.le_of_ble_eq_true rfl) (Nat.le_of_ble_eq_true rfl) dX2_shift_72 (fun h hs => by rw [← hT]; exact ⟨congrArg (fun z => some (Value.int z)) hv, (hσ ▸ hs)⟩)
            · refine g_aload_n F dX2_shift_55 rfl rfl (np := 56) rfl ?_
              refine h_get F (k := 38) (v := .ref (ad 38)) (by decide) rfl q1584 dX2_shift_56 (np := 59) rfl ?_
              refine g_iload_n F dX2_shift_59 rfl rfl (np := 60) rfl ?_
              refine h_ald F (k := 38) (i := i.toNatClampNeg) (L := 6) (v := σ.2.1 38 i.toNatClampNeg) rfl rfl (by decide) (by omega) rfl rfl dX2_shift_60 (by decide) (by decide) (np := 61) rfl ?_
              refine g_aload_n F dX2_shift_61 rfl rfl (np := 62) rfl ?_
              refine h_get F (k := 38) (v := .ref (ad 38)) (by decide) rfl q1584 dX2_shift_62 (np := 65) rfl ?_
              refine g_iload_n F dX2_shift_65 rfl rfl (np := 66) rfl ?_
              refine h_ald F (k := 38) (i := j.toNatClampNeg) (L := 6) (v := σ.2.1 38 j.toNatClampNeg) rfl rfl (by decide) (by omega) rfl rfl dX2_shift_66 (by decide) (by decide) (np := 67) rfl ?_
              refine g_icmp_eq F dX2_shift_67 (tp := 73) (by decide) (np := 70) rfl (fun c67 => ?_) (fun c67 => ?_)
              · refine g_iload F dX2_shift_73 rfl (np := 75) rfl ?_
                refine g_if_lt F dX2_shift_75 (tp := 122) (by decide) (np := 78) rfl (fun c75 => ?_) (fun c75 => ?_)
                · refine g_bipush F (v := (-13)) dX2_shift_122 (by decide) (np := 124) rfl ?_
                  have hσ : σ = (gShift σ i a j b c) := by unfold gShift; rw [pif_f (fun z => by obtain ⟨⟨y1, y2⟩, ⟨z1, z2, z3⟩, z4, z5, z6, z7, z8⟩ := z; rw [en1] at z7; rw [em1] at z8; first | exact c4 y1 | exact c11 y2 | exact nN1 (c23 ▸ z1) | exact nN1 (c33 ▸ z2) | exact c44 z1 | exact c52 z2 | exact c67 z3 | exact z4 c75 | exact z5 c79 | exact z6 c84 | exact absurd ((ladd_gt (by omega) (by omega) (by omega)).mp c101) (Nat.not_lt.mpr z7) | exact c119 ((ladd_le (by omega) (by omega) (by omega)).mpr z8))]
                  have hv : -13 = rShift σ i a j b c := by unfold rShift; rw [pif_t ⟨c4, c11⟩, pif_f (fun z => z.elim c23 c33), pif_t ⟨c44, c52, c67⟩, pif_f (fun z => by obtain ⟨z4, z5, z6, z7, z8⟩ := z; rw [en1] at z7; rw [em1] at z8; first | exact z4 c75 | exact z5 c79 | exact z6 c84 | exact absurd ((ladd_gt (by omega) (by omega) (by omega)).mp c101) (Nat.not_lt.mpr z7) | exact c119 ((ladd_le (by omega) (by omega) (by omega)).mpr z8))]
                  exact g_iret F hr rfl (Nat.le_of_ble_eq_true rfl) (Nat.le_of_ble_eq_true rfl) dX2_shift_124 (fun h hs => by rw [← hT]; exact ⟨congrArg (fun z => some (Value.int z)) hv, (hσ ▸ hs)⟩)
                · obtain ⟨hce, hcl⟩ := nI_cl c75
                  refine WG.eqv (lv' := [some (.ref (ad 0)), some (.int (nI (i.toNatClampNeg))), some (.int a), some (.int (nI (j.toNatClampNeg))), some (.int b), some (.int (nI (c.toNatClampNeg))), none]) rfl (congrArg (fun z => ([some (.ref (ad 0)), some (.int (nI (i.toNatClampNeg))), some (.int a), some (.int (nI (j.toNatClampNeg))), some (.int b), some (.int z), none] : List (Option Value))) (show c = (nI (c.toNatClampNeg)) from by exact hce)) ?_
                  refine g_iload_n F dX2_shift_78 rfl rfl (np := 79) rfl ?_
                  refine g_if_lt F dX2_shift_79 (tp := 122) (by decide) (np := 82) rfl (fun c79 => ?_) (fun c79 => ?_)
                  · refine g_bipush F (v := (-13)) dX2_shift_122 (by decide) (np := 124) rfl ?_
                    have hσ : σ = (gShift σ i a j b c) := by unfold gShift; rw [pif_f (fun z => by obtain ⟨⟨y1, y2⟩, ⟨z1, z2, z3⟩, z4, z5, z6, z7, z8⟩ := z; rw [en1] at z7; rw [em1] at z8; first | exact c4 y1 | exact c11 y2 | exact nN1 (c23 ▸ z1) | exact nN1 (c33 ▸ z2) | exact c44 z1 | exact c52 z2 | exact c67 z3 | exact z4 c75 | exact z5 c79 | exact z6 c84 | exact absurd ((ladd_gt (by omega) (by omega) (by omega)).mp c101) (Nat.not_lt.mpr z7) | exact c119 ((ladd_le (by omega) (by omega) (by omega)).mpr z8))]
                    have hv : -13 = rShift σ i a j b c := by unfold rShift; rw [pif_t ⟨c4, c11⟩, pif_f (fun z => z.elim c23 c33), pif_t ⟨c44, c52, c67⟩, pif_f (fun z => by obtain ⟨z4, z5, z6, z7, z8⟩ := z; rw [en1] at z7; rw [em1] at z8; first | exact z4 c75 | exact z5 c79 | exact z6 c84 | exact absurd ((ladd_gt (by omega) (by omega) (by omega)).mp c101) (Nat.not_lt.mpr z7) | exact c119 ((ladd_le (by omega) (by omega) (by omega)).mpr z8))]
                    exact g_iret F hr rfl (Nat.le_of_ble_eq_true rfl) (Nat.le_of_ble_eq_true rfl) dX2_shift_124 (fun h hs => by rw [← hT]; exact ⟨congrArg (fun z => some (Value.int z)) hv, (hσ ▸ hs)⟩)
                  · obtain ⟨hae, hal⟩ := nI_cl c79
                    refine WG.eqv (lv' := [some (.ref (ad 0)), some (.int (nI (i.toNatClampNeg))), some (.int (nI (a.toNatClampNeg))), some (.int (nI (j.toNatClampNeg))), some (.int b), some (.int (nI (c.toNatClampNeg))), none]) rfl (congrArg (fun z => ([some (.ref (ad 0)), some (.int (nI (i.toNatClampNeg))), some (.int z), some (.int (nI (j.toNatClampNeg))), some (.int b), some (.int (nI (c.toNatClampNeg))), none] : List (Option Value))) (show a = (nI (a.toNatClampNeg)) from by exact hae)) ?_
                    refine g_iload F dX2_shift_82 rfl (np := 84) rfl ?_
                    refine g_if_lt F dX2_shift_84 (tp := 122) (by decide) (np := 87) rfl (fun c84 => ?_) (fun c84 => ?_)
                    · refine g_bipush F (v := (-13)) dX2_shift_122 (by decide) (np := 124) rfl ?_
                      have hσ : σ = (gShift σ i a j b c) := by unfold gShift; rw [pif_f (fun z => by obtain ⟨⟨y1, y2⟩, ⟨z1, z2, z3⟩, z4, z5, z6, z7, z8⟩ := z; rw [en1] at z7; rw [em1] at z8; first | exact c4 y1 | exact c11 y2 | exact nN1 (c23 ▸ z1) | exact nN1 (c33 ▸ z2) | exact c44 z1 | exact c52 z2 | exact c67 z3 | exact z4 c75 | exact z5 c79 | exact z6 c84 | exact absurd ((ladd_gt (by omega) (by omega) (by omega)).mp c101) (Nat.not_lt.mpr z7) | exact c119 ((ladd_le (by omega) (by omega) (by omega)).mpr z8))]
                      have hv : -13 = rShift σ i a j b c := by unfold rShift; rw [pif_t ⟨c4, c11⟩, pif_f (fun z => z.elim c23 c33), pif_t ⟨c44, c52, c67⟩, pif_f (fun z => by obtain ⟨z4, z5, z6, z7, z8⟩ := z; rw [en1] at z7; rw [em1] at z8; first | exact z4 c75 | exact z5 c79 | exact z6 c84 | exact absurd ((ladd_gt (by omega) (by omega) (by omega)).mp c101) (Nat.not_lt.mpr z7) | exact c119 ((ladd_le (by omega) (by omega) (by omega)).mpr z8))]
                      exact g_iret F hr rfl (Nat.le_of_ble_eq_true rfl) (Nat.le_of_ble_eq_true rfl) dX2_shift_124 (fun h hs => by rw [← hT]; exact ⟨congrArg (fun z => some (Value.int z)) hv, (hσ ▸ hs)⟩)
                    · obtain ⟨hbe, hbl⟩ := nI_cl c84
                      refine WG.eqv (lv' := [some (.ref (ad 0)), some (.int (nI (i.toNatClampNeg))), some (.int (nI (a.toNatClampNeg))), some (.int (nI (j.toNatClampNeg))), some (.int (nI (b.toNatClampNeg))), some (.int (nI (c.toNatClampNeg))), none]) rfl (congrArg (fun z => ([some (.ref (ad 0)), some (.int (nI (i.toNatClampNeg))), some (.int (nI (a.toNatClampNeg))), some (.int (nI (j.toNatClampNeg))), some (.int z), some (.int (nI (c.toNatClampNeg))), none] : List (Option Value))) (show b = (nI (b.toNatClampNeg)) from by exact hbe)) ?_
                      refine g_iload_n F dX2_shift_87 rfl rfl (np := 88) rfl ?_
                      refine g_i2l F dX2_shift_88 (np := 89) rfl ?_
                      refine g_iload F dX2_shift_89 rfl (np := 91) rfl ?_
                      refine g_i2l F dX2_shift_91 (np := 92) rfl ?_
                      refine g_ladd F dX2_shift_92 (np := 93) rfl ?_
                      refine g_aload_n F dX2_shift_93 rfl rfl (np := 94) rfl ?_
                      refine h_get F (k := 39) (v := .ref (ad 39)) (by decide) rfl q1585 dX2_shift_94 (np := 97) rfl ?_
                      refine g_iload_n F dX2_shift_97 rfl rfl (np := 98) rfl ?_
                      refine h_ald F (k := 39) (i := i.toNatClampNeg) (L := 6) (v := σ.2.1 39 i.toNatClampNeg) rfl rfl (by decide) (by omega) rfl rfl dX2_shift_98 (by decide) (by decide) (np := 99) rfl ?_
                      refine WG.eqv (st' := [.int (nI n0), .long (((nI (a.toNatClampNeg)).toInt64) + ((nI (c.toNatClampNeg)).toInt64))]) (congrArg (fun z => ([.int z, .long (((nI (a.toNatClampNeg)).toInt64) + ((nI (c.toNatClampNeg)).toInt64))] : List Value)) (show (σ.2.1 39 i.toNatClampNeg) = (nI n0) from by exact en0)) rfl ?_
                      refine g_i2l F dX2_shift_99 (np := 100) rfl ?_
                      refine g_lcmp F dX2_shift_100 (np := 101) rfl ?_
                      refine g_if_gt F dX2_shift_101 (tp := 122) (by decide) (np := 104) rfl (fun c101 => ?_) (fun c101 => ?_)
                      · refine g_bipush F (v := (-13)) dX2_shift_122 (by decide) (np := 124) rfl ?_
                        have hσ : σ = (gShift σ i a j b c) := by unfold gShift; rw [pif_f (fun z => by obtain ⟨⟨y1, y2⟩, ⟨z1, z2, z3⟩, z4, z5, z6, z7, z8⟩ := z; rw [en1] at z7; rw [em1] at z8; first | exact c4 y1 | exact c11 y2 | exact nN1 (c23 ▸ z1) | exact nN1 (c33 ▸ z2) | exact c44 z1 | exact c52 z2 | exact c67 z3 | exact z4 c75 | exact z5 c79 | exact z6 c84 | exact absurd ((ladd_gt (by omega) (by omega) (by omega)).mp c101) (Nat.not_lt.mpr z7) | exact c119 ((ladd_le (by omega) (by omega) (by omega)).mpr z8))]
                        have hv : -13 = rShift σ i a j b c := by unfold rShift; rw [pif_t ⟨c4, c11⟩, pif_f (fun z => z.elim c23 c33), pif_t ⟨c44, c52, c67⟩, pif_f (fun z => by obtain ⟨z4, z5, z6, z7, z8⟩ := z; rw [en1] at z7; rw [em1] at z8; first | exact z4 c75 | exact z5 c79 | exact z6 c84 | exact absurd ((ladd_gt (by omega) (by omega) (by omega)).mp c101) (Nat.not_lt.mpr z7) | exact c119 ((ladd_le (by omega) (by omega) (by omega)).mpr z8))]
                        exact g_iret F hr rfl (Nat.le_of_ble_eq_true rfl) (Nat.le_of_ble_eq_true rfl) dX2_shift_124 (fun h hs => by rw [← hT]; exact ⟨congrArg (fun z => some (Value.int z)) hv, (hσ ▸ hs)⟩)
                      · refine g_iload F dX2_shift_104 rfl (np := 106) rfl ?_
                        refine g_i2l F dX2_shift_106 (np := 107) rfl ?_
                        refine g_iload F dX2_shift_107 rfl (np := 109) rfl ?_
                        refine g_i2l F dX2_shift_109 (np := 110) rfl ?_
                        refine g_ladd F dX2_shift_110 (np := 111) rfl ?_
                        refine g_aload_n F dX2_shift_111 rfl rfl (np := 112) rfl ?_
                        refine h_get F (k := 39) (v := .ref (ad 39)) (by decide) rfl q1585 dX2_shift_112 (np := 115) rfl ?_
                        refine g_iload_n F dX2_shift_115 rfl rfl (np := 116) rfl ?_
                        refine h_ald F (k := 39) (i := j.toNatClampNeg) (L := 6) (v := σ.2.1 39 j.toNatClampNeg) rfl rfl (by decide) (by omega) rfl rfl dX2_shift_116 (by decide) (by decide) (np := 117) rfl ?_
                        refine WG.eqv (st' := [.int (nI m0), .long (((nI (b.toNatClampNeg)).toInt64) + ((nI (c.toNatClampNeg)).toInt64))]) (congrArg (fun z => ([.int z, .long (((nI (b.toNatClampNeg)).toInt64) + ((nI (c.toNatClampNeg)).toInt64))] : List Value)) (show (σ.2.1 39 j.toNatClampNeg) = (nI m0) from by exact em0)) rfl ?_
                        refine g_i2l F dX2_shift_117 (np := 118) rfl ?_
                        refine g_lcmp F dX2_shift_118 (np := 119) rfl ?_
                        refine g_if_le F dX2_shift_119 (tp := 125) (by decide) (np := 122) rfl (fun c119 => ?_) (fun c119 => ?_)
                        · have ha8 := Nat.not_lt.mp (fun z => c101 ((ladd_gt (by omega) (by omega) (by omega)).mpr z))
                          have hb8 := (ladd_le (by omega) (by omega) (by omega)).mp c119
                          have hQ : shiftQ σ i a j b c := ⟨c75, c79, c84, en1.symm ▸ ha8, em1.symm ▸ hb8⟩
                          have hO : shiftO σ i.toNatClampNeg j.toNatClampNeg := ⟨c44, c52, c67⟩
                          have hst : ¬ (i.toNatClampNeg = j.toNatClampNeg ∧ a.toNatClampNeg < b.toNatClampNeg) → (60 * j.toNatClampNeg + b.toNatClampNeg) ≤ (60 * i.toNatClampNeg + a.toNatClampNeg) ∨ (60 * i.toNatClampNeg + a.toNatClampNeg) + c.toNatClampNeg ≤ (60 * j.toNatClampNeg + b.toNatClampNeg) ∨ (60 * j.toNatClampNeg + b.toNatClampNeg) + c.toNatClampNeg ≤ (60 * i.toNatClampNeg + a.toNatClampNeg) := by omega
                          refine g_iload_n F dX2_shift_125 rfl rfl (np := 126) rfl ?_
                          refine g_iload_n F dX2_shift_126 rfl rfl (np := 127) rfl ?_
                          refine g_icmp_neN F (by omega) (by omega) dX2_shift_127 (tp := 185) (by decide) (np := 130) rfl (fun c127 => ?_) (fun c127 => ?_)
                          · have hst := hst (by omega)
                            refine g_iconst F (v := (nI 0)) dX2_shift_185 (by decide) (np := 186) rfl ?_
                            refine g_istore F (lv' := [some (.ref (ad 0)), some (.int (nI (i.toNatClampNeg))), some (.int (nI (a.toNatClampNeg))), some (.int (nI (j.toNatClampNeg))), some (.int (nI (b.toNatClampNeg))), some (.int (nI (c.toNatClampNeg))), some (.int (nI 0))]) dX2_shift_186 (by decide) rfl rfl (np := 188) rfl ?_
                            have L188 : ∀ (zn : Nat) (k : Nat) (f : Nat → Int64), (∀ x, f x = if (60 * j.toNatClampNeg + b.toNatClampNeg) ≤ x ∧ x < (60 * j.toNatClampNeg + b.toNatClampNeg) + k then σ.2.2 ((60 * i.toNatClampNeg + a.toNatClampNeg) + (x - (60 * j.toNatClampNeg + b.toNatClampNeg))) else σ.2.2 x) → (k ≤ c.toNatClampNeg) → c.toNatClampNeg - k < zn → WG zp l ze ({ frames := 2, cells := 0, slots := 0, locals := 43 } : Room) zs zm za zb zt zc D B 7 (MQ zb (QT D B T) za zs 0 0 (zA B)) (MH D ad h0 (sL σ f)) 0 0 188 [some (.ref (ad 0)), some (.int (nI (i.toNatClampNeg))), some (.int (nI (a.toNatClampNeg))), some (.int (nI (j.toNatClampNeg))), some (.int (nI (b.toNatClampNeg))), some (.int (nI (c.toNatClampNeg))), some (.int (nI k))] [] := by
                              intro zn
                              induction zn with
                              | zero => intro k f h1 h2 hm; exact absurd hm (Nat.not_lt_zero _)
                              | succ zn ih188 =>
                                intro k f h1 h2 hm
                                refine g_iload F dX2_shift_188 rfl (np := 190) rfl ?_
                                refine g_iload F dX2_shift_190 rfl (np := 192) rfl ?_
                                refine g_icmp_geN F (by omega) (by omega) dX2_shift_192 (tp := 230) (by decide) (np := 195) rfl (fun c192 => ?_) (fun c192 => ?_)
                                · refine g_iload F dX2_shift_230 rfl (np := 232) rfl ?_
                                  have hσ : (sL σ f) = (gShift σ i a j b c) := by unfold gShift; rw [pif_t ⟨⟨c4, c11⟩, hO, hQ⟩]; first | (rw [hf]; done) | (rw [show f = moveL σ.2.2 (60 * i.toNatClampNeg + a.toNatClampNeg) (60 * j.toNatClampNeg + b.toNatClampNeg) c.toNatClampNeg by funext x; rw [h1, show k = c.toNatClampNeg by omega]; rfl])
                                  have hv : nI (c.toNatClampNeg) = rShift σ i a j b c := by unfold rShift; rw [pif_t ⟨c4, c11⟩, pif_f (fun z => z.elim c23 c33), pif_t hO, pif_t hQ]; exact hce.symm
                                  exact g_iret F hr rfl (Nat.le_of_ble_eq_true rfl) (Nat.le_of_ble_eq_true rfl) dX2_shift_232 (fun h hs => by rw [← hT]; exact ⟨congrArg (fun z => some (Value.int z)) hv, (hσ ▸ hs)⟩)
                                · refine g_aload_n F dX2_shift_195 rfl rfl (np := 196) rfl ?_
                                  refine h_get F (k := 40) (v := .ref (ad 40)) (by decide) rfl q1586 dX2_shift_196 (np := 199) rfl ?_
                                  refine g_bipush F (v := (nI 60)) dX2_shift_199 (by decide) (np := 201) rfl ?_
                                  refine g_iload_n F dX2_shift_201 rfl rfl (np := 202) rfl ?_
                                  refine g_imulN F dX2_shift_202 (np := 203) rfl ?_
                                  refine g_iload F dX2_shift_203 rfl (np := 205) rfl ?_
                                  refine g_iaddN F dX2_shift_205 (np := 206) rfl ?_
                                  refine g_iload F dX2_shift_206 rfl (np := 208) rfl ?_
                                  refine g_iaddN F dX2_shift_208 (np := 209) rfl ?_
                                  refine g_aload_n F dX2_shift_209 rfl rfl (np := 210) rfl ?_
                                  refine h_get F (k := 40) (v := .ref (ad 40)) (by decide) rfl q1586 dX2_shift_210 (np := 213) rfl ?_
                                  refine g_bipush F (v := (nI 60)) dX2_shift_213 (by decide) (np := 215) rfl ?_
                                  refine g_iload_n F dX2_shift_215 rfl rfl (np := 216) rfl ?_
                                  refine g_imulN F dX2_shift_216 (np := 217) rfl ?_
                                  refine g_iload_n F dX2_shift_217 rfl rfl (np := 218) rfl ?_
                                  refine g_iaddN F dX2_shift_218 (np := 219) rfl ?_
                                  refine g_iload F dX2_shift_219 rfl (np := 221) rfl ?_
                                  refine g_iaddN F dX2_shift_221 (np := 222) rfl ?_
                                  refine h_lald F (i := ((60 * i.toNatClampNeg) + a.toNatClampNeg) + k) (v := f (((60 * i.toNatClampNeg) + a.toNatClampNeg) + k)) (by omega) rfl rfl dX2_shift_222 (np := 223) rfl ?_
                                  refine h_last F (i := ((60 * j.toNatClampNeg) + b.toNatClampNeg) + k) (by omega) rfl dX2_shift_223 (np := 224) rfl ?_
                                  refine g_iinc F (v := (nI (k + 1))) (lv' := [some (.ref (ad 0)), some (.int (nI (i.toNatClampNeg))), some (.int (nI (a.toNatClampNeg))), some (.int (nI (j.toNatClampNeg))), some (.int (nI (b.toNatClampNeg))), some (.int (nI (c.toNatClampNeg))), some (.int (nI (k + 1)))]) dX2_shift_224 rfl (nI_add _ _) (by decide) rfl rfl (np := 227) rfl ?_
                                  refine g_goto F dX2_shift_227 (np := 188) (by decide) ?_
                                  exact ih188 (k + 1) ((va_up f (((60 * j.toNatClampNeg) + b.toNatClampNeg) + k) (f (((60 * i.toNatClampNeg) + a.toNatClampNeg) + k)))) (by exact cl_step (P := fun x => σ.2.2 ((60 * i.toNatClampNeg + a.toNatClampNeg) + (x - (60 * j.toNatClampNeg + b.toNatClampNeg)))) h1 (mv_f (c := c.toNatClampNeg) (by omega) h1 hst)) (by omega) (by omega)
                            refine WG.weak (S' := MH D ad h0 (sL σ (σ.2.2))) (fun h hs => by exact hs) ?_
                            exact L188 _ 0 ((σ.2.2)) (by intro x; rw [if_neg (by omega)]) (by omega) (Nat.lt_succ_self _)
                          · refine g_iload_n F dX2_shift_130 rfl rfl (np := 131) rfl ?_
                            refine g_iload F dX2_shift_131 rfl (np := 133) rfl ?_
                            refine g_icmp_geN F (by omega) (by omega) dX2_shift_133 (tp := 185) (by decide) (np := 136) rfl (fun c133 => ?_) (fun c133 => ?_)
                            · have hst := hst (by omega)
                              refine g_iconst F (v := (nI 0)) dX2_shift_185 (by decide) (np := 186) rfl ?_
                              refine g_istore F (lv' := [some (.ref (ad 0)), some (.int (nI (i.toNatClampNeg))), some (.int (nI (a.toNatClampNeg))), some (.int (nI (j.toNatClampNeg))), some (.int (nI (b.toNatClampNeg))), some (.int (nI (c.toNatClampNeg))), some (.int (nI 0))]) dX2_shift_186 (by decide) rfl rfl (np := 188) rfl ?_
                              have L188 : ∀ (zn : Nat) (k : Nat) (f : Nat → Int64), (∀ x, f x = if (60 * j.toNatClampNeg + b.toNatClampNeg) ≤ x ∧ x < (60 * j.toNatClampNeg + b.toNatClampNeg) + k then σ.2.2 ((60 * i.toNatClampNeg + a.toNatClampNeg) + (x - (60 * j.toNatClampNeg + b.toNatClampNeg))) else σ.2.2 x) → (k ≤ c.toNatClampNeg) → c.toNatClampNeg - k < zn → WG zp l ze ({ frames := 2, cells := 0, slots := 0, locals := 43 } : Room) zs zm za zb zt zc D B 7 (MQ zb (QT D B T) za zs 0 0 (zA B)) (MH D ad h0 (sL σ f)) 0 0 188 [some (.ref (ad 0)), some (.int (nI (i.toNatClampNeg))), some (.int (nI (a.toNatClampNeg))), some (.int (nI (j.toNatClampNeg))), some (.int (nI (b.toNatClampNeg))), some (.int (nI (c.toNatClampNeg))), some (.int (nI k))] [] := by
                                intro zn
                                induction zn with
                                | zero => intro k f h1 h2 hm; exact absurd hm (Nat.not_lt_zero _)
                                | succ zn ih188 =>
                                  intro k f h1 h2 hm
                                  refine g_iload F dX2_shift_188 rfl (np := 190) rfl ?_
                                  refine g_iload F dX2_shift_190 rfl (np := 192) rfl ?_
                                  refine g_icmp_geN F (by omega) (by omega) dX2_shift_192 (tp := 230) (by decide) (np := 195) rfl (fun c192 => ?_) (fun c192 => ?_)
                                  · refine g_iload F dX2_shift_230 rfl (np := 232) rfl ?_
                                    have hσ : (sL σ f) = (gShift σ i a j b c) := by unfold gShift; rw [pif_t ⟨⟨c4, c11⟩, hO, hQ⟩]; first | (rw [hf]; done) | (rw [show f = moveL σ.2.2 (60 * i.toNatClampNeg + a.toNatClampNeg) (60 * j.toNatClampNeg + b.toNatClampNeg) c.toNatClampNeg by funext x; rw [h1, show k = c.toNatClampNeg by omega]; rfl])
                                    have hv : nI (c.toNatClampNeg) = rShift σ i a j b c := by unfold rShift; rw [pif_t ⟨c4, c11⟩, pif_f (fun z => z.elim c23 c33), pif_t hO, pif_t hQ]; exact hce.symm
                                    exact g_iret F hr rfl (Nat.le_of_ble_eq_true rfl) (Nat.le_of_ble_eq_true rfl) dX2_shift_232 (fun h hs => by rw [← hT]; exact ⟨congrArg (fun z => some (Value.int z)) hv, (hσ ▸ hs)⟩)
                                  · refine g_aload_n F dX2_shift_195 rfl rfl (np := 196) rfl ?_
                                    refine h_get F (k := 40) (v := .ref (ad 40)) (by decide) rfl q1586 dX2_shift_196 (np := 199) rfl ?_
                                    refine g_bipush F (v := (nI 60)) dX2_shift_199 (by decide) (np := 201) rfl ?_
                                    refine g_iload_n F dX2_shift_201 rfl rfl (np := 202) rfl ?_
                                    refine g_imulN F dX2_shift_202 (np := 203) rfl ?_
                                    refine g_iload F dX2_shift_203 rfl (np := 205) rfl ?_
                                    refine g_iaddN F dX2_shift_205 (np := 206) rfl ?_
                                    refine g_iload F dX2_shift_206 rfl (np := 208) rfl ?_
                                    refine g_iaddN F dX2_shift_208 (np := 209) rfl ?_
                                    refine g_aload_n F dX2_shift_209 rfl rfl (np := 210) rfl ?_
                                    refine h_get F (k := 40) (v := .ref (ad 40)) (by decide) rfl q1586 dX2_shift_210 (np := 213) rfl ?_
                                    refine g_bipush F (v := (nI 60)) dX2_shift_213 (by decide) (np := 215) rfl ?_
                                    refine g_iload_n F dX2_shift_215 rfl rfl (np := 216) rfl ?_
                                    refine g_imulN F dX2_shift_216 (np := 217) rfl ?_
                                    refine g_iload_n F dX2_shift_217 rfl rfl (np := 218) rfl ?_
                                    refine g_iaddN F dX2_shift_218 (np := 219) rfl ?_
                                    refine g_iload F dX2_shift_219 rfl (np := 221) rfl ?_
                                    refine g_iaddN F dX2_shift_221 (np := 222) rfl ?_
                                    refine h_lald F (i := ((60 * i.toNatClampNeg) + a.toNatClampNeg) + k) (v := f (((60 * i.toNatClampNeg) + a.toNatClampNeg) + k)) (by omega) rfl rfl dX2_shift_222 (np := 223) rfl ?_
                                    refine h_last F (i := ((60 * j.toNatClampNeg) + b.toNatClampNeg) + k) (by omega) rfl dX2_shift_223 (np := 224) rfl ?_
                                    refine g_iinc F (v := (nI (k + 1))) (lv' := [some (.ref (ad 0)), some (.int (nI (i.toNatClampNeg))), some (.int (nI (a.toNatClampNeg))), some (.int (nI (j.toNatClampNeg))), some (.int (nI (b.toNatClampNeg))), some (.int (nI (c.toNatClampNeg))), some (.int (nI (k + 1)))]) dX2_shift_224 rfl (nI_add _ _) (by decide) rfl rfl (np := 227) rfl ?_
                                    refine g_goto F dX2_shift_227 (np := 188) (by decide) ?_
                                    exact ih188 (k + 1) ((va_up f (((60 * j.toNatClampNeg) + b.toNatClampNeg) + k) (f (((60 * i.toNatClampNeg) + a.toNatClampNeg) + k)))) (by exact cl_step (P := fun x => σ.2.2 ((60 * i.toNatClampNeg + a.toNatClampNeg) + (x - (60 * j.toNatClampNeg + b.toNatClampNeg)))) h1 (mv_f (c := c.toNatClampNeg) (by omega) h1 hst)) (by omega) (by omega)
                              refine WG.weak (S' := MH D ad h0 (sL σ (σ.2.2))) (fun h hs => by exact hs) ?_
                              exact L188 _ 0 ((σ.2.2)) (by intro x; rw [if_neg (by omega)]) (by omega) (Nat.lt_succ_self _)
                            · refine g_iload F dX2_shift_136 rfl (np := 138) rfl ?_
                              refine g_iconst F (v := (nI 1)) dX2_shift_138 (by decide) (np := 139) rfl ?_
                              refine g_isub F dX2_shift_139 (np := 140) rfl ?_
                              refine g_istore F (lv' := [some (.ref (ad 0)), some (.int (nI (i.toNatClampNeg))), some (.int (nI (a.toNatClampNeg))), some (.int (nI (j.toNatClampNeg))), some (.int (nI (b.toNatClampNeg))), some (.int (nI (c.toNatClampNeg))), some (.int ((nI (c.toNatClampNeg)) - (nI (1))))]) dX2_shift_140 (by decide) rfl rfl (np := 142) rfl ?_
                              have L142 : ∀ (zn : Nat) (q : Int32) (f : Nat → Int64) (k : Nat), (∀ x, f x = if (60 * j.toNatClampNeg + b.toNatClampNeg) + k ≤ x ∧ x < (60 * j.toNatClampNeg + b.toNatClampNeg) + c.toNatClampNeg then σ.2.2 ((60 * i.toNatClampNeg + a.toNatClampNeg) + (x - (60 * j.toNatClampNeg + b.toNatClampNeg))) else σ.2.2 x) → (k ≤ c.toNatClampNeg) → (q = nI k - 1) → k < zn → WG zp l ze ({ frames := 2, cells := 0, slots := 0, locals := 43 } : Room) zs zm za zb zt zc D B 7 (MQ zb (QT D B T) za zs 0 0 (zA B)) (MH D ad h0 (sL σ f)) 0 0 142 [some (.ref (ad 0)), some (.int (nI (i.toNatClampNeg))), some (.int (nI (a.toNatClampNeg))), some (.int (nI (j.toNatClampNeg))), some (.int (nI (b.toNatClampNeg))), some (.int (nI (c.toNatClampNeg))), some (.int q)] [] := by
                                intro zn
                                induction zn with
                                | zero => intro q f k h1 h2 h3 hm; exact absurd hm (Nat.not_lt_zero _)
                                | succ zn ih142 =>
                                  intro q f k h1 h2 h3 hm
                                  refine g_iload F dX2_shift_142 rfl (np := 144) rfl ?_
                                  refine g_if_lt F dX2_shift_144 (tp := 182) (by decide) (np := 147) rfl (fun c144 => ?_) (fun c144 => ?_)
                                  · have hk0 : k = 0 := by
                                      rcases Nat.eq_zero_or_pos k with z | z
                                      · exact z
                                      · exfalso; obtain ⟨k0, rfl⟩ : ∃ k0, k = k0 + 1 := ⟨k - 1, by omega⟩; rw [h3, nI_pred] at c144; exact absurd c144 (nI_pos (by omega))
                                    have hf : f = moveL σ.2.2 (60 * i.toNatClampNeg + a.toNatClampNeg) (60 * j.toNatClampNeg + b.toNatClampNeg) c.toNatClampNeg := by funext x; rw [h1, hk0]; rfl
                                    refine g_goto F dX2_shift_182 (np := 230) (by decide) ?_
                                    refine g_iload F dX2_shift_230 rfl (np := 232) rfl ?_
                                    have hσ : (sL σ f) = (gShift σ i a j b c) := by unfold gShift; rw [pif_t ⟨⟨c4, c11⟩, hO, hQ⟩]; first | (rw [hf]; done) | (rw [show f = moveL σ.2.2 (60 * i.toNatClampNeg + a.toNatClampNeg) (60 * j.toNatClampNeg + b.toNatClampNeg) c.toNatClampNeg by funext x; rw [h1, show k = c.toNatClampNeg by omega]; rfl])
                                    have hv : nI (c.toNatClampNeg) = rShift σ i a j b c := by unfold rShift; rw [pif_t ⟨c4, c11⟩, pif_f (fun z => z.elim c23 c33), pif_t hO, pif_t hQ]; exact hce.symm
                                    exact g_iret F hr rfl (Nat.le_of_ble_eq_true rfl) (Nat.le_of_ble_eq_true rfl) dX2_shift_232 (fun h hs => by rw [← hT]; exact ⟨congrArg (fun z => some (Value.int z)) hv, (hσ ▸ hs)⟩)
                                  · obtain ⟨k0, rfl⟩ : ∃ k0, k = k0 + 1 := by
                                      rcases Nat.eq_zero_or_pos k with rfl | z
                                      · exact absurd (by rw [h3]; decide) c144
                                      · exact ⟨k - 1, by omega⟩
                                    have e0 : q = nI k0 := by rw [h3]; exact (nI_pred k0)
                                    refine WG.eqv (lv' := [some (.ref (ad 0)), some (.int (nI (i.toNatClampNeg))), some (.int (nI (a.toNatClampNeg))), some (.int (nI (j.toNatClampNeg))), some (.int (nI (b.toNatClampNeg))), some (.int (nI (c.toNatClampNeg))), some (.int (nI k0))]) rfl (congrArg (fun z => ([some (.ref (ad 0)), some (.int (nI (i.toNatClampNeg))), some (.int (nI (a.toNatClampNeg))), some (.int (nI (j.toNatClampNeg))), some (.int (nI (b.toNatClampNeg))), some (.int (nI (c.toNatClampNeg))), some (.int z)] : List (Option Value))) (show q = (nI k0) from by exact e0)) ?_
                                    refine g_aload_n F dX2_shift_147 rfl rfl (np := 148) rfl ?_
                                    refine h_get F (k := 40) (v := .ref (ad 40)) (by decide) rfl q1586 dX2_shift_148 (np := 151) rfl ?_
                                    refine g_bipush F (v := (nI 60)) dX2_shift_151 (by decide) (np := 153) rfl ?_
                                    refine g_iload_n F dX2_shift_153 rfl rfl (np := 154) rfl ?_
                                    refine g_imulN F dX2_shift_154 (np := 155) rfl ?_
                                    refine g_iload F dX2_shift_155 rfl (np := 157) rfl ?_
                                    refine g_iaddN F dX2_shift_157 (np := 158) rfl ?_
                                    refine g_iload F dX2_shift_158 rfl (np := 160) rfl ?_
                                    refine g_iaddN F dX2_shift_160 (np := 161) rfl ?_
                                    refine g_aload_n F dX2_shift_161 rfl rfl (np := 162) rfl ?_
                                    refine h_get F (k := 40) (v := .ref (ad 40)) (by decide) rfl q1586 dX2_shift_162 (np := 165) rfl ?_
                                    refine g_bipush F (v := (nI 60)) dX2_shift_165 (by decide) (np := 167) rfl ?_
                                    refine g_iload_n F dX2_shift_167 rfl rfl (np := 168) rfl ?_
                                    refine g_imulN F dX2_shift_168 (np := 169) rfl ?_
                                    refine g_iload_n F dX2_shift_169 rfl rfl (np := 170) rfl ?_
                                    refine g_iaddN F dX2_shift_170 (np := 171) rfl ?_
                                    refine g_iload F dX2_shift_171 rfl (np := 173) rfl ?_
                                    refine g_iaddN F dX2_shift_173 (np := 174) rfl ?_
                                    refine h_lald F (i := ((60 * i.toNatClampNeg) + a.toNatClampNeg) + k0) (v := f (((60 * i.toNatClampNeg) + a.toNatClampNeg) + k0)) (by omega) rfl rfl dX2_shift_174 (np := 175) rfl ?_
                                    refine h_last F (i := ((60 * j.toNatClampNeg) + b.toNatClampNeg) + k0) (by omega) rfl dX2_shift_175 (np := 176) rfl ?_
                                    refine g_iinc F (v := (nI (k0) - 1)) (lv' := [some (.ref (ad 0)), some (.int (nI (i.toNatClampNeg))), some (.int (nI (a.toNatClampNeg))), some (.int (nI (j.toNatClampNeg))), some (.int (nI (b.toNatClampNeg))), some (.int (nI (c.toNatClampNeg))), some (.int (nI (k0) - 1))]) dX2_shift_176 rfl (zi_sub1 _) (by decide) rfl rfl (np := 179) rfl ?_
                                    refine g_goto F dX2_shift_179 (np := 142) (by decide) ?_
                                    exact ih142 (nI (k0) - 1) ((va_up f (((60 * j.toNatClampNeg) + b.toNatClampNeg) + k0) (f (((60 * i.toNatClampNeg) + a.toNatClampNeg) + k0)))) k0 (by exact cl_stepd (P := fun x => σ.2.2 ((60 * i.toNatClampNeg + a.toNatClampNeg) + (x - (60 * j.toNatClampNeg + b.toNatClampNeg)))) (by omega) h1 (mv_b (by omega) h1)) (by omega) (by rfl) (by omega)
                              refine WG.weak (S' := MH D ad h0 (sL σ (σ.2.2))) (fun h hs => by exact hs) ?_
                              exact L142 _ ((nI (c.toNatClampNeg)) - (nI (1))) ((σ.2.2)) c.toNatClampNeg (by intro x; rw [if_neg (by omega)]) (by omega) (by rfl) (Nat.lt_succ_self _)
                        · refine g_bipush F (v := (-13)) dX2_shift_122 (by decide) (np := 124) rfl ?_
                          have hσ : σ = (gShift σ i a j b c) := by unfold gShift; rw [pif_f (fun z => by obtain ⟨⟨y1, y2⟩, ⟨z1, z2, z3⟩, z4, z5, z6, z7, z8⟩ := z; rw [en1] at z7; rw [em1] at z8; first | exact c4 y1 | exact c11 y2 | exact nN1 (c23 ▸ z1) | exact nN1 (c33 ▸ z2) | exact c44 z1 | exact c52 z2 | exact c67 z3 | exact z4 c75 | exact z5 c79 | exact z6 c84 | exact absurd ((ladd_gt (by omega) (by omega) (by omega)).mp c101) (Nat.not_lt.mpr z7) | exact c119 ((ladd_le (by omega) (by omega) (by omega)).mpr z8))]
                          have hv : -13 = rShift σ i a j b c := by unfold rShift; rw [pif_t ⟨c4, c11⟩, pif_f (fun z => z.elim c23 c33), pif_t ⟨c44, c52, c67⟩, pif_f (fun z => by obtain ⟨z4, z5, z6, z7, z8⟩ := z; rw [en1] at z7; rw [em1] at z8; first | exact z4 c75 | exact z5 c79 | exact z6 c84 | exact absurd ((ladd_gt (by omega) (by omega) (by omega)).mp c101) (Nat.not_lt.mpr z7) | exact c119 ((ladd_le (by omega) (by omega) (by omega)).mpr z8))]
                          exact g_iret F hr rfl (Nat.le_of_ble_eq_true rfl) (Nat.le_of_ble_eq_true rfl) dX2_shift_124 (fun h hs => by rw [← hT]; exact ⟨congrArg (fun z => some (Value.int z)) hv, (hσ ▸ hs)⟩)
              · refine g_bipush F (v := (-12)) dX2_shift_70 (by decide) (np := 72) rfl ?_
                have hσ : σ = (gShift σ i a j b c) := by unfold gShift; rw [pif_f (fun z => by obtain ⟨⟨y1, y2⟩, ⟨z1, z2, z3⟩, z4, z5, z6, z7, z8⟩ := z; rw [en1] at z7; rw [em1] at z8; first | exact c4 y1 | exact c11 y2 | exact nN1 (c23 ▸ z1) | exact nN1 (c33 ▸ z2) | exact c44 z1 | exact c52 z2 | exact c67 z3 | exact z4 c75 | exact z5 c79 | exact z6 c84 | exact absurd ((ladd_gt (by omega) (by omega) (by omega)).mp c101) (Nat.not_lt.mpr z7) | exact c119 ((ladd_le (by omega) (by omega) (by omega)).mpr z8))]
                have hv : -12 = rShift σ i a j b c := by unfold rShift; rw [pif_t ⟨c4, c11⟩, pif_f (fun z => z.elim c23 c33), pif_f (fun z => by obtain ⟨z1, z2, z3⟩ := z; first | exact c44 z1 | exact c52 z2 | exact c67 z3)]
                exact g_iret F hr rfl (Nat.le_of_ble_eq_true rfl) (Nat.le_of_ble_eq_true rfl) dX2_shift_72 (fun h hs => by rw [← hT]; exact ⟨congrArg (fun z => some (Value.int z)) hv, (hσ ▸ hs)⟩)
        · refine g_bipush F (v := (-11)) dX2_shift_36 (by decide) (np := 38) rfl ?_
          have hσ : σ = (gShift σ i a j b c) := by unfold gShift; rw [pif_f (fun z => by obtain ⟨⟨y1, y2⟩, ⟨z1, z2, z3⟩, z4, z5, z6, z7, z8⟩ := z; rw [en1] at z7; rw [em1] at z8; first | exact c4 y1 | exact c11 y2 | exact nN1 (c23 ▸ z1) | exact nN1 (c33 ▸ z2) | exact c44 z1 | exact c52 z2 | exact c67 z3 | exact z4 c75 | exact z5 c79 | exact z6 c84 | exact absurd ((ladd_gt (by omega) (by omega) (by omega)).mp c101) (Nat.not_lt.mpr z7) | exact c119 ((ladd_le (by omega) (by omega) (by omega)).mpr z8))]
          have hv : -11 = rShift σ i a j b c := by unfold rShift; rw [pif_t ⟨c4, c11⟩]; first | (rw [pif_t (Or.inl c23)]; done) | (rw [pif_t (Or.inr c33)]; done)
          exact g_iret F hr rfl (Nat.le_of_ble_eq_true rfl) (Nat.le_of_ble_eq_true rfl) dX2_shift_38 (fun h hs => by rw [← hT]; exact ⟨congrArg (fun z => some (Value.int z)) hv, (hσ ▸ hs)⟩)
    · refine g_iconst F (v := (-1)) dX2_shift_14 (by decide) (np := 15) rfl ?_
      have hσ : σ = (gShift σ i a j b c) := by unfold gShift; rw [pif_f (fun z => by obtain ⟨⟨y1, y2⟩, -⟩ := z; first | exact c4 y1 | exact c11 y2)]
      have hv : -1 = rShift σ i a j b c := by unfold rShift; first | (rw [pif_f (fun z => c4 z.1)]; done) | (rw [pif_f (fun z => c11 z.2)]; done)
      exact g_iret F hr rfl (Nat.le_of_ble_eq_true rfl) (Nat.le_of_ble_eq_true rfl) dX2_shift_15 (fun h hs => by rw [← hT]; exact ⟨congrArg (fun z => some (Value.int z)) hv, (hσ ▸ hs)⟩)

set_option maxRecDepth 100000 in
theorem ct_X2_count {l : Launch} {D : va_G} {E : State → Prop} {B : Nat} (hE : Stab E) {ad : Nat → Nat} {h0 : AH} (σ : MSt)  (k : Int32) : Ct l D E B yX2_count cX2_count 2 (some .int) 0 0 0 0 [.ref (ad 0), .int k] (MH D ad h0 σ) (RI (rCount σ k) (MH D ad h0 σ)) := by
  refine Ct.of (nL := 2) (lv := [some (.ref (ad 0)), some (.int k)]) (by decide) (Nat.le_of_ble_eq_true rfl) hE 0 rfl ?_
  generalize hT : RI (rCount σ k) (MH D ad h0 σ) = T
  intro zp ze zs zm zb zt zc F hr hnm
  generalize ([.ref (ad 0), .int k] : List Value).toArray = za at F ⊢
  refine g_iload_n F dX2_count_0 rfl rfl (np := 1) rfl ?_
  by_cases k1_0 : k = 0
  · refine g_tabIn F (x := k) (v := 0) k1_0 (lo := 0) dX2_count_1 (j := 0) (by decide) (by decide) (by decide) rfl (np := 40) (by decide) ?_
    refine g_aload_n F dX2_count_40 rfl rfl (np := 41) rfl ?_
    refine h_get F (k := 0) (v := .int (nI (σ.1 0))) (by decide) rfl q1546 dX2_count_41 (np := 44) rfl ?_
    have hv : nI (σ.1 0) = rCount σ k := by unfold rCount; first | (rw [if_pos k1_0]; done) | (rw [k1_1]; rfl) | (rw [k1_2]; rfl) | (rw [k1_3]; rfl) | (rw [k1_4]; rfl) | (rw [k1_5]; rfl) | (rw [if_neg k1_0, if_neg (show ¬ k = nI 1 from k1_1), if_neg (show ¬ k = nI 2 from k1_2), if_neg (show ¬ k = nI 3 from k1_3), if_neg (show ¬ k = nI 4 from k1_4), if_neg (show ¬ k = nI 5 from k1_5)])
    exact g_iret F hr rfl (Nat.le_of_ble_eq_true rfl) (Nat.le_of_ble_eq_true rfl) dX2_count_44 (fun h hs => by rw [← hT]; exact ⟨congrArg (fun z => some (Value.int z)) hv, hs⟩)
  by_cases k1_1 : k = 1
  · refine g_tabIn F (x := k) (v := 1) k1_1 (lo := 0) dX2_count_1 (j := 1) (by decide) (by decide) (by decide) rfl (np := 45) (by decide) ?_
    refine g_aload_n F dX2_count_45 rfl rfl (np := 46) rfl ?_
    refine h_get F (k := 2) (v := .int (nI (σ.1 2))) (by decide) rfl q1548 dX2_count_46 (np := 49) rfl ?_
    have hv : nI (σ.1 2) = rCount σ k := by unfold rCount; first | (rw [if_pos k1_0]; done) | (rw [k1_1]; rfl) | (rw [k1_2]; rfl) | (rw [k1_3]; rfl) | (rw [k1_4]; rfl) | (rw [k1_5]; rfl) | (rw [if_neg k1_0, if_neg (show ¬ k = nI 1 from k1_1), if_neg (show ¬ k = nI 2 from k1_2), if_neg (show ¬ k = nI 3 from k1_3), if_neg (show ¬ k = nI 4 from k1_4), if_neg (show ¬ k = nI 5 from k1_5)])
    exact g_iret F hr rfl (Nat.le_of_ble_eq_true rfl) (Nat.le_of_ble_eq_true rfl) dX2_count_49 (fun h hs => by rw [← hT]; exact ⟨congrArg (fun z => some (Value.int z)) hv, hs⟩)
  by_cases k1_2 : k = 2
  · refine g_tabIn F (x := k) (v := 2) k1_2 (lo := 0) dX2_count_1 (j := 2) (by decide) (by decide) (by decide) rfl (np := 50) (by decide) ?_
    refine g_aload_n F dX2_count_50 rfl rfl (np := 51) rfl ?_
    refine h_get F (k := 7) (v := .int (nI (σ.1 7))) (by decide) rfl q1553 dX2_count_51 (np := 54) rfl ?_
    have hv : nI (σ.1 7) = rCount σ k := by unfold rCount; first | (rw [if_pos k1_0]; done) | (rw [k1_1]; rfl) | (rw [k1_2]; rfl) | (rw [k1_3]; rfl) | (rw [k1_4]; rfl) | (rw [k1_5]; rfl) | (rw [if_neg k1_0, if_neg (show ¬ k = nI 1 from k1_1), if_neg (show ¬ k = nI 2 from k1_2), if_neg (show ¬ k = nI 3 from k1_3), if_neg (show ¬ k = nI 4 from k1_4), if_neg (show ¬ k = nI 5 from k1_5)])
    exact g_iret F hr rfl (Nat.le_of_ble_eq_true rfl) (Nat.le_of_ble_eq_true rfl) dX2_count_54 (fun h hs => by rw [← hT]; exact ⟨congrArg (fun z => some (Value.int z)) hv, hs⟩)
  by_cases k1_3 : k = 3
  · refine g_tabIn F (x := k) (v := 3) k1_3 (lo := 0) dX2_count_1 (j := 3) (by decide) (by decide) (by decide) rfl (np := 55) (by decide) ?_
    refine g_aload_n F dX2_count_55 rfl rfl (np := 56) rfl ?_
    refine h_get F (k := 32) (v := .int (nI (σ.1 32))) (by decide) rfl q1578 dX2_count_56 (np := 59) rfl ?_
    have hv : nI (σ.1 32) = rCount σ k := by unfold rCount; first | (rw [if_pos k1_0]; done) | (rw [k1_1]; rfl) | (rw [k1_2]; rfl) | (rw [k1_3]; rfl) | (rw [k1_4]; rfl) | (rw [k1_5]; rfl) | (rw [if_neg k1_0, if_neg (show ¬ k = nI 1 from k1_1), if_neg (show ¬ k = nI 2 from k1_2), if_neg (show ¬ k = nI 3 from k1_3), if_neg (show ¬ k = nI 4 from k1_4), if_neg (show ¬ k = nI 5 from k1_5)])
    exact g_iret F hr rfl (Nat.le_of_ble_eq_true rfl) (Nat.le_of_ble_eq_true rfl) dX2_count_59 (fun h hs => by rw [← hT]; exact ⟨congrArg (fun z => some (Value.int z)) hv, hs⟩)
  by_cases k1_4 : k = 4
  · refine g_tabIn F (x := k) (v := 4) k1_4 (lo := 0) dX2_count_1 (j := 4) (by decide) (by decide) (by decide) rfl (np := 60) (by decide) ?_
    refine g_aload_n F dX2_count_60 rfl rfl (np := 61) rfl ?_
    refine h_get F (k := 34) (v := .int (nI (σ.1 34))) (by decide) rfl q1580 dX2_count_61 (np := 64) rfl ?_
    have hv : nI (σ.1 34) = rCount σ k := by unfold rCount; first | (rw [if_pos k1_0]; done) | (rw [k1_1]; rfl) | (rw [k1_2]; rfl) | (rw [k1_3]; rfl) | (rw [k1_4]; rfl) | (rw [k1_5]; rfl) | (rw [if_neg k1_0, if_neg (show ¬ k = nI 1 from k1_1), if_neg (show ¬ k = nI 2 from k1_2), if_neg (show ¬ k = nI 3 from k1_3), if_neg (show ¬ k = nI 4 from k1_4), if_neg (show ¬ k = nI 5 from k1_5)])
    exact g_iret F hr rfl (Nat.le_of_ble_eq_true rfl) (Nat.le_of_ble_eq_true rfl) dX2_count_64 (fun h hs => by rw [← hT]; exact ⟨congrArg (fun z => some (Value.int z)) hv, hs⟩)
  by_cases k1_5 : k = 5
  · refine g_tabIn F (x := k) (v := 5) k1_5 (lo := 0) dX2_count_1 (j := 5) (by decide) (by decide) (by decide) rfl (np := 65) (by decide) ?_
    refine g_aload_n F dX2_count_65 rfl rfl (np := 66) rfl ?_
    refine h_get F (k := 36) (v := .int (nI (σ.1 36))) (by decide) rfl q1582 dX2_count_66 (np := 69) rfl ?_
    have hv : nI (σ.1 36) = rCount σ k := by unfold rCount; first | (rw [if_pos k1_0]; done) | (rw [k1_1]; rfl) | (rw [k1_2]; rfl) | (rw [k1_3]; rfl) | (rw [k1_4]; rfl) | (rw [k1_5]; rfl) | (rw [if_neg k1_0, if_neg (show ¬ k = nI 1 from k1_1), if_neg (show ¬ k = nI 2 from k1_2), if_neg (show ¬ k = nI 3 from k1_3), if_neg (show ¬ k = nI 4 from k1_4), if_neg (show ¬ k = nI 5 from k1_5)])
    exact g_iret F hr rfl (Nat.le_of_ble_eq_true rfl) (Nat.le_of_ble_eq_true rfl) dX2_count_69 (fun h hs => by rw [← hT]; exact ⟨congrArg (fun z => some (Value.int z)) hv, hs⟩)
  refine g_tabOut F (x := k) dX2_count_1 (by
    have e0 : ¬ (k).toInt = 0 := fun q => k1_0 (Int32.toInt_inj.mp (q.trans (by decide)))
    have e1 : ¬ (k).toInt = 1 := fun q => k1_1 (Int32.toInt_inj.mp (q.trans (by decide)))
    have e2 : ¬ (k).toInt = 2 := fun q => k1_2 (Int32.toInt_inj.mp (q.trans (by decide)))
    have e3 : ¬ (k).toInt = 3 := fun q => k1_3 (Int32.toInt_inj.mp (q.trans (by decide)))
    have e4 : ¬ (k).toInt = 4 := fun q => k1_4 (Int32.toInt_inj.mp (q.trans (by decide)))
    have e5 : ¬ (k).toInt = 5 := fun q => k1_5 (Int32.toInt_inj.mp (q.trans (by decide)))
    omega) (np := 70) (by decide) ?_
  refine g_iconst F (v := (-1)) dX2_count_70 (by decide) (np := 71) rfl ?_
  have hv : -1 = rCount σ k := by unfold rCount; first | (rw [if_pos k1_0]; done) | (rw [k1_1]; rfl) | (rw [k1_2]; rfl) | (rw [k1_3]; rfl) | (rw [k1_4]; rfl) | (rw [k1_5]; rfl) | (rw [if_neg k1_0, if_neg (show ¬ k = nI 1 from k1_1), if_neg (show ¬ k = nI 2 from k1_2), if_neg (show ¬ k = nI 3 from k1_3), if_neg (show ¬ k = nI 4 from k1_4), if_neg (show ¬ k = nI 5 from k1_5)])
  exact g_iret F hr rfl (Nat.le_of_ble_eq_true rfl) (Nat.le_of_ble_eq_true rfl) dX2_count_71 (fun h hs => by rw [← hT]; exact ⟨congrArg (fun z => some (Value.int z)) hv, hs⟩)

set_option maxRecDepth 100000 in
theorem ct_X2_above {l : Launch} {D : va_G} {E : State → Prop} {B : Nat} (hE : Stab E) {S : AH → Prop}  (k : Nat) (hk : k ≤ 7) : Ct l D E B yX2_above cX2_above 1 (some .int) 0 0 0 0 [.int (nI k)] (S) (RI (nI (abv k)) (S)) := by
  refine Ct.of (nL := 1) (lv := [some (.int (nI k))]) (by decide) (Nat.le_of_ble_eq_true rfl) hE 0 rfl ?_
  generalize hT : RI (nI (abv k)) (S) = T
  intro zp ze zs zm zb zt zc F hr hnm
  generalize ([.int (nI k)] : List Value).toArray = za at F ⊢
  refine g_iload_n F dX2_above_0 rfl rfl (np := 1) rfl ?_
  by_cases k1_3 : (nI (k)) = 3
  · refine g_tabIn F (x := (nI (k))) (v := 3) k1_3 (lo := 3) dX2_above_1 (j := 0) (by decide) (by decide) (by decide) rfl (np := 36) (by decide) ?_
    have e1_3 : k = 3 := (nI_eq (a := k) (b := 3) (by omega) (by decide)).mp (k1_3.trans (by decide))
    refine g_iconst F (v := (nI 2)) dX2_above_36 (by decide) (np := 37) rfl ?_
    have hv : nI (2) = nI (abv k) := congrArg nI (by unfold abv; first | (subst e1_3; rfl) | (subst e1_4; rfl) | (subst e1_5; rfl) | (subst e1_6; rfl) | (subst e1_7; rfl) | (rw [if_neg (by omega), if_neg (by omega), if_neg (by omega), if_neg (by omega)]))
    exact g_iret F hr rfl (Nat.le_of_ble_eq_true rfl) (Nat.le_of_ble_eq_true rfl) dX2_above_37 (fun h hs => by rw [← hT]; exact ⟨congrArg (fun z => some (Value.int z)) hv, hs⟩)
  by_cases k1_4 : (nI (k)) = 4
  · refine g_tabIn F (x := (nI (k))) (v := 4) k1_4 (lo := 3) dX2_above_1 (j := 1) (by decide) (by decide) (by decide) rfl (np := 38) (by decide) ?_
    have e1_4 : k = 4 := (nI_eq (a := k) (b := 4) (by omega) (by decide)).mp (k1_4.trans (by decide))
    refine g_iconst F (v := (nI 1)) dX2_above_38 (by decide) (np := 39) rfl ?_
    have hv : nI (1) = nI (abv k) := congrArg nI (by unfold abv; first | (subst e1_3; rfl) | (subst e1_4; rfl) | (subst e1_5; rfl) | (subst e1_6; rfl) | (subst e1_7; rfl) | (rw [if_neg (by omega), if_neg (by omega), if_neg (by omega), if_neg (by omega)]))
    exact g_iret F hr rfl (Nat.le_of_ble_eq_true rfl) (Nat.le_of_ble_eq_true rfl) dX2_above_39 (fun h hs => by rw [← hT]; exact ⟨congrArg (fun z => some (Value.int z)) hv, hs⟩)
  by_cases k1_5 : (nI (k)) = 5
  · refine g_tabIn F (x := (nI (k))) (v := 5) k1_5 (lo := 3) dX2_above_1 (j := 2) (by decide) (by decide) (by decide) rfl (np := 40) (by decide) ?_
    have e1_5 : k = 5 := (nI_eq (a := k) (b := 5) (by omega) (by decide)).mp (k1_5.trans (by decide))
    refine g_iconst F (v := (nI 3)) dX2_above_40 (by decide) (np := 41) rfl ?_
    have hv : nI (3) = nI (abv k) := congrArg nI (by unfold abv; first | (subst e1_3; rfl) | (subst e1_4; rfl) | (subst e1_5; rfl) | (subst e1_6; rfl) | (subst e1_7; rfl) | (rw [if_neg (by omega), if_neg (by omega), if_neg (by omega), if_neg (by omega)]))
    exact g_iret F hr rfl (Nat.le_of_ble_eq_true rfl) (Nat.le_of_ble_eq_true rfl) dX2_above_41 (fun h hs => by rw [← hT]; exact ⟨congrArg (fun z => some (Value.int z)) hv, hs⟩)
  by_cases k1_6 : (nI (k)) = 6
  · refine g_tabIn F (x := (nI (k))) (v := 6) k1_6 (lo := 3) dX2_above_1 (j := 3) (by decide) (by decide) (by decide) rfl (np := 44) (by decide) ?_
    have e1_6 : k = 6 := (nI_eq (a := k) (b := 6) (by omega) (by decide)).mp (k1_6.trans (by decide))
    refine g_iconst F (v := (nI 0)) dX2_above_44 (by decide) (np := 45) rfl ?_
    have hv : nI (0) = nI (abv k) := congrArg nI (by unfold abv; first | (subst e1_3; rfl) | (subst e1_4; rfl) | (subst e1_5; rfl) | (subst e1_6; rfl) | (subst e1_7; rfl) | (rw [if_neg (by omega), if_neg (by omega), if_neg (by omega), if_neg (by omega)]))
    exact g_iret F hr rfl (Nat.le_of_ble_eq_true rfl) (Nat.le_of_ble_eq_true rfl) dX2_above_45 (fun h hs => by rw [← hT]; exact ⟨congrArg (fun z => some (Value.int z)) hv, hs⟩)
  by_cases k1_7 : (nI (k)) = 7
  · refine g_tabIn F (x := (nI (k))) (v := 7) k1_7 (lo := 3) dX2_above_1 (j := 4) (by decide) (by decide) (by decide) rfl (np := 42) (by decide) ?_
    have e1_7 : k = 7 := (nI_eq (a := k) (b := 7) (by omega) (by decide)).mp (k1_7.trans (by decide))
    refine g_iconst F (v := (nI 4)) dX2_above_42 (by decide) (np := 43) rfl ?_
    have hv : nI (4) = nI (abv k) := congrArg nI (by unfold abv; first | (subst e1_3; rfl) | (subst e1_4; rfl) | (subst e1_5; rfl) | (subst e1_6; rfl) | (subst e1_7; rfl) | (rw [if_neg (by omega), if_neg (by omega), if_neg (by omega), if_neg (by omega)]))
    exact g_iret F hr rfl (Nat.le_of_ble_eq_true rfl) (Nat.le_of_ble_eq_true rfl) dX2_above_43 (fun h hs => by rw [← hT]; exact ⟨congrArg (fun z => some (Value.int z)) hv, hs⟩)
  have n1_3 : ¬ k = 3 := fun q => k1_3 (by rw [q]; decide)
  have n1_4 : ¬ k = 4 := fun q => k1_4 (by rw [q]; decide)
  have n1_5 : ¬ k = 5 := fun q => k1_5 (by rw [q]; decide)
  have n1_6 : ¬ k = 6 := fun q => k1_6 (by rw [q]; decide)
  have n1_7 : ¬ k = 7 := fun q => k1_7 (by rw [q]; decide)
  refine g_tabOut F (x := (nI (k))) dX2_above_1 (by
    have e3 : ¬ ((nI (k))).toInt = 3 := fun q => k1_3 (Int32.toInt_inj.mp (q.trans (by decide)))
    have e4 : ¬ ((nI (k))).toInt = 4 := fun q => k1_4 (Int32.toInt_inj.mp (q.trans (by decide)))
    have e5 : ¬ ((nI (k))).toInt = 5 := fun q => k1_5 (Int32.toInt_inj.mp (q.trans (by decide)))
    have e6 : ¬ ((nI (k))).toInt = 6 := fun q => k1_6 (Int32.toInt_inj.mp (q.trans (by decide)))
    have e7 : ¬ ((nI (k))).toInt = 7 := fun q => k1_7 (Int32.toInt_inj.mp (q.trans (by decide)))
    omega) (np := 44) (by decide) ?_
  refine g_iconst F (v := (nI 0)) dX2_above_44 (by decide) (np := 45) rfl ?_
  have hv : nI (0) = nI (abv k) := congrArg nI (by unfold abv; first | (subst e1_3; rfl) | (subst e1_4; rfl) | (subst e1_5; rfl) | (subst e1_6; rfl) | (subst e1_7; rfl) | (rw [if_neg (by omega), if_neg (by omega), if_neg (by omega), if_neg (by omega)]))
  exact g_iret F hr rfl (Nat.le_of_ble_eq_true rfl) (Nat.le_of_ble_eq_true rfl) dX2_above_45 (fun h hs => by rw [← hT]; exact ⟨congrArg (fun z => some (Value.int z)) hv, hs⟩)

set_option maxRecDepth 100000 in
theorem ct_X2_body {l : Launch} {D : va_G} {E : State → Prop} {B : Nat} (hE : Stab E) {ad : Nat → Nat} {h0 : AH} (σ : MSt)  (k : Int32) (hnb : σ.1 34 ≤ 50) : Ct l D E B yX2_body cX2_body 2 (some .int) 1 22 0 0 [.ref (ad 0), .int k] (MH D ad h0 σ) (RI (rBody σ k) (MH D ad h0 (gBody σ k))) := by
  refine Ct.of (nL := 2) (lv := [some (.ref (ad 0)), some (.int k)]) (by decide) (Nat.le_of_ble_eq_true rfl) hE 0 rfl ?_
  generalize hT : RI (rBody σ k) (MH D ad h0 (gBody σ k)) = T
  intro zp ze zs zm zb zt zc F hr hnm
  generalize ([.ref (ad 0), .int k] : List Value).toArray = za at F ⊢
  refine g_iload_n F dX2_body_0 rfl rfl (np := 1) rfl ?_
  refine g_iconst F (v := (nI 0)) dX2_body_1 (by decide) (np := 2) rfl ?_
  refine g_bipush F (v := (nI 7)) dX2_body_2 (by decide) (np := 4) rfl ?_
  refine g_runS F (rest := []) (ct_X2_within hE k (nI (0)) (nI (7)) ) (lw_S q1677 q1678 q102 q1679) hcS_X2_within ⟨Nat.le_of_ble_eq_true rfl, Nat.le_of_ble_eq_true rfl⟩ rfl rfl (Nat.le_of_ble_eq_true rfl) dX2_body_4 ⟨Nat.le_of_ble_eq_true rfl, Nat.le_of_ble_eq_true rfl⟩ (np := 7) rfl (k_RI ?_)
  refine g_if_neB F dX2_body_7 (tp := 12) (by decide) (np := 10) rfl (fun c7 => ?_) (fun c7 => ?_)
  · refine g_aload_n F dX2_body_12 rfl rfl (np := 13) rfl ?_
    refine h_get F (k := 34) (v := .int (nI (σ.1 34))) (by decide) rfl q1580 dX2_body_13 (np := 16) rfl ?_
    refine g_bipush F (v := (nI 50)) dX2_body_16 (by decide) (np := 18) rfl ?_
    refine g_icmp_neN F (by omega) (by decide) dX2_body_18 (tp := 24) (by decide) (np := 21) rfl (fun c18 => ?_) (fun c18 => ?_)
    · refine g_aload_n F dX2_body_24 rfl rfl (np := 25) rfl ?_
      refine h_get F (k := 35) (v := .ref (ad 35)) (by decide) rfl q1581 dX2_body_25 (np := 28) rfl ?_
      refine g_aload_n F dX2_body_28 rfl rfl (np := 29) rfl ?_
      refine h_get F (k := 34) (v := .int (nI (σ.1 34))) (by decide) rfl q1580 dX2_body_29 (np := 32) rfl ?_
      refine g_iload_n F dX2_body_32 rfl rfl (np := 33) rfl ?_
      refine h_ast F (k := 35) (i := σ.1 34) (L := 50) rfl rfl (by decide) (by omega) rfl dX2_body_33 (by decide) (by decide) (np := 34) rfl ?_
      refine g_aload_n F dX2_body_34 rfl rfl (np := 35) rfl ?_
      refine g_dup F dX2_body_35 rfl (np := 36) rfl ?_
      refine h_get F (k := 34) (v := .int (nI (σ.1 34))) (by decide) rfl q1580 dX2_body_36 (np := 39) rfl ?_
      refine g_dup_x1 F dX2_body_39 rfl rfl (np := 40) rfl ?_
      refine g_iconst F (v := (nI 1)) dX2_body_40 (by decide) (np := 41) rfl ?_
      refine g_iaddN F dX2_body_41 (np := 42) rfl ?_
      refine h_put F (k := 34) (n := (σ.1 34) + 1) (ty := .int) rfl (by decide) (mset_34 _ _ _) rfl rfl rfl rfl q1580 dX2_body_42 (np := 45) rfl ?_
      have hσ : (sN (sA σ 35 (σ.1 34) k) 34 ((σ.1 34) + 1)) = (gBody σ k) := by unfold gBody; rw [pif_t ⟨bt7.mp c7, c18⟩]
      have hv : nI (σ.1 34) = rBody σ k := by unfold rBody; rw [pif_t (bt7.mp c7), if_neg c18]
      exact g_iret F hr rfl (Nat.le_of_ble_eq_true rfl) (Nat.le_of_ble_eq_true rfl) dX2_body_45 (fun h hs => by rw [← hT]; exact ⟨congrArg (fun z => some (Value.int z)) hv, (hσ ▸ hs)⟩)
    · refine g_bipush F (v := (-3)) dX2_body_21 (by decide) (np := 23) rfl ?_
      have hσ : σ = (gBody σ k) := by unfold gBody; rw [pif_f (fun z => z.2 c18)]
      have hv : -3 = rBody σ k := by unfold rBody; rw [pif_t (bt7.mp c7), if_pos c18]
      exact g_iret F hr rfl (Nat.le_of_ble_eq_true rfl) (Nat.le_of_ble_eq_true rfl) dX2_body_23 (fun h hs => by rw [← hT]; exact ⟨congrArg (fun z => some (Value.int z)) hv, (hσ ▸ hs)⟩)
  · refine g_iconst F (v := (-1)) dX2_body_10 (by decide) (np := 11) rfl ?_
    have hσ : σ = (gBody σ k) := by unfold gBody; rw [pif_f (fun z => c7 (bt7.mpr z.1))]
    have hv : -1 = rBody σ k := by unfold rBody; rw [pif_f (fun z => c7 (bt7.mpr z))]
    exact g_iret F hr rfl (Nat.le_of_ble_eq_true rfl) (Nat.le_of_ble_eq_true rfl) dX2_body_11 (fun h hs => by rw [← hT]; exact ⟨congrArg (fun z => some (Value.int z)) hv, (hσ ▸ hs)⟩)

set_option maxRecDepth 100000 in
theorem ct_X2_trace {l : Launch} {D : va_G} {E : State → Prop} {B : Nat} (hE : Stab E) {ad : Nat → Nat} {h0 : AH} (σ : MSt)  (i : Int32) (htr : σ.1 36 < 2 ^ 30) : Ct l D E B yX2_trace cX2_trace 2 (some .int) 1 22 0 0 [.ref (ad 0), .int i] (MH D ad h0 σ) (RI (rTrace σ i) (MH D ad h0 σ)) := by
  refine Ct.of (nL := 2) (lv := [some (.ref (ad 0)), some (.int i)]) (by decide) (Nat.le_of_ble_eq_true rfl) hE 0 rfl ?_
  generalize hT : RI (rTrace σ i) (MH D ad h0 σ) = T
  intro zp ze zs zm zb zt zc F hr hnm
  generalize ([.ref (ad 0), .int i] : List Value).toArray = za at F ⊢
  refine g_iload_n F dX2_trace_0 rfl rfl (np := 1) rfl ?_
  refine g_iconst F (v := (nI 0)) dX2_trace_1 (by decide) (np := 2) rfl ?_
  refine g_bipush F (v := (nI 24)) dX2_trace_2 (by decide) (np := 4) rfl ?_
  refine g_aload_n F dX2_trace_4 rfl rfl (np := 5) rfl ?_
  refine h_get F (k := 36) (v := .int (nI (σ.1 36))) (by decide) rfl q1582 dX2_trace_5 (np := 8) rfl ?_
  refine g_min F (rest := [.int (nI 0), .int i]) q1831 (by decide) (by decide) (Nat.le_of_ble_eq_true rfl) (Nat.le_of_ble_eq_true rfl) dX2_trace_8 (np := 11) rfl ?_
  refine WG.eqv (st' := [.int (nI (min 24 (σ.1 36))), .int (nI 0), .int i]) (congrArg (fun z => ([.int z, .int (nI 0), .int i] : List Value)) (show (jmin (nI (24)) (nI (σ.1 36))) = (nI (min 24 (σ.1 36))) from by exact jmin_N (by decide) (by omega))) rfl ?_
  refine g_iconst F (v := (nI 1)) dX2_trace_11 (by decide) (np := 12) rfl ?_
  refine g_isub F dX2_trace_12 (np := 13) rfl ?_
  refine g_runS F (rest := []) (ct_X2_within hE i (nI (0)) ((nI (min 24 (σ.1 36))) - (nI (1))) ) (lw_S q1677 q1678 q102 q1679) hcS_X2_within ⟨Nat.le_of_ble_eq_true rfl, Nat.le_of_ble_eq_true rfl⟩ rfl rfl (Nat.le_of_ble_eq_true rfl) dX2_trace_13 ⟨Nat.le_of_ble_eq_true rfl, Nat.le_of_ble_eq_true rfl⟩ (np := 16) rfl (k_RI ?_)
  refine g_if_eqB F dX2_trace_16 (tp := 28) (by decide) (np := 19) rfl (fun c16 => ?_) (fun c16 => ?_)
  · refine g_iconst F (v := (-1)) dX2_trace_28 (by decide) (np := 29) rfl ?_
    have hv : -1 = rTrace σ i := by unfold rTrace; first | (rw [pif_f (fun z => c16 ((bt_n1 (by omega)).mpr z))]; done) | (rw [pif_t hi]; done)
    exact g_iret F hr rfl (Nat.le_of_ble_eq_true rfl) (Nat.le_of_ble_eq_true rfl) dX2_trace_29 (fun h hs => by rw [← hT]; exact ⟨congrArg (fun z => some (Value.int z)) hv, hs⟩)
  · have hi := (bt_n1 (by omega)).mp c16
    obtain ⟨hil, hie⟩ := inN_cl (by omega) hi
    refine WG.eqv (lv' := [some (.ref (ad 0)), some (.int (nI (i.toNatClampNeg)))]) rfl (congrArg (fun z => ([some (.ref (ad 0)), some (.int z)] : List (Option Value))) (show i = (nI (i.toNatClampNeg)) from by exact hie)) ?_
    refine g_aload_n F dX2_trace_19 rfl rfl (np := 20) rfl ?_
    refine h_get F (k := 37) (v := .ref (ad 37)) (by decide) rfl q1583 dX2_trace_20 (np := 23) rfl ?_
    refine g_iload_n F dX2_trace_23 rfl rfl (np := 24) rfl ?_
    refine h_ald F (k := 37) (i := i.toNatClampNeg) (L := 24) (v := σ.2.1 37 i.toNatClampNeg) rfl rfl (by decide) (by omega) rfl rfl dX2_trace_24 (by decide) (by decide) (np := 25) rfl ?_
    refine g_goto F dX2_trace_25 (np := 29) (by decide) ?_
    have hv : σ.2.1 37 i.toNatClampNeg = rTrace σ i := by unfold rTrace; first | (rw [pif_f (fun z => c16 ((bt_n1 (by omega)).mpr z))]; done) | (rw [pif_t hi]; done)
    exact g_iret F hr rfl (Nat.le_of_ble_eq_true rfl) (Nat.le_of_ble_eq_true rfl) dX2_trace_29 (fun h hs => by rw [← hT]; exact ⟨congrArg (fun z => some (Value.int z)) hv, hs⟩)

set_option maxRecDepth 100000 in
theorem ct_X2_taken {l : Launch} {D : va_G} {E : State → Prop} {B : Nat} (hE : Stab E) {ad : Nat → Nat} {h0 : AH} (σ : MSt)  (i : Int32) (k : Int32) (hho : hoOK σ) (hbo : boOK σ) : Ct l D E B yX2_taken cX2_taken 5 (some .int) 2 43 0 0 [.ref (ad 0), .int i, .int k] (MH D ad h0 σ) (RI (rTaken σ i k) (MH D ad h0 σ)) := by
  refine Ct.of (nL := 5) (lv := [some (.ref (ad 0)), some (.int i), some (.int k), none, none]) (by decide) (Nat.le_of_ble_eq_true rfl) hE 2 rfl ?_
  generalize hT : RI (rTaken σ i k) (MH D ad h0 σ) = T
  intro zp ze zs zm zb zt zc F hr hnm
  generalize ([.ref (ad 0), .int i, .int k] : List Value).toArray = za at F ⊢
  refine g_iload_n F dX2_taken_0 rfl rfl (np := 1) rfl ?_
  refine g_runS F (rest := []) (ct_X2_isShelf hE i ) (lw_S q1704 q1705 q102 q1706) hcS_X2_isShelf ⟨Nat.le_of_ble_eq_true rfl, Nat.le_of_ble_eq_true rfl⟩ rfl rfl (Nat.le_of_ble_eq_true rfl) dX2_taken_1 ⟨Nat.le_of_ble_eq_true rfl, Nat.le_of_ble_eq_true rfl⟩ (np := 4) rfl (k_RI ?_)
  refine g_if_eqB F dX2_taken_4 (tp := 17) (by decide) (np := 7) rfl (fun c4 => ?_) (fun c4 => ?_)
  · refine g_iconst F (v := (-1)) dX2_taken_17 (by decide) (np := 18) rfl ?_
    have hv : -1 = rTaken σ i k := by unfold rTaken; first | (rw [pif_f (fun z => c4 z.1)]; done) | (rw [pif_f (fun z => c14 (bt7.mpr z.2))]; done)
    exact g_iret F hr rfl (Nat.le_of_ble_eq_true rfl) (Nat.le_of_ble_eq_true rfl) dX2_taken_18 (fun h hs => by rw [← hT]; exact ⟨congrArg (fun z => some (Value.int z)) hv, hs⟩)
  · obtain ⟨hil, hie⟩ := inN_cl (by decide) c4
    refine WG.eqv (lv' := [some (.ref (ad 0)), some (.int (nI (i.toNatClampNeg))), some (.int k), none, none]) rfl (congrArg (fun z => ([some (.ref (ad 0)), some (.int z), some (.int k), none, none] : List (Option Value))) (show i = (nI (i.toNatClampNeg)) from by exact hie)) ?_
    refine g_iload_n F dX2_taken_7 rfl rfl (np := 8) rfl ?_
    refine g_iconst F (v := (nI 0)) dX2_taken_8 (by decide) (np := 9) rfl ?_
    refine g_bipush F (v := (nI 7)) dX2_taken_9 (by decide) (np := 11) rfl ?_
    refine g_runS F (rest := []) (ct_X2_within hE k (nI (0)) (nI (7)) ) (lw_S q1677 q1678 q102 q1679) hcS_X2_within ⟨Nat.le_of_ble_eq_true rfl, Nat.le_of_ble_eq_true rfl⟩ rfl rfl (Nat.le_of_ble_eq_true rfl) dX2_taken_11 ⟨Nat.le_of_ble_eq_true rfl, Nat.le_of_ble_eq_true rfl⟩ (np := 14) rfl (k_RI ?_)
    refine g_if_neB F dX2_taken_14 (tp := 19) (by decide) (np := 17) rfl (fun c14 => ?_) (fun c14 => ?_)
    · have hk8 := bt7.mp c14
      obtain ⟨hkl, hke⟩ := inN_cl (by decide) hk8
      refine WG.eqv (lv' := [some (.ref (ad 0)), some (.int (nI (i.toNatClampNeg))), some (.int (nI (k.toNatClampNeg))), none, none]) rfl (congrArg (fun z => ([some (.ref (ad 0)), some (.int (nI (i.toNatClampNeg))), some (.int z), none, none] : List (Option Value))) (show k = (nI (k.toNatClampNeg)) from by exact hke)) ?_
      refine g_aload_n F dX2_taken_19 rfl rfl (np := 20) rfl ?_
      refine h_get F (k := 38) (v := .ref (ad 38)) (by decide) rfl q1584 dX2_taken_20 (np := 23) rfl ?_
      refine g_iload_n F dX2_taken_23 rfl rfl (np := 24) rfl ?_
      refine h_ald F (k := 38) (i := i.toNatClampNeg) (L := 6) (v := σ.2.1 38 i.toNatClampNeg) rfl rfl (by decide) (by omega) rfl rfl dX2_taken_24 (by decide) (by decide) (np := 25) rfl ?_
      refine g_iconst F (v := (-1)) dX2_taken_25 (by decide) (np := 26) rfl ?_
      refine g_icmp_ne F dX2_taken_26 (tp := 32) (by decide) (np := 29) rfl (fun c26 => ?_) (fun c26 => ?_)
      · refine g_aload_n F dX2_taken_32 rfl rfl (np := 33) rfl ?_
        refine g_iload_n F dX2_taken_33 rfl rfl (np := 34) rfl ?_
        refine g_runV F (C := RX2) (ci := 2) (T0 := TX2) (N := 42) (rest := []) (ct_X2_isRow hE σ i.toNatClampNeg (by first | assumption | omega)) (lw_V q2022 q2024 qs98 q102 q2025) hcV_X2_isRow ⟨Nat.le_of_ble_eq_true rfl, Nat.le_of_ble_eq_true rfl⟩ rfl (fun h hs => hs.obj) rfl rfl (Nat.le_of_ble_eq_true rfl) dX2_taken_34 ⟨Nat.le_of_ble_eq_true rfl, Nat.le_of_ble_eq_true rfl⟩ (np := 37) rfl (k_RI ?_)
        refine g_if_eqB F dX2_taken_37 (tp := 43) (by decide) (np := 40) rfl (fun c37 => ?_) (fun c37 => ?_)
        · obtain ⟨bb, hb1, hb2⟩ := ((hho _ hil).resolve_left c26).resolve_left c37
          obtain ⟨kd, hkd, ekd⟩ := hbo.2 bb hb1
          have hb50 := hbo.1
          refine g_aload_n F dX2_taken_43 rfl rfl (np := 44) rfl ?_
          refine h_get F (k := 35) (v := .ref (ad 35)) (by decide) rfl q1581 dX2_taken_44 (np := 47) rfl ?_
          refine g_aload_n F dX2_taken_47 rfl rfl (np := 48) rfl ?_
          refine h_get F (k := 38) (v := .ref (ad 38)) (by decide) rfl q1584 dX2_taken_48 (np := 51) rfl ?_
          refine g_iload_n F dX2_taken_51 rfl rfl (np := 52) rfl ?_
          refine h_ald F (k := 38) (i := i.toNatClampNeg) (L := 6) (v := σ.2.1 38 i.toNatClampNeg) rfl rfl (by decide) (by omega) rfl rfl dX2_taken_52 (by decide) (by decide) (np := 53) rfl ?_
          refine WG.eqv (st' := [.int (nI (10 + bb)), .ref (ad 35)]) (congrArg (fun z => ([.int z, .ref (ad 35)] : List Value)) (show (σ.2.1 38 i.toNatClampNeg) = (nI (10 + bb)) from by exact hb2)) rfl ?_
          refine g_bipush F (v := (nI 10)) dX2_taken_53 (by decide) (np := 55) rfl ?_
          refine g_isubN F (by omega) dX2_taken_55 (np := 56) rfl ?_
          refine WG.eqv (st' := [.int (nI bb), .ref (ad 35)]) (congrArg (fun z => ([.int z, .ref (ad 35)] : List Value)) (show (nI ((10 + bb) - 10)) = (nI bb) from by exact congrArg nI (Nat.add_sub_cancel_left _ _))) rfl ?_
          refine h_ald F (k := 35) (i := bb) (L := 50) (v := σ.2.1 35 bb) rfl rfl (by decide) (by omega) rfl rfl dX2_taken_56 (by decide) (by decide) (np := 57) rfl ?_
          refine WG.eqv (st' := [.int (nI kd)]) (congrArg (fun z => ([.int z] : List Value)) (show (σ.2.1 35 bb) = (nI kd) from by exact ekd)) rfl ?_
          refine g_istore_n F (lv' := [some (.ref (ad 0)), some (.int (nI (i.toNatClampNeg))), some (.int (nI (k.toNatClampNeg))), some (.int (nI kd)), none]) dX2_taken_57 rfl (by decide) rfl rfl (np := 58) rfl ?_
          refine g_iload_n F dX2_taken_58 rfl rfl (np := 59) rfl ?_
          refine g_istore F (lv' := [some (.ref (ad 0)), some (.int (nI (i.toNatClampNeg))), some (.int (nI (k.toNatClampNeg))), some (.int (nI kd)), some (.int (nI kd))]) dX2_taken_59 (by decide) rfl rfl (np := 61) rfl ?_
          have L61 : ∀ (zn : Nat) (u : Nat), (u ≤ 7) → (isUp u k.toNatClampNeg ↔ isUp kd k.toNatClampNeg) → rk u < zn → WG zp l ze ({ frames := 2, cells := 0, slots := 0, locals := 43 } : Room) zs zm za zb zt zc D B 5 (MQ zb (QT D B T) za zs 0 0 (zA B)) (MH D ad h0 σ) 0 0 61 [some (.ref (ad 0)), some (.int (nI (i.toNatClampNeg))), some (.int (nI (k.toNatClampNeg))), some (.int (nI kd)), some (.int (nI u))] [] := by
            intro zn
            induction zn with
            | zero => intro u h1 h2 hm; exact absurd hm (Nat.not_lt_zero _)
            | succ zn ih61 =>
              intro u h1 h2 hm
              refine g_iload F dX2_taken_61 rfl (np := 63) rfl ?_
              refine g_iload_n F dX2_taken_63 rfl rfl (np := 64) rfl ?_
              refine g_icmp_eqN F (by omega) (by omega) dX2_taken_64 (tp := 82) (by decide) (np := 67) rfl (fun c64 => ?_) (fun c64 => ?_)
              · refine g_iload F dX2_taken_82 rfl (np := 84) rfl ?_
                refine g_iload_n F dX2_taken_84 rfl rfl (np := 85) rfl ?_
                refine g_icmp_neN F (by omega) (by omega) dX2_taken_85 (tp := 92) (by decide) (np := 88) rfl (fun c85 => ?_) (fun c85 => ?_)
                · refine g_bipush F (v := (-12)) dX2_taken_92 (by decide) (np := 94) rfl ?_
                  have hv : -12 = rTaken σ i k := by first | exact absurd c64 c85 | (unfold rTaken; rw [pif_t ⟨c4, hk8⟩, if_neg c26, pif_f c37, hb2, nI_clamp (by omega), Nat.add_sub_cancel_left, ekd, nI_clamp (by omega)]; first | (rw [pif_t (h2.mp (by rw [‹u = k.toNatClampNeg›]; exact isUp_r))]; done) | (have hu : u = 0 := (nI_le0 (by omega)).mp c69; rw [pif_f (fun z => isUp_0 (fun q => c85 (by rw [hu]; exact q)) (show isUp 0 k.toNatClampNeg by have := h2.mpr z; rwa [hu] at this))]; done))
                  exact g_iret F hr rfl (Nat.le_of_ble_eq_true rfl) (Nat.le_of_ble_eq_true rfl) dX2_taken_94 (fun h hs => by rw [← hT]; exact ⟨congrArg (fun z => some (Value.int z)) hv, hs⟩)
                · refine g_iload_n F dX2_taken_88 rfl rfl (np := 89) rfl ?_
                  refine g_goto F dX2_taken_89 (np := 94) (by decide) ?_
                  have hv : nI (kd) = rTaken σ i k := by first | exact absurd c64 c85 | (unfold rTaken; rw [pif_t ⟨c4, hk8⟩, if_neg c26, pif_f c37, hb2, nI_clamp (by omega), Nat.add_sub_cancel_left, ekd, nI_clamp (by omega)]; first | (rw [pif_t (h2.mp (by rw [‹u = k.toNatClampNeg›]; exact isUp_r))]; done) | (have hu : u = 0 := (nI_le0 (by omega)).mp c69; rw [pif_f (fun z => isUp_0 (fun q => c85 (by rw [hu]; exact q)) (show isUp 0 k.toNatClampNeg by have := h2.mpr z; rwa [hu] at this))]; done))
                  exact g_iret F hr rfl (Nat.le_of_ble_eq_true rfl) (Nat.le_of_ble_eq_true rfl) dX2_taken_94 (fun h hs => by rw [← hT]; exact ⟨congrArg (fun z => some (Value.int z)) hv, hs⟩)
              · refine g_iload F dX2_taken_67 rfl (np := 69) rfl ?_
                refine g_if_le F dX2_taken_69 (tp := 82) (by decide) (np := 72) rfl (fun c69 => ?_) (fun c69 => ?_)
                · refine g_iload F dX2_taken_82 rfl (np := 84) rfl ?_
                  refine g_iload_n F dX2_taken_84 rfl rfl (np := 85) rfl ?_
                  refine g_icmp_neN F (by omega) (by omega) dX2_taken_85 (tp := 92) (by decide) (np := 88) rfl (fun c85 => ?_) (fun c85 => ?_)
                  · refine g_bipush F (v := (-12)) dX2_taken_92 (by decide) (np := 94) rfl ?_
                    have hv : -12 = rTaken σ i k := by first | exact absurd c64 c85 | (unfold rTaken; rw [pif_t ⟨c4, hk8⟩, if_neg c26, pif_f c37, hb2, nI_clamp (by omega), Nat.add_sub_cancel_left, ekd, nI_clamp (by omega)]; first | (rw [pif_t (h2.mp (by rw [‹u = k.toNatClampNeg›]; exact isUp_r))]; done) | (have hu : u = 0 := (nI_le0 (by omega)).mp c69; rw [pif_f (fun z => isUp_0 (fun q => c85 (by rw [hu]; exact q)) (show isUp 0 k.toNatClampNeg by have := h2.mpr z; rwa [hu] at this))]; done))
                    exact g_iret F hr rfl (Nat.le_of_ble_eq_true rfl) (Nat.le_of_ble_eq_true rfl) dX2_taken_94 (fun h hs => by rw [← hT]; exact ⟨congrArg (fun z => some (Value.int z)) hv, hs⟩)
                  · refine g_iload_n F dX2_taken_88 rfl rfl (np := 89) rfl ?_
                    refine g_goto F dX2_taken_89 (np := 94) (by decide) ?_
                    have hv : nI (kd) = rTaken σ i k := by first | exact absurd c64 c85 | (unfold rTaken; rw [pif_t ⟨c4, hk8⟩, if_neg c26, pif_f c37, hb2, nI_clamp (by omega), Nat.add_sub_cancel_left, ekd, nI_clamp (by omega)]; first | (rw [pif_t (h2.mp (by rw [‹u = k.toNatClampNeg›]; exact isUp_r))]; done) | (have hu : u = 0 := (nI_le0 (by omega)).mp c69; rw [pif_f (fun z => isUp_0 (fun q => c85 (by rw [hu]; exact q)) (show isUp 0 k.toNatClampNeg by have := h2.mpr z; rwa [hu] at this))]; done))
                    exact g_iret F hr rfl (Nat.le_of_ble_eq_true rfl) (Nat.le_of_ble_eq_true rfl) dX2_taken_94 (fun h hs => by rw [← hT]; exact ⟨congrArg (fun z => some (Value.int z)) hv, hs⟩)
                · have hu0 : 0 < u := Nat.pos_of_ne_zero (fun z => c69 ((nI_le0 (by omega)).mpr z))
                  refine g_iload F dX2_taken_72 rfl (np := 74) rfl ?_
                  refine g_runS F (rest := []) (ct_X2_above hE u (by first | assumption | omega)) (lw_S q1991 q1992 q102 q1993) hcS_X2_above ⟨Nat.le_of_ble_eq_true rfl, Nat.le_of_ble_eq_true rfl⟩ rfl rfl (Nat.le_of_ble_eq_true rfl) dX2_taken_74 ⟨Nat.le_of_ble_eq_true rfl, Nat.le_of_ble_eq_true rfl⟩ (np := 77) rfl (k_RI ?_)
                  refine g_istore F (lv' := [some (.ref (ad 0)), some (.int (nI (i.toNatClampNeg))), some (.int (nI (k.toNatClampNeg))), some (.int (nI kd)), some (.int (nI (abv u)))]) dX2_taken_77 (by decide) rfl rfl (np := 79) rfl ?_
                  refine g_goto F dX2_taken_79 (np := 61) (by decide) ?_
                  exact ih61 (abv u) (by exact abv_le h1) (by rw [← h2]; exact (isUp_s h1 hu0 c64).symm) (by have := abv_rk h1 hu0; omega)
          exact L61 _ kd (by exact hkd) (by exact Iff.rfl) (Nat.lt_succ_self _)
        · refine g_bipush F (v := (-12)) dX2_taken_40 (by decide) (np := 42) rfl ?_
          have hv : -12 = rTaken σ i k := by unfold rTaken; rw [pif_t ⟨c4, hk8⟩, if_neg c26, pif_t c37]
          exact g_iret F hr rfl (Nat.le_of_ble_eq_true rfl) (Nat.le_of_ble_eq_true rfl) dX2_taken_42 (fun h hs => by rw [← hT]; exact ⟨congrArg (fun z => some (Value.int z)) hv, hs⟩)
      · refine g_bipush F (v := (-11)) dX2_taken_29 (by decide) (np := 31) rfl ?_
        have hv : -11 = rTaken σ i k := by unfold rTaken; rw [pif_t ⟨c4, hk8⟩, if_pos c26]
        exact g_iret F hr rfl (Nat.le_of_ble_eq_true rfl) (Nat.le_of_ble_eq_true rfl) dX2_taken_31 (fun h hs => by rw [← hT]; exact ⟨congrArg (fun z => some (Value.int z)) hv, hs⟩)
    · refine g_iconst F (v := (-1)) dX2_taken_17 (by decide) (np := 18) rfl ?_
      have hv : -1 = rTaken σ i k := by unfold rTaken; first | (rw [pif_f (fun z => c4 z.1)]; done) | (rw [pif_f (fun z => c14 (bt7.mpr z.2))]; done)
      exact g_iret F hr rfl (Nat.le_of_ble_eq_true rfl) (Nat.le_of_ble_eq_true rfl) dX2_taken_18 (fun h hs => by rw [← hT]; exact ⟨congrArg (fun z => some (Value.int z)) hv, hs⟩)
