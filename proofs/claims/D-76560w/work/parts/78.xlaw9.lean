/-! X: rows on shelves: plain laws, rows -/
set_option maxRecDepth 100000
theorem rowF_at {σ : MSt} {s j : Nat} (h : j < 60) : rowF σ s j = σ.2.2 (60 * s + j) := if_pos h
theorem XH.rowC {D : va_G} {Λ : LT} {I : AH} {L : LawT} {σ : MSt} {h : AH} (hs : XH D Λ I L σ h) {s k : Nat} (hk : rowK σ s = some k) : h (Λ.1 3 s) = some (.inr (24 + k, [.ref (Λ.1 4 s)])) := hs.wc (fun nm km kd => by
  rw [xC_3]
  unfold xc3
  rw [show rowK (hid σ nm km kd) s = some k from (rowK_at (σ := σ) (σ' := hid σ nm km kd) rfl).trans hk])
theorem XH.itemC {D : va_G} {Λ : LT} {I : AH} {L : LawT} {σ : MSt} {h : AH} (hs : XH D Λ I L σ h) {s k : Nat} (hk : rowK σ s = some k) : h (Λ.1 4 s) = some (xItems D σ s k) := hs.wc (fun nm km kd => by
  rw [xC_4]
  unfold xc4
  rw [show rowK (hid σ nm km kd) s = some k from (rowK_at (σ := σ) (σ' := hid σ nm km kd) rfl).trans hk]
  rfl)
theorem rowF_put {σ : MSt} {s j : Nat} (hj : j < 60) (v : Int64) : rowF (sR σ (60 * s + j) v) s = va_up (rowF σ s) j v := by
  funext q
  unfold rowF
  show (if q < 60 then va_up σ.2.2 (60 * s + j) v (60 * s + q) else 0) = _
  by_cases h : q = j
  · subst h
    rw [if_pos hj, va_up_self, va_up_self]
  · rw [va_up_ne _ _ h]
    by_cases g : q < 60
    · rw [if_pos g, if_pos g, va_up_ne _ _ (by omega)]
    · rw [if_neg g, if_neg g]
theorem rowF_else {σ : MSt} {s s' j : Nat} (hj : j < 60) (hn : s' ≠ s) (v : Int64) : rowF (sR σ (60 * s + j) v) s' = rowF σ s' := by
  funext q
  unfold rowF
  show (if q < 60 then va_up σ.2.2 (60 * s + j) v (60 * s' + q) else 0) = _
  by_cases g : q < 60
  · rw [if_pos g, if_pos g, va_up_ne _ _ (by omega)]
  · rw [if_neg g, if_neg g]
theorem xC_L4 (D : va_G) (τ τ' : MSt) (i' : Nat) (h1 : τ'.2.1 = τ.2.1) (h2 : rowF τ' i' = rowF τ i') : xc4 D τ' i' = xc4 D τ i' := by
  unfold xc4 xItems lenN
  rw [h2, rowK_at (σ := τ) (σ' := τ') (i := i') (by rw [h1]), h1]
theorem xC_L (D : va_G) (Λ : LT) (τ τ' : MSt) (h0 : τ'.1 = τ.1) (h1 : τ'.2.1 = τ.2.1) (k' i' : Nat) (h2 : k' = 4 → rowF τ' i' = rowF τ i') : xC D Λ τ' k' i' = xC D Λ τ k' i' := by
  match k', h2 with
  | 0, _ =>
    by_cases h38 : i' = 38
    · rw [h38, x38, x38]
      unfold xF
      rw [h0, h1]
    · rw [xC_0 _ _ _ h38, xC_0 _ _ _ h38]
      unfold xA
      rw [h1]
  | 1, _ => rw [xC_1, xC_1]; unfold xc1; rw [h0, h1]
  | 2, _ => rw [xC_2, xC_2]; unfold xc2 xP; rw [h0, h1]
  | 3, _ => rw [xC_3, xC_3]; unfold xc3; rw [rowK_at (σ := τ) (σ' := τ') (i := i') (by rw [h1])]
  | 4, h2 => rw [xC_4, xC_4]; exact xC_L4 D τ τ' i' h1 (h2 rfl)
  | n + 5, _ => rw [xC_5, xC_5]
theorem xC_sR (D : va_G) (Λ : LT) (τ : MSt) {s j : Nat} (hj : j < 60) (v : Int64) (k' i' : Nat) (hne : ¬ (k' = 4 ∧ i' = s)) : xC D Λ (sR τ (60 * s + j) v) k' i' = xC D Λ τ k' i' := xC_L D Λ τ (sR τ (60 * s + j) v) rfl rfl k' i' (fun z => rowF_else hj (fun w => hne ⟨z, w⟩) v)
theorem xC_sR4 (D : va_G) (Λ : LT) (τ : MSt) {s j k : Nat} (v : Int64) (hk : rowK τ s = some k) : xC D Λ (sR τ (60 * s + j) v) 4 s = some (xItems D (sR τ (60 * s + j) v) s k) := by
  rw [xC_4]
  unfold xc4
  rw [show rowK (sR τ (60 * s + j) v) s = some k from (rowK_at (σ := τ) rfl).trans hk]
theorem xItems_hid (D : va_G) (σ : MSt) (nm km kd : Nat → Int32) (s k : Nat) : xItems D (hid σ nm km kd) s k = xItems D σ s k := rfl
theorem hid_sR (σ : MSt) (nm km kd : Nat → Int32) (i : Nat) (v : Int64) : hid (sR σ i v) nm km kd = sR (hid σ nm km kd) i v := rfl
/-- a number is written into the row on the shelf s -/
theorem row_put {D : va_G} {Λ : LT} {I : AH} {L : LawT} {σ : MSt} {h : AH} (hs : XH D Λ I L σ h) {s j k : Nat} (hk : rowK σ s = some k) (hj : j < 60) {v : Int64} {e : va_E} (he : e = xItems D (sR σ (60 * s + j) v) s k) : XH D Λ I L (sR σ (60 * s + j) v) (hup h (Λ.1 4 s) e) := by
  obtain ⟨nm, km, kd, hr, hw⟩ := hs
  have hk2 : rowK (hid σ nm km kd) s = some k := (rowK_at (σ := σ) (σ' := hid σ nm km kd) rfl).trans hk
  have hc : xC D Λ (hid σ nm km kd) 4 s ≠ none := by
    rw [xC_4]
    unfold xc4
    rw [hk2]
    exact fun q => by cases q
  refine ⟨nm, km, kd, XR_congr (σ := hid σ nm km kd) (fun _ _ => rfl) (fun _ _ => rfl) hr, ?_⟩
  rw [hid_sR]
  refine hw.up (k := 4) (i := s) hc ?_ (fun k' i' hne => Or.inr (xC_sR D Λ _ hj v k' i' hne)) rfl
  rw [xC_sR4 D Λ _ v hk2, he, ← hid_sR, xItems_hid]
theorem it_i {σ : MSt} {s j n : Nat} {cA : ClassId} {x : Int32} {v : Int64} (hj : j < 60) (hv : v.toInt32 = x) (hn : n = lenN σ s) : (Sum.inl (cA, n, Sum.inl (va_up (fun q => (rowF σ s q).toInt32) j x)) : va_E) = Sum.inl (cA, lenN (sR σ (60 * s + j) v) s, Sum.inl (fun q => (rowF (sR σ (60 * s + j) v) s q).toInt32)) := by
  subst hn; subst hv
  rw [rowF_put hj]
  have : va_up (fun q => (rowF σ s q).toInt32) j v.toInt32 = fun q => (va_up (rowF σ s) j v q).toInt32 := by
    funext q
    by_cases h : q = j
    · subst h; rw [va_up_self, va_up_self]
    · rw [va_up_ne _ _ h, va_up_ne _ _ h]
  rw [this]
  rfl
theorem it_l {σ : MSt} {s j n : Nat} {cA : ClassId} {v : Int64} (hj : j < 60) (hn : n = lenN σ s) : (Sum.inl (cA, n, Sum.inr (Sum.inl (va_up (rowF σ s) j v))) : va_E) = Sum.inl (cA, lenN (sR σ (60 * s + j) v) s, Sum.inr (Sum.inl (rowF (sR σ (60 * s + j) v) s))) := by
  subst hn
  rw [rowF_put hj]
  rfl
section RowA
variable {p : Program} {l : Launch} {e : Env} {R : Room} {s : State} {m : MethodId} {args : Array Value} {below : List Frame} {meth : Method} {c : Code} {D : va_G} {E : State → Prop} {B nL : Nat} {Q : State → Prop}
variable {S S' : AH → Prop} {kc ns pc np : Nat} {lv lv' : List (Option Value)} {st st' rest : List Value} {own : String} {cc : ByteArray}
theorem g_zald (F : FX p s m args meth c D E B nL own cc) {a : Nat} {i v : Int32} (hS : ∀ h, S h → ∃ (n : Nat) (f : Nat → Int32), h a = some (.inl (D.1 103, n, .inl f)) ∧ vp_in i n ∧ f i.toNatClampNeg = v) (d : decode cc pc = .ok (.baload, 1)) (hp : pc + 1 = np) (kk : WG p l e R s m args below meth c D B nL Q S kc ns np lv (.int v :: st)) : WG p l e R s m args below meth c D B nL Q S kc ns pc lv (.int i :: .ref a :: st) := by
  subst hp
  intro h H locs ls hs hR hV hL
  obtain ⟨n, f, h1, h2, h3⟩ := hS h hs
  subst h3
  exact va_zald F.1 F.2.1 F.2.2.2.2.2.1.1 (hR.one h1) 0 3 rfl rfl h2 d (kk h H locs ls hs hR hV hL)
theorem g_sald (F : FX p s m args meth c D E B nL own cc) {a : Nat} {i v : Int32} (hS : ∀ h, S h → ∃ (n : Nat) (f : Nat → Int32), h a = some (.inl (D.1 104, n, .inl f)) ∧ vp_in i n ∧ f i.toNatClampNeg = v) (d : decode cc pc = .ok (.saload, 1)) (hp : pc + 1 = np) (kk : WG p l e R s m args below meth c D B nL Q S kc ns np lv (.int v :: st)) : WG p l e R s m args below meth c D B nL Q S kc ns pc lv (.int i :: .ref a :: st) := by
  subst hp
  intro h H locs ls hs hR hV hL
  obtain ⟨n, f, h1, h2, h3⟩ := hS h hs
  subst h3
  exact va_sald F.1 F.2.1 F.2.2.2.2.2.1.1 (hR.one h1) 0 4 rfl rfl h2 d (kk h H locs ls hs hR hV hL)
theorem g_zast (F : FX p s m args meth c D E B nL own cc) {a : Nat} {i x : Int32} (hS : ∀ h, S h → ∃ (n : Nat) (f : Nat → Int32), h a = some (.inl (D.1 103, n, .inl f)) ∧ vp_in i n ∧ S' (hup h a (.inl (D.1 103, n, .inl (va_up f i.toNatClampNeg (vp_nar .boolean x)))))) (d : decode cc pc = .ok (.bastore, 1)) (hp : pc + 1 = np) (kk : WG p l e R s m args below meth c D B nL Q S' kc ns np lv st) : WG p l e R s m args below meth c D B nL Q S kc ns pc lv (.int x :: .int i :: .ref a :: st) := by
  subst hp
  intro h H locs ls hs hR hV hL
  obtain ⟨n, f, h1, h2, h3⟩ := hS h hs
  have hK := F.2.2.2.2.2.1.1
  refine W.zast F.1 F.2.1 (hR.2 _ _ h1).2 ((hK.2 3 _ rfl).1 n (fun j => .int (f j))) (fun q => by cases q) (by show ¬ (i < 0 ∨ (arrV _ _ _).slots.size ≤ _); rw [arrV_size]; exact h2) rfl rfl d fun H1 e1 z oq => ?_
  exact kk _ H1 _ ls h3 (hR.set (hR.2 _ _ h1).1 (e1.trans (congrArg some (zcell_i rfl))) z oq) (hV.put z oq (hR.2 _ _ h1).1) hL
theorem g_sast (F : FX p s m args meth c D E B nL own cc) {a : Nat} {i x : Int32} (hS : ∀ h, S h → ∃ (n : Nat) (f : Nat → Int32), h a = some (.inl (D.1 104, n, .inl f)) ∧ vp_in i n ∧ S' (hup h a (.inl (D.1 104, n, .inl (va_up f i.toNatClampNeg (vp_nar .short x)))))) (d : decode cc pc = .ok (.sastore, 1)) (hp : pc + 1 = np) (kk : WG p l e R s m args below meth c D B nL Q S' kc ns np lv st) : WG p l e R s m args below meth c D B nL Q S kc ns pc lv (.int x :: .int i :: .ref a :: st) := by
  subst hp
  intro h H locs ls hs hR hV hL
  obtain ⟨n, f, h1, h2, h3⟩ := hS h hs
  have hK := F.2.2.2.2.2.1.1
  refine W.sast F.1 F.2.1 (hR.2 _ _ h1).2 ((hK.2 4 _ rfl).1 n (fun j => .int (f j))) (fun q => by cases q) (by show ¬ (i < 0 ∨ (arrV _ _ _).slots.size ≤ _); rw [arrV_size]; exact h2) rfl rfl d fun H1 e1 z oq => ?_
  exact kk _ H1 _ ls h3 (hR.set (hR.2 _ _ h1).1 (e1.trans (congrArg some (zcell_i rfl))) z oq) (hV.put z oq (hR.2 _ _ h1).1) hL
end RowA
theorem vin_out {i : Int32} {n : Nat} (hn : n ≤ 60) (h : ¬ inN i n) : ¬ vp_in i n := fun z => h (by
  have h0 : ¬ i < 0 := fun q => z (Or.inl q)
  obtain ⟨e1, e2⟩ := nI_cl h0
  exact ⟨i.toNatClampNeg, Nat.not_le.mp (fun q => z (Or.inr q)), e1⟩)
theorem i8i8 (x : Int32) : x.toInt8.toInt32.toInt8.toInt32 = x.toInt8.toInt32 := by simp
theorem i16i16 (x : Int32) : x.toInt16.toInt32.toInt16.toInt32 = x.toInt16.toInt32 := by simp
theorem i64i32 (x : Int32) : x.toInt64.toInt32 = x := by simp
