/-! X: rows -/
set_option maxRecDepth 100000
/-- a field's link: the class' own, or a nest mate's (which E carries) -/
def Lk (own : String) (E : State → Prop) (index : Nat) (ref name desc : String) : Prop := Cond.fieldLink own index ref name desc ∈ lw_all ∨ ∃ host, ∀ U, E U → va_Nw (.fieldLinkNest own index ref name desc host) U
section XRow
variable {p : Program} {l : Launch} {e : Env} {R : Room} {s : State} {m : MethodId} {args : Array Value} {below : List Frame} {meth : Method} {c : Code} {D : va_G} {E : State → Prop} {B nL : Nat} {Q : State → Prop}
variable {S S' : AH → Prop} {kc ns pc np : Nat} {lv lv' : List (Option Value)} {st st' rest : List Value} {own : String} {cc : ByteArray}
theorem g_getL (F : FX p s m args meth c D E B nL own cc) {C : String} {T : u_T} {N ci index a : Nat} (hin : ∀ w ∈ u_ws C T N, w ∈ lw_all) (hc : zCl[ci]? = some (C, T, N)) (k : Nat) (hk : k < N) (hT : (T k).1 = C) (hlink : Lk own E index C (T k).2.1 (T k).2.2.1) {v : Value} (hS : ∀ h, S h → ∃ fs, h a = some (.inr (ci, fs)) ∧ fs[k]? = some v) (d : decode cc pc = .ok (.getfield index, 3)) (hp : pc + 3 = np) (kk : WG p l e R s m args below meth c D B nL Q S kc ns np lv (v :: st)) : WG p l e R s m args below meth c D B nL Q S kc ns pc lv (.ref a :: st) := by
  rcases hlink with hl | ⟨host, hl⟩
  · exact g_get F hin hc k hk hl (fun x hx => by rw [hT] at hx; exact hx) hS d hp kk
  · subst hp
    intro h H locs ls hs hR hV hL
    obtain ⟨fs, h1, h2⟩ := hS h hs
    exact va_getN F.1 F.2.1 F.2.2.2.2.1 hin F.2.2.2.1 F.2.2.2.2.2.1.1 (hR.one h1) 0 rfl hc k hk (va_Nw.use rfl (hl s F.2.2.2.2.2.1.2)) (fun x hx => by rw [hT] at hx; exact hx) h2 d (kk h H locs ls hs hR hV hL)
theorem g_putL (F : FX p s m args meth c D E B nL own cc) {C : String} {T : u_T} {N ci index a : Nat} (hin : ∀ w ∈ u_ws C T N, w ∈ lw_all) (ty0 : Nat → FieldType) (hty : ∀ k, k < N → parseFieldDescriptor (T k).2.2.1 = some (ty0 k)) (hnm : ∀ a, a < N → ∀ b, b < N → a ≠ b → (T a).2.1 ≠ (T b).2.1) (hc : zCl[ci]? = some (C, T, N)) (k : Nat) (hk : k < N) (hT : (T k).1 = C) (hlink : Lk own E index C (T k).2.1 (T k).2.2.1) (hfin : (T k).2.2.2 = false) {ty : FieldType} {v : Value} (hd : parseFieldDescriptor (T k).2.2.1 = some ty) (hn : narrow ty v = v) (hfit : fits ty v = true) (hS : ∀ h, S h → ∃ fs, h a = some (.inr (ci, fs)) ∧ k < fs.length ∧ S' (hup h a (.inr (ci, fs.set k v)))) (d : decode cc pc = .ok (.putfield index, 3)) (hp : pc + 3 = np) (kk : WG p l e R s m args below meth c D B nL Q S' kc ns np lv st) : WG p l e R s m args below meth c D B nL Q S kc ns pc lv (v :: .ref a :: st) := by
  rcases hlink with hl | ⟨host, hl⟩
  · exact g_put F hin ty0 hty hnm hc k hk hl (fun x hx => by rw [hT] at hx; exact hx) hfin hd hn hfit hS d hp kk
  · subst hp
    intro h H locs ls hs hR hV hL
    obtain ⟨fs, he, hl2, hs'⟩ := hS h hs
    have hts := F.2.2.2.2.1
    have hK := F.2.2.2.2.2.1.1
    have hap := va_apart (own := own) hts hin ty0 hty hnm hK hc
    obtain ⟨r, h1, cell, q1, q2, q3, q4⟩ := (hR.2 _ _ he).2
    have hr : r = (C, T, N) := Option.some.inj (h1.symm.trans hc)
    subst hr
    obtain ⟨hSl, hfc, kC, hkC, hkind⟩ := hK.1 ci _ hc
    obtain ⟨cf, kf, fi, f, hi, hsl⟩ := hSl k hk
    have hlay := hts _ (hin _ (u_in_lay hk))
    unfold u_lay at hlay
    rw [if_neg (by rw [hfin]; decide)] at hlay
    have hst := (u_facts hfc hkC (u_lays hts hin hk) hi).1
    have h6 := u_store hfc hkC hkind hlay hi hd hn hfit
    refine va_WputK F.1 F.2.1 (f := f) F.2.2.2.1 (va_Nw.use rfl (hl s F.2.2.2.2.2.1.2)) (by rw [hT] at hi; exact hi) hst (by rw [q2]; exact h6) q1 q3 (by rw [hsl]; exact k2_hasslot (q4 k hk)) rfl rfl d fun H' e1 e2 e3 => ?_
    rw [hsl] at e1 ⊢
    exact kk _ H' _ ls hs' (hR.set (hR.2 _ _ he).1 ⟨_, hc, t_OB.to (V := updV (vp_V fs) k v) ⟨_, e1, q2, q3, t_set q4 hap hk v⟩ (fun j _ => vp_updV_set hl2 v j)⟩ e2 e3) (hV.put e2 e3 (hR.2 _ _ he).1) hL
end XRow
theorem TX0_c (k : Nat) : (TX0 k).1 = RX0 := by unfold TX0; split <;> rfl
/-- the arrays that things read -/
def xU : Nat → Bool := fun j => match j with
  | 1 => true
  | 3 => true
  | 4 => true
  | 5 => true
  | 8 => true
  | 37 => true
  | 38 => true
  | 39 => true
  | 51 => true
  | 52 => true
  | 53 => true
  | 54 => true
  | _ => false
theorem xA_congr {D : va_G} {Λ Λ' : LT} {σ σ' : MSt} (hΛ : Λ'.1 = Λ.1) (hΛ2 : ∀ k, k ≠ 11 → Λ'.2 k = Λ.2 k) (hA : ∀ j, xU j = true → σ'.2.1 j = σ.2.1 j) : xA D Λ' σ' = xA D Λ σ := by
  unfold xA
  rw [hA 8 rfl, hA 37 rfl, hA 51 rfl, hA 52 rfl, hA 53 rfl, hA 54 rfl, hΛ2 0 (by decide), hΛ2 1 (by decide), hΛ2 6 (by decide), hΛ2 35 (by decide), hΛ2 37 (by decide), hΛ]
theorem rowK_congr {σ σ' : MSt} (e : σ'.2.1 38 = σ.2.1 38) : rowK σ' = rowK σ := by
  funext s
  unfold rowK
  rw [e]
theorem xI_congr {D : va_G} {σ σ' : MSt} (e : σ'.2.1 39 = σ.2.1 39) (hL : σ'.2.2 = σ.2.2) (s : Nat) : xItems D σ' s = xItems D σ s := by
  funext q
  unfold xItems lenN rowF
  rw [e, hL]
theorem xC_congr {D : va_G} {Λ Λ' : LT} {σ σ' : MSt} (hΛ : Λ'.1 = Λ.1) (hΛ2 : ∀ k, k ≠ 11 → Λ'.2 k = Λ.2 k) (h0 : σ'.1 0 = σ.1 0) (h2 : σ'.1 2 = σ.1 2) (hA : ∀ j, xU j = true → σ'.2.1 j = σ.2.1 j) (hL : σ'.2.2 = σ.2.2) (k i : Nat) (hne : ¬ (k = 0 ∧ i = 38)) : xC D Λ' σ' k i = xC D Λ σ k i := by
  have e38 := rowK_congr (hA 38 rfl)
  have e39 := xI_congr (D := D) (hA 39 rfl) hL i
  have e1 := hA 1 rfl
  have e3 := hA 3 rfl
  have e4 := hA 4 rfl
  have e5 := hA 5 rfl
  match k, hne with
  | 0, hne => exact (xC_0 _ _ _ (fun q => hne ⟨rfl, q⟩)).trans ((congrFun (xA_congr hΛ hΛ2 hA) i).trans (xC_0 _ _ _ (fun q => hne ⟨rfl, q⟩)).symm)
  | 1, _ => rw [xC_1, xC_1]; unfold xc1; rw [h0, e1]
  | 2, _ => rw [xC_2, xC_2]; unfold xc2 xP; rw [h2, e3, e4, e5]
  | 3, _ => rw [xC_3, xC_3]; unfold xc3; rw [e38, hΛ]
  | 4, _ => rw [xC_4, xC_4]; unfold xc4; rw [e38, e39]
  | n + 5, _ => rw [xC_5, xC_5]
/-- the arrays that the relation reads -/
def xV : Nat → Bool := fun j => match j with
  | 29 => true
  | 33 => true
  | 35 => true
  | 38 => true
  | 53 => true
  | 54 => true
  | _ => false
def xVn : Nat → Bool := fun j => match j with
  | 0 => true
  | 2 => true
  | 27 => true
  | 28 => true
  | 31 => true
  | 34 => true
  | _ => false
theorem XR_congr {Λ : LT} {I : AH} {L : LawT} {σ σ' : MSt} (hN : ∀ j, xVn j = true → σ'.1 j = σ.1 j) (hA : ∀ j, xV j = true → σ'.2.1 j = σ.2.1 j) (h : XR Λ I L σ) : XR Λ I L σ' := by
  obtain ⟨a, b, c, d, e, f, g⟩ := h
  have hr : ∀ s, rowK σ' s = rowK σ s := fun s => by unfold rowK; rw [hA 38 rfl]
  refine ⟨fun i hi => a i (by rw [← hN 0 rfl]; exact hi), fun i hi => b i (by rw [← hN 2 rfl]; exact hi), fun i hi => ?_, ⟨fun i hi => ?_, fun i hi => ?_⟩, fun i hi => ?_, fun s hs => ?_, g⟩
  · rw [hA 33 rfl]; exact c i (by rw [← hN 31 rfl]; exact hi)
  · rw [hA 53 rfl, hA 29 rfl]; exact d.1 i (by rw [← hN 27 rfl]; exact hi)
  · rw [hA 54 rfl, hA 29 rfl]; exact d.2 i (by rw [← hN 28 rfl]; exact hi)
  · unfold kdN; rw [hA 35 rfl]; exact e i (by rw [← hN 34 rfl]; exact hi)
  · rw [hA 38 rfl, hr, hN 34 rfl]; exact f s hs
/-- a field of the component is written -/
def PutOK (D : va_G) (Λ Λ' : LT) (σ : MSt) (k : Nat) (v : Value) (σ' : MSt) : Prop := (xF Λ σ).set k v = xF Λ' σ' ∧ Λ'.1 = Λ.1 ∧ ∀ k' i', ¬ (k' = 0 ∧ i' = 38) → xC D Λ' σ' k' i' = none ∨ xC D Λ' σ' k' i' = xC D Λ σ k' i'
def PutXH (D : va_G) (Λ : LT) (I : AH) (L : LawT) (σ : MSt) (k : Nat) (v : Value) (σ' : MSt) : Prop := ∀ nm km kd, PutOK D Λ Λ (hid σ nm km kd) k v (hid σ' nm km kd) ∧ (XR Λ I L (hid σ nm km kd) → XR Λ I L (hid σ' nm km kd))
theorem xF_len (Λ : LT) (σ : MSt) : (xF Λ σ).length = 38 := rfl
theorem x38 {D : va_G} {Λ : LT} {σ : MSt} : xC D Λ σ 0 38 = some (.inr (0, xF Λ σ)) := rfl
theorem x38n {D : va_G} {Λ : LT} {σ : MSt} : xC D Λ σ 0 38 ≠ none := fun q => by cases q
theorem hid_congr {σ σ' : MSt} {nm km kd : Nat → Int32} {j : Nat} (h : σ'.2.1 j = σ.2.1 j) : (hid σ' nm km kd).2.1 j = (hid σ nm km kd).2.1 j := by
  show va_up (va_up (va_up σ'.2.1 52 nm) 53 km) 54 kd j = va_up (va_up (va_up σ.2.1 52 nm) 53 km) 54 kd j
  unfold va_up
  simp only [h]
section XRow2
variable {p : Program} {l : Launch} {e : Env} {R : Room} {s : State} {m : MethodId} {args : Array Value} {below : List Frame} {meth : Method} {c : Code} {D : va_G} {E : State → Prop} {B nL : Nat} {Q : State → Prop}
variable {kc ns pc np : Nat} {lv lv' : List (Option Value)} {st st' rest : List Value} {own : String} {cc : ByteArray} {Λ Λ' : LT} {I I' : AH} {L : LawT} {σ σ' : MSt}
theorem w_get (F : FX p s m args meth c D E B nL own cc) {index k : Nat} {v : Value} (hk : k < 38) (hv : (xF Λ σ)[k]? = some v) (hlink : Lk own E index RX0 (TX0 k).2.1 (TX0 k).2.2.1) (d : decode cc pc = .ok (.getfield index, 3)) (hp : pc + 3 = np) (kk : WG p l e R s m args below meth c D B nL Q (XW D Λ I σ) kc ns np lv (v :: st)) : WG p l e R s m args below meth c D B nL Q (XW D Λ I σ) kc ns pc lv (.ref (Λ.1 0 38) :: st) := g_getL F in_X0 rfl k hk (TX0_c k) hlink (fun h hs => ⟨_, hs.1 0 38 _ x38, hv⟩) d hp kk
theorem x_get (F : FX p s m args meth c D E B nL own cc) {index k : Nat} {v : Value} (hk : k < 38) (hv : (xF Λ σ)[k]? = some v) (hlink : Lk own E index RX0 (TX0 k).2.1 (TX0 k).2.2.1) (d : decode cc pc = .ok (.getfield index, 3)) (hp : pc + 3 = np) (kk : WG p l e R s m args below meth c D B nL Q (XH D Λ I L σ) kc ns np lv (v :: st)) : WG p l e R s m args below meth c D B nL Q (XH D Λ I L σ) kc ns pc lv (.ref (Λ.1 0 38) :: st) := g_getL F in_X0 rfl k hk (TX0_c k) hlink (fun h hs => ⟨xF Λ σ, hs.wc (fun _ _ _ => rfl), hv⟩) d hp kk
theorem w_put (F : FX p s m args meth c D E B nL own cc) {index k : Nat} {v : Value} {ty : FieldType} (hk : k < 38) (hP : PutOK D Λ Λ' σ k v σ') (hfin : (TX0 k).2.2.2 = false) (hd : parseFieldDescriptor (TX0 k).2.2.1 = some ty) (hn : narrow ty v = v) (hfit : fits ty v = true) (hlink : Lk own E index RX0 (TX0 k).2.1 (TX0 k).2.2.1) (d : decode cc pc = .ok (.putfield index, 3)) (hp : pc + 3 = np) (kk : WG p l e R s m args below meth c D B nL Q (XW D Λ' I σ') kc ns np lv st) : WG p l e R s m args below meth c D B nL Q (XW D Λ I σ) kc ns pc lv (v :: .ref (Λ.1 0 38) :: st) := g_putL F in_X0 tyX0 tyX0_ok nmX0 rfl k hk (TX0_c k) hlink hfin hd hn hfit (fun h hs => ⟨_, hs.1 0 38 _ x38, hk, by rw [hP.1]; exact hs.up x38n x38 hP.2.2 hP.2.1⟩) d hp kk
theorem x_put (F : FX p s m args meth c D E B nL own cc) {index k : Nat} {v : Value} {ty : FieldType} (hk : k < 38) (hP : PutXH D Λ I L σ k v σ') (hfin : (TX0 k).2.2.2 = false) (hd : parseFieldDescriptor (TX0 k).2.2.1 = some ty) (hn : narrow ty v = v) (hfit : fits ty v = true) (hlink : Lk own E index RX0 (TX0 k).2.1 (TX0 k).2.2.1) (d : decode cc pc = .ok (.putfield index, 3)) (hp : pc + 3 = np) (kk : WG p l e R s m args below meth c D B nL Q (XH D Λ I L σ') kc ns np lv st) : WG p l e R s m args below meth c D B nL Q (XH D Λ I L σ) kc ns pc lv (v :: .ref (Λ.1 0 38) :: st) := g_putL F in_X0 tyX0 tyX0_ok nmX0 rfl k hk (TX0_c k) hlink hfin hd hn hfit (fun h hs => by
    obtain ⟨nm, km, kd, hr, hw⟩ := hs
    obtain ⟨h1, h2⟩ := hP nm km kd
    exact ⟨_, hw.1 0 38 _ x38, hk, nm, km, kd, h2 hr, by rw [h1.1]; exact hw.up x38n x38 h1.2.2 h1.2.1⟩) d hp kk
/-! owners and promises -/
theorem x_getO (F : FX p s m args meth c D E B nL own cc) {index i : Nat} {v : Int32} (hi : i < σ.1 0) (hv : σ.2.1 1 i = v) (hlink : Lk own E index RX3 "money" "I") (d : decode cc pc = .ok (.getfield index, 3)) (hp : pc + 3 = np) (kk : WG p l e R s m args below meth c D B nL Q (XH D Λ I L σ) kc ns np lv (.int v :: st)) : WG p l e R s m args below meth c D B nL Q (XH D Λ I L σ) kc ns pc lv (.ref (Λ.1 1 i) :: st) := g_getL F in_X3 (ci := 3) rfl 0 (by decide) rfl hlink (fun h hs => ⟨[.int v], hs.wc (fun _ _ _ => by show (if i < σ.1 0 then _ else _) = _; rw [if_pos hi, ← hv]; rfl), rfl⟩) d hp kk
theorem x_getP (F : FX p s m args meth c D E B nL own cc) {index i k : Nat} {v : Value} (hk : k < 7) (hi : i < σ.1 2) (hv : (xP σ i)[k]? = some v) (hlink : Lk own E index RX4 (TX4 k).2.1 (TX4 k).2.2.1) (d : decode cc pc = .ok (.getfield index, 3)) (hp : pc + 3 = np) (kk : WG p l e R s m args below meth c D B nL Q (XH D Λ I L σ) kc ns np lv (v :: st)) : WG p l e R s m args below meth c D B nL Q (XH D Λ I L σ) kc ns pc lv (.ref (Λ.1 2 i) :: st) := g_getL F in_X4 (ci := 4) rfl k hk (by unfold TX4; split <;> rfl) hlink (fun h hs => ⟨xP σ i, hs.wc (fun _ _ _ => by show (if i < σ.1 2 then _ else _) = _; rw [if_pos hi]; rfl), hv⟩) d hp kk
theorem w_getP (F : FX p s m args meth c D E B nL own cc) {index i k : Nat} {v : Value} (hk : k < 7) (hi : i < σ.1 2) (hv : (xP σ i)[k]? = some v) (hlink : Lk own E index RX4 (TX4 k).2.1 (TX4 k).2.2.1) (d : decode cc pc = .ok (.getfield index, 3)) (hp : pc + 3 = np) (kk : WG p l e R s m args below meth c D B nL Q (XW D Λ I σ) kc ns np lv (v :: st)) : WG p l e R s m args below meth c D B nL Q (XW D Λ I σ) kc ns pc lv (.ref (Λ.1 2 i) :: st) := g_getL F in_X4 (ci := 4) rfl k hk (by unfold TX4; split <;> rfl) hlink (fun h hs => ⟨xP σ i, hs.1 2 i _ (by show (if i < σ.1 2 then _ else _) = _; rw [if_pos hi]), hv⟩) d hp kk
theorem w_getO (F : FX p s m args meth c D E B nL own cc) {index i : Nat} {v : Int32} (hi : i < σ.1 0) (hv : σ.2.1 1 i = v) (hlink : Lk own E index RX3 "money" "I") (d : decode cc pc = .ok (.getfield index, 3)) (hp : pc + 3 = np) (kk : WG p l e R s m args below meth c D B nL Q (XW D Λ I σ) kc ns np lv (.int v :: st)) : WG p l e R s m args below meth c D B nL Q (XW D Λ I σ) kc ns pc lv (.ref (Λ.1 1 i) :: st) := g_getL F in_X3 (ci := 3) rfl 0 (by decide) rfl hlink (fun h hs => ⟨[.int v], hs.1 1 i _ (by show (if i < σ.1 0 then _ else _) = _; rw [if_pos hi, ← hv]), rfl⟩) d hp kk
theorem xC_sA1 (D : va_G) (Λ : LT) (σ : MSt) (i : Nat) (v : Int32) : ∀ k' i', ¬ (k' = 1 ∧ i' = i) → xC D Λ (sA σ 1 i v) k' i' = none ∨ xC D Λ (sA σ 1 i v) k' i' = xC D Λ σ k' i' := by
  intro k' i' hne
  by_cases z : k' = 1
  · subst z
    refine Or.inr ?_
    have e : (sA σ 1 i v).2.1 1 i' = σ.2.1 1 i' := by rw [sA_2, if_neg (fun q => hne ⟨rfl, q.2⟩)]
    rw [xC_1, xC_1]
    unfold xc1
    rw [e]
    rfl
  · by_cases z2 : k' = 0 ∧ i' = 38
    · rw [z2.1, z2.2]; exact Or.inr rfl
    · match k' with
      | 0 => exact Or.inr rfl
      | 1 => exact absurd rfl z
      | 2 => exact Or.inr rfl
      | 3 => exact Or.inr rfl
      | 4 => exact Or.inr rfl
      | n + 5 => exact Or.inr rfl
theorem xC_sA3 (D : va_G) (Λ : LT) (σ : MSt) {q j : Nat} (hj2 : 2 ≤ j) (hj : j < 7) (hq : q < 15) (hm : σ.1 2 ≤ 15) (v : Int32) : ∀ k' i', ¬ (k' = 2 ∧ i' = q) → xC D Λ (sA σ 3 (15 * (j - 2) + q) v) k' i' = none ∨ xC D Λ (sA σ 3 (15 * (j - 2) + q) v) k' i' = xC D Λ σ k' i' := by
  intro k' i' hne
  by_cases z : k' = 2
  · subst z
    refine Or.inr ?_
    rw [xC_2, xC_2]
    unfold xc2
    show (if i' < σ.1 2 then _ else _) = (if i' < σ.1 2 then _ else _)
    by_cases w : i' < σ.1 2
    · rw [if_pos w, if_pos w]
      have hn : ¬ i' = q := fun q => hne ⟨rfl, q⟩
      have e : xP (sA σ 3 (15 * (j - 2) + q) v) i' = xP σ i' := by
        unfold xP
        simp only [sA_2]
        rw [if_neg (by omega), if_neg (by omega), if_neg (by omega), if_neg (by omega), if_neg (by omega), if_neg (by omega), if_neg (by omega)]
      rw [e]
    · rw [if_neg w, if_neg w]
  · match k' with
    | 0 => exact Or.inr rfl
    | 1 => exact Or.inr rfl
    | 2 => exact absurd rfl z
    | 3 => exact Or.inr rfl
    | 4 => exact Or.inr rfl
    | n + 5 => exact Or.inr rfl
theorem xP_set (σ : MSt) {q j : Nat} (hj2 : 2 ≤ j) (hj : j < 7) (hq : q < 15) (v : Int32) : (xP σ q).set j (.int v) = xP (sA σ 3 (15 * (j - 2) + q) v) q := by
  unfold xP
  simp only [sA_2]
  rcases (show j = 2 ∨ j = 3 ∨ j = 4 ∨ j = 5 ∨ j = 6 by omega) with rfl | rfl | rfl | rfl | rfl
  all_goals first
    | (simp; done)
    | (simp <;> omega)
theorem w_putO (F : FX p s m args meth c D E B nL own cc) {index i : Nat} {v : Int32} (hi : i < σ.1 0) (hlink : Lk own E index RX3 "money" "I") (d : decode cc pc = .ok (.putfield index, 3)) (hp : pc + 3 = np) (kk : WG p l e R s m args below meth c D B nL Q (XW D Λ I (sA σ 1 i v)) kc ns np lv st) : WG p l e R s m args below meth c D B nL Q (XW D Λ I σ) kc ns pc lv (.int v :: .ref (Λ.1 1 i) :: st) := g_putL F in_X3 tyX3 tyX3_ok nmX3 (ci := 3) rfl 0 (by decide) rfl hlink rfl (ty := .int) rfl rfl rfl (fun h hs => by
    have e : xC D Λ σ 1 i = some (.inr (3, [.int (σ.2.1 1 i)])) := by show (if i < σ.1 0 then _ else _) = _; rw [if_pos hi]
    refine ⟨_, hs.1 1 i _ e, Nat.zero_lt_succ _, ?_⟩
    refine hs.up (k := 1) (i := i) (by rw [e]; exact fun q => by cases q) ?_ (xC_sA1 D Λ σ i v) rfl
    show (if i < σ.1 0 then _ else _) = _
    rw [if_pos hi, sA_2, if_pos ⟨rfl, rfl⟩]; rfl) d hp kk
theorem w_putP (F : FX p s m args meth c D E B nL own cc) {index q j : Nat} {v : Int32} (hj2 : 2 ≤ j) (hj : j < 7) (hm : σ.1 2 ≤ 15) (hi : q < σ.1 2) (hlink : Lk own E index RX4 (TX4 j).2.1 (TX4 j).2.2.1) (hfin : (TX4 j).2.2.2 = false) (hd : parseFieldDescriptor (TX4 j).2.2.1 = some .int) (d : decode cc pc = .ok (.putfield index, 3)) (hp : pc + 3 = np) (kk : WG p l e R s m args below meth c D B nL Q (XW D Λ I (sA σ 3 (15 * (j - 2) + q) v)) kc ns np lv st) : WG p l e R s m args below meth c D B nL Q (XW D Λ I σ) kc ns pc lv (.int v :: .ref (Λ.1 2 q) :: st) := g_putL F in_X4 tyX4 tyX4_ok nmX4 (ci := 4) rfl j hj (by unfold TX4; split <;> rfl) hlink hfin (ty := .int) hd rfl rfl (fun h hs => by
    have e : xC D Λ σ 2 q = some (.inr (4, xP σ q)) := by show (if q < σ.1 2 then _ else _) = _; rw [if_pos hi]
    refine ⟨_, hs.1 2 q _ e, hj, ?_⟩
    refine hs.up (k := 2) (i := q) (by rw [e]; exact fun q => by cases q) ?_ (xC_sA3 D Λ σ hj2 hj (by omega) hm v) rfl
    show (if q < σ.1 2 then _ else _) = _
    rw [if_pos hi, xP_set σ hj2 hj (by omega)]) d hp kk
theorem x_lift (hb : ∀ nm km kd, XR Λ I L (hid σ nm km kd) → XR Λ I L (hid σ' nm km kd)) (hrow : ∀ nm km kd, WG p l e R s m args below meth c D B nL Q (XW D Λ I (hid σ' nm km kd)) kc ns np lv' st' → WG p l e R s m args below meth c D B nL Q (XW D Λ I (hid σ nm km kd)) kc ns pc lv st) (kk : WG p l e R s m args below meth c D B nL Q (XH D Λ I L σ') kc ns np lv' st') : WG p l e R s m args below meth c D B nL Q (XH D Λ I L σ) kc ns pc lv st := by
  refine WG.ex fun nm => WG.ex fun km => WG.ex fun kd => WG.pr fun hr => ?_
  exact hrow nm km kd (kk.weak fun h hw => ⟨nm, km, kd, hb nm km kd hr, hw⟩)
theorem x_putO (F : FX p s m args meth c D E B nL own cc) {index i : Nat} {v : Int32} (hi : i < σ.1 0) (hlink : Lk own E index RX3 "money" "I") (d : decode cc pc = .ok (.putfield index, 3)) (hp : pc + 3 = np) (kk : WG p l e R s m args below meth c D B nL Q (XH D Λ I L (sA σ 1 i v)) kc ns np lv st) : WG p l e R s m args below meth c D B nL Q (XH D Λ I L σ) kc ns pc lv (.int v :: .ref (Λ.1 1 i) :: st) := x_lift (σ := σ) (σ' := sA σ 1 i v) (fun nm km kd hr => XR_congr (σ := hid σ nm km kd) (fun j _ => rfl) (fun j hj => hid_congr (up2_n _ _ _ (fun z => by rw [z] at hj; cases hj))) hr) (fun nm km kd k2 => w_putO F hi hlink d hp (by rw [hid_sA _ _ _ _ _ _ (by decide) (by decide) (by decide)]; exact k2)) kk
theorem x_putP (F : FX p s m args meth c D E B nL own cc) {index q j : Nat} {v : Int32} (hj2 : 2 ≤ j) (hj : j < 7) (hm : σ.1 2 ≤ 15) (hi : q < σ.1 2) (hlink : Lk own E index RX4 (TX4 j).2.1 (TX4 j).2.2.1) (hfin : (TX4 j).2.2.2 = false) (hd : parseFieldDescriptor (TX4 j).2.2.1 = some .int) (d : decode cc pc = .ok (.putfield index, 3)) (hp : pc + 3 = np) (kk : WG p l e R s m args below meth c D B nL Q (XH D Λ I L (sA σ 3 (15 * (j - 2) + q) v)) kc ns np lv st) : WG p l e R s m args below meth c D B nL Q (XH D Λ I L σ) kc ns pc lv (.int v :: .ref (Λ.1 2 q) :: st) := x_lift (σ := σ) (σ' := sA σ 3 (15 * (j - 2) + q) v) (fun nm km kd hr => XR_congr (σ := hid σ nm km kd) (fun j _ => rfl) (fun j hj => hid_congr (up2_n _ _ _ (fun z => by rw [z] at hj; cases hj))) hr) (fun nm km kd k2 => w_putP F hj2 hj hm hi hlink hfin hd d hp (by rw [hid_sA _ _ _ _ _ _ (by decide) (by decide) (by decide)]; exact k2)) kk
/-! arrays of references -/
theorem w_ald (F : FX p s m args meth c D E B nL own cc) {k i n t0 : Nat} {C : String} {x : Int32} {v : Option Nat} (ht : (zTy D)[t0]? = some (D.1 (100 + t0), .object C)) (hA : xA D Λ σ k = some (xrefs (D.1 (100 + t0)) n (Λ.2 k))) (h38 : k ≠ 38) (hn : n < 2 ^ 31) (hi : i < n) (e0 : x = nI i) (hv : Λ.2 k i = v) (d : decode cc pc = .ok (.aaload, 1)) (hp : pc + 1 = np) (kk : WG p l e R s m args below meth c D B nL Q (XW D Λ I σ) kc ns np lv (va_rf v :: st)) : WG p l e R s m args below meth c D B nL Q (XW D Λ I σ) kc ns pc lv (.int x :: .ref (Λ.1 0 k) :: st) := g_aldq F ht (fun h hs => ⟨n, _, hs.1 0 k _ (by show (if k = 38 then _ else _) = _; rw [if_neg h38]; exact hA), (m_in hn hi e0).1, by rw [(m_in hn hi e0).2]; exact hv⟩) d hp kk
theorem x_ald (F : FX p s m args meth c D E B nL own cc) {k i n t0 : Nat} {C : String} {x : Int32} {v : Option Nat} (ht : (zTy D)[t0]? = some (D.1 (100 + t0), .object C)) (hA : ∀ nm km kd, xA D Λ (hid σ nm km kd) k = some (xrefs (D.1 (100 + t0)) n (Λ.2 k))) (h38 : k ≠ 38) (hn : n < 2 ^ 31) (hi : i < n) (e0 : x = nI i) (hv : ∀ nm km kd, XR Λ I L (hid σ nm km kd) → Λ.2 k i = v) (d : decode cc pc = .ok (.aaload, 1)) (hp : pc + 1 = np) (kk : WG p l e R s m args below meth c D B nL Q (XH D Λ I L σ) kc ns np lv (va_rf v :: st)) : WG p l e R s m args below meth c D B nL Q (XH D Λ I L σ) kc ns pc lv (.int x :: .ref (Λ.1 0 k) :: st) := g_aldq F ht (fun h hs => by
    obtain ⟨nm, km, kd, hr, hw⟩ := hs
    exact ⟨n, _, hw.1 0 k _ (by show (if k = 38 then _ else _) = _; rw [if_neg h38]; exact hA nm km kd), (m_in hn hi e0).1, by rw [(m_in hn hi e0).2]; exact hv nm km kd hr⟩) d hp kk
end XRow2
