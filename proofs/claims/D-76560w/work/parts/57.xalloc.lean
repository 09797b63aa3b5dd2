/-! X: new objects -/
set_option maxRecDepth 100000
/-- S, and a new object at a -/
def Fr (B : Nat) (S : AH → Prop) (a : Nat) (e : va_E) : AH → Prop := fun h' => ∃ h, S h ∧ h a = none ∧ B ≤ a ∧ h' = hup h a e
theorem hup_hup (h : AH) (a : Nat) (e e' : va_E) : hup (hup h a e) a e' = hup h a e' := by
  funext b
  unfold hup
  by_cases q : b = a <;> simp [q]
def IE (I I' : AH) : Prop := ∀ a e, I a = some e → I' a = some e
theorem IE.rf (I : AH) : IE I I := fun _ _ h => h
theorem IE.hup {I : AH} {a : Nat} {e : va_E} (h : I a = none) : IE I (hup I a e) := fun x y hx => by
  rw [hup_ne (fun z => by rw [z, h] at hx; cases hx)]; exact hx
theorem IE.tr {I J K : AH} (h : IE I J) (g : IE J K) : IE I K := fun a e q => g a e (h a e q)
section XFr
variable {p : Program} {l : Launch} {e : Env} {R : Room} {s : State} {m : MethodId} {args : Array Value} {below : List Frame} {meth : Method} {c : Code} {D : va_G} {E : State → Prop} {B nL : Nat} {Q : State → Prop}
variable {S S' : AH → Prop} {kc ns pc np : Nat} {lv lv' : List (Option Value)} {st st' rest : List Value} {own : String} {cc : ByteArray}
theorem fr_putF (F : FX p s m args meth c D E B nL own cc) (hin2 : meth.name = "<init>") {C : String} {T : u_T} {N ci index a : Nat} {fs : List Value} (hin : ∀ w ∈ u_ws C T N, w ∈ lw_all) (ty0 : Nat → FieldType) (hty : ∀ k, k < N → parseFieldDescriptor (T k).2.2.1 = some (ty0 k)) (hnm : ∀ a, a < N → ∀ b, b < N → a ≠ b → (T a).2.1 ≠ (T b).2.1) (hc : zCl[ci]? = some (C, T, N)) (k : Nat) (hk : k < N) (hT : (T k).1 = own) (hC : own = C) (hlink : Cond.fieldLink own index C (T k).2.1 (T k).2.2.1 ∈ lw_all) (hfin : (T k).2.2.2 = true) {ty : FieldType} {v : Value} (hd : parseFieldDescriptor (T k).2.2.1 = some ty) (hn : narrow ty v = v) (hfit : fits ty v = true) (hl : k < fs.length) (d : decode cc pc = .ok (.putfield index, 3)) (hp : pc + 3 = np) (kk : WG p l e R s m args below meth c D B nL Q (Fr B S a (.inr (ci, fs.set k v))) kc ns np lv st) : WG p l e R s m args below meth c D B nL Q (Fr B S a (.inr (ci, fs))) kc ns pc lv (v :: .ref a :: st) := by
  subst hC
  exact g_putF F hin2 hin ty0 hty hnm hc k hk hlink (fun x hx => by rw [hT] at hx; exact hx) hfin hT hd hn hfit (fun h' hs => by
    obtain ⟨h, h1, h2, h3, rfl⟩ := hs
    exact ⟨fs, hup_self _ _ _, hl, h, h1, h2, h3, hup_hup _ _ _ _⟩) d hp kk
theorem fr_put (F : FX p s m args meth c D E B nL own cc) {C : String} {T : u_T} {N ci index a : Nat} {fs : List Value} (hin : ∀ w ∈ u_ws C T N, w ∈ lw_all) (ty0 : Nat → FieldType) (hty : ∀ k, k < N → parseFieldDescriptor (T k).2.2.1 = some (ty0 k)) (hnm : ∀ a, a < N → ∀ b, b < N → a ≠ b → (T a).2.1 ≠ (T b).2.1) (hc : zCl[ci]? = some (C, T, N)) (k : Nat) (hk : k < N) (hT : (T k).1 = C) (hlink : Lk own E index C (T k).2.1 (T k).2.2.1) (hfin : (T k).2.2.2 = false) {ty : FieldType} {v : Value} (hd : parseFieldDescriptor (T k).2.2.1 = some ty) (hn : narrow ty v = v) (hfit : fits ty v = true) (hl : k < fs.length) (d : decode cc pc = .ok (.putfield index, 3)) (hp : pc + 3 = np) (kk : WG p l e R s m args below meth c D B nL Q (Fr B S a (.inr (ci, fs.set k v))) kc ns np lv st) : WG p l e R s m args below meth c D B nL Q (Fr B S a (.inr (ci, fs))) kc ns pc lv (v :: .ref a :: st) :=
  g_putL F hin ty0 hty hnm hc k hk hT hlink hfin hd hn hfit (fun h' hs => by
    obtain ⟨h, h1, h2, h3, rfl⟩ := hs
    exact ⟨fs, hup_self _ _ _, hl, h, h1, h2, h3, hup_hup _ _ _ _⟩) d hp kk
end XFr
def upR (A : Nat → Nat → Option Nat) (k i : Nat) (v : Option Nat) : Nat → Nat → Option Nat := va_up A k (va_up (A k) i v)
theorem upR_n (A : Nat → Nat → Option Nat) {k k' : Nat} (i : Nat) (v : Option Nat) (z : k' ≠ k) : upR A k i v k' = A k' := va_up_ne _ _ z
theorem upR_k (A : Nat → Nat → Option Nat) (k i : Nat) (v : Option Nat) : upR A k i v k = va_up (A k) i v := va_up_self _ _ _
theorem upL_n (A : Nat → Nat → Nat) {k k' : Nat} (i : Nat) (v : Nat) (z : k' ≠ k) : upL A k i v k' = A k' := va_up_ne _ _ z
/-- the relation at Λ, I; the cells at Λ', J -/
def XP (D : va_G) (Λ Λ' : LT) (I J : AH) (L : LawT) (σ : MSt) (h : AH) : Prop := ∃ nm km kd : Nat → Int32, XR Λ I L (hid σ nm km kd) ∧ XW D Λ' J (hid σ nm km kd) h
theorem XH.fr {D : va_G} {Λ : LT} {I : AH} {L : LawT} {σ : MSt} {a B : Nat} {e : va_E} {h : AH} (hs : Fr B (XH D Λ I L σ) a e h) : I a = none ∧ XP D Λ Λ I (hup I a e) L σ h := by
  obtain ⟨h0, ⟨nm, km, kd, hr, hw⟩, h2, -, rfl⟩ := hs
  refine ⟨?_, nm, km, kd, hr, hw.know h2⟩
  cases hx : I a with
  | none => rfl
  | some x => rw [hw.2.2.1 _ _ hx] at h2; cases h2
theorem XFr.fld {D : va_G} {Λ : LT} {I : AH} {L : LawT} {σ : MSt} {a B : Nat} {e : va_E} {h : AH} (hs : Fr B (XH D Λ I L σ) a e h) : h (Λ.1 0 38) = some (.inr (0, xF Λ σ)) := by
  obtain ⟨h0, hw, h2, -, rfl⟩ := hs
  have := hw.wc (k := 0) (i := 38) (e := .inr (0, xF Λ σ)) (fun _ _ _ => rfl)
  rw [hup_ne (fun z => by rw [z, h2] at this; cases this)]
  exact this
/-- an array of the component's holds another reference -/
theorem xA_ref {D : va_G} {Λ : LT} {σ : MSt} {k : Nat} (i : Nat) (v : Option Nat) {j : Nat} (hn : j ≠ k) : xA D (Λ.1, upR Λ.2 k i v) σ j = xA D Λ σ j := by
  unfold xA
  unfold xA0
  split <;> first | rfl | (show some (xrefs _ _ (upR Λ.2 k i v _)) = _; rw [upR_n _ _ _ hn])
theorem xC_ref {D : va_G} {Λ : LT} {σ : MSt} {k : Nat} (h11 : k ≠ 11) (i : Nat) (v : Option Nat) (k' i' : Nat) (hne : ¬ (k' = 0 ∧ i' = k)) : xC D (Λ.1, upR Λ.2 k i v) σ k' i' = none ∨ xC D (Λ.1, upR Λ.2 k i v) σ k' i' = xC D Λ σ k' i' := by
  refine Or.inr ?_
  match k', hne with
  | 0, hne =>
    by_cases h38 : i' = 38
    · rw [h38, x38, x38]
      unfold xF
      rw [show (Λ.1, upR Λ.2 k i v).2 11 = Λ.2 11 from upR_n _ _ _ (fun z => h11 z.symm)]
    · exact (xC_0 _ _ _ h38).trans ((xA_ref i v (fun q => hne ⟨rfl, q⟩)).trans (xC_0 _ _ _ h38).symm)
  | 1, _ => rfl
  | 2, _ => rfl
  | 3, _ => rfl
  | 4, _ => rfl
  | n + 5, _ => rfl
section XRef
variable {p : Program} {l : Launch} {e : Env} {R : Room} {s : State} {m : MethodId} {args : Array Value} {below : List Frame} {meth : Method} {c : Code} {D : va_G} {E : State → Prop} {B nL : Nat} {Q : State → Prop}
variable {kc ns pc np : Nat} {lv lv' : List (Option Value)} {st st' rest : List Value} {own : String} {cc : ByteArray} {Λ Λ' : LT} {I J : AH} {L : LawT} {σ σ' : MSt}
/-- a new object of the array's own class goes into it -/
theorem x_astq (F : FX p s m args meth c D E B nL own cc) {k i n t0 ci a : Nat} {r : vw_C} {x : Int32} {fs : List Value} (ht : (zTy D)[t0]? = some (D.1 (100 + t0), .object r.1)) (hc : zCl[ci]? = some r) (h11 : k ≠ 11) (h38 : k ≠ 38) (hA : ∀ (Λ : LT) (τ : MSt), xA D Λ τ k = some (xrefs (D.1 (100 + t0)) n (Λ.2 k))) (hn : n < 2 ^ 31) (hi : i < n) (e0 : x = nI i) (d : decode cc pc = .ok (.aastore, 1)) (hp : pc + 1 = np) (kk : I a = none → WG p l e R s m args below meth c D B nL Q (XP D Λ (Λ.1, upR Λ.2 k i (some a)) I (hup I a (.inr (ci, fs))) L σ) kc ns np lv st) : WG p l e R s m args below meth c D B nL Q (Fr B (XH D Λ I L σ) a (.inr (ci, fs))) kc ns pc lv (.ref a :: .int x :: .ref (Λ.1 0 k) :: st) := by
  refine WG.obt (P := I a = none) (fun h hs => (XH.fr hs).1) (fun hIa => ?_)
  refine g_astq F ht hc (fun h hs => ?_) d hp (kk hIa)
  obtain ⟨-, nm, km, kd, hr, hw⟩ := XH.fr hs
  have hk : xC D Λ (hid σ nm km kd) 0 k = some (xrefs (D.1 (100 + t0)) n (Λ.2 k)) := (xC_0 _ _ _ h38).trans (hA _ _)
  refine ⟨⟨fs, hw.2.2.1 a _ (hup_self _ _ _)⟩, n, Λ.2 k, hw.1 0 k _ hk, (m_in hn hi e0).1, nm, km, kd, hr, ?_⟩
  rw [(m_in hn hi e0).2]
  refine hw.up (k := 0) (i := k) (by rw [hk]; exact fun q => by cases q) ?_ (xC_ref h11 i (some a)) rfl
  rw [xC_0 _ _ _ h38, hA, show (Λ.1, upR Λ.2 k i (some a)).2 k = va_up (Λ.2 k) i (some a) from upR_k _ _ _ _]
  rfl
theorem p_get (F : FX p s m args meth c D E B nL own cc) {index k : Nat} {v : Value} (hk : k < 38) (hv : (xF Λ' σ)[k]? = some v) (hlink : Lk own E index RX0 (TX0 k).2.1 (TX0 k).2.2.1) (d : decode cc pc = .ok (.getfield index, 3)) (hp : pc + 3 = np) (kk : WG p l e R s m args below meth c D B nL Q (XP D Λ Λ' I J L σ) kc ns np lv (v :: st)) : WG p l e R s m args below meth c D B nL Q (XP D Λ Λ' I J L σ) kc ns pc lv (.ref (Λ'.1 0 38) :: st) := g_getL F in_X0 rfl k hk (TX0_c k) hlink (fun h hs => by obtain ⟨nm, km, kd, -, hw⟩ := hs; exact ⟨xF Λ' σ, hw.1 0 38 _ rfl, hv⟩) d hp kk
/-- a number of the component's is written: the world behind it is shown -/
theorem p_put (F : FX p s m args meth c D E B nL own cc) {index k : Nat} {v : Value} {ty : FieldType} {S' : AH → Prop} (hk : k < 38) (hS : ∀ h nm km kd, XR Λ I L (hid σ nm km kd) → XW D Λ' J (hid σ nm km kd) h → S' (hup h (Λ'.1 0 38) (.inr (0, (xF Λ' σ).set k v)))) (hfin : (TX0 k).2.2.2 = false) (hd : parseFieldDescriptor (TX0 k).2.2.1 = some ty) (hn : narrow ty v = v) (hfit : fits ty v = true) (hlink : Lk own E index RX0 (TX0 k).2.1 (TX0 k).2.2.1) (d : decode cc pc = .ok (.putfield index, 3)) (hp : pc + 3 = np) (kk : WG p l e R s m args below meth c D B nL Q S' kc ns np lv st) : WG p l e R s m args below meth c D B nL Q (XP D Λ Λ' I J L σ) kc ns pc lv (v :: .ref (Λ'.1 0 38) :: st) := g_putL F in_X0 tyX0 tyX0_ok nmX0 rfl k hk (TX0_c k) hlink hfin hd hn hfit (fun h hs => by
    obtain ⟨nm, km, kd, hr, hw⟩ := hs
    exact ⟨xF Λ' σ, hw.1 0 38 _ rfl, hk, hS h nm km kd hr hw⟩) d hp kk
end XRef
theorem XR.mono {Λ : LT} {I I' : AH} {L : LawT} {σ : MSt} (hI : IE I I') (h : XR Λ I L σ) : XR Λ I' L σ := by
  obtain ⟨a, b, c, d, e, f, g⟩ := h
  refine ⟨a, b, fun i hi => ?_, d, fun i hi => ?_, f, ?_⟩
  · obtain ⟨x, h1, h2⟩ := c i hi; exact ⟨x, h1, hI _ _ h2⟩
  · obtain ⟨x, h1, h2⟩ := e i hi; exact ⟨x, h1, hI _ _ h2⟩
  · cases L with
    | none => exact g
    | some ls => exact ⟨g.1, lnT_mono hI _ _ g.2⟩
theorem hup_out {I : AH} {a : Nat} {e : va_E} : ∀ b x, I b = some x → I a = none → (hup I a e) b = some x ∧ b ≠ a := fun b x hb hn => by
  have : b ≠ a := fun z => by rw [z, hn] at hb; cases hb
  exact ⟨by rw [hup_ne this]; exact hb, this⟩
/-- one owner more -/
theorem new_owner {D : va_G} {Λ : LT} {I : AH} {L : LawT} {σ : MSt} {a : Nat} {x : Int32} {h : AH} {nm km kd : Nat → Int32} (hIa : I a = none) (hr : XR Λ I L (hid σ nm km kd)) (hw : XW D (Λ.1, upR Λ.2 0 (σ.1 0) (some a)) (hup I a (.inr (3, [.int x]))) (hid σ nm km kd) h) : XH D (upL Λ.1 1 (σ.1 0) a, upR Λ.2 0 (σ.1 0) (some a)) I L (sN (sA σ 1 (σ.1 0) x) 0 (σ.1 0 + 1)) (hup h (Λ.1 0 38) (.inr (0, (xF (Λ.1, upR Λ.2 0 (σ.1 0) (some a)) σ).set 2 (.int (nI (σ.1 0 + 1)))))) := by
  refine ⟨nm, km, kd, ?_, ?_⟩
  · obtain ⟨r1, r2, r3, r4, r5, r6, r7⟩ := hr
    refine ⟨fun i hi => ?_, fun i hi => ?_, r3, r4, r5, r6, ?_⟩
    · have hi : i < σ.1 0 + 1 := hi
      show upR Λ.2 0 (σ.1 0) (some a) 0 i = some (upL Λ.1 1 (σ.1 0) a 1 i)
      rw [upR_k, upL_at]
      by_cases q : i = σ.1 0
      · rw [q, va_up_self, if_pos ⟨rfl, rfl⟩]
      · rw [va_up_ne _ _ q, if_neg (fun z => q z.2)]
        exact r1 i (by show i < σ.1 0; omega)
    · exact r2 i hi
    · exact r7
  · have hs1 : ∀ j, j ≠ 1 → (hid (sN (sA σ 1 (σ.1 0) x) 0 (σ.1 0 + 1)) nm km kd).2.1 j = (hid σ nm km kd).2.1 j := fun j hj => hid_congr (show (sA σ 1 (σ.1 0) x).2.1 j = σ.2.1 j from up2_n _ _ _ hj)
    refine XW.upA (Λ := (Λ.1, upR Λ.2 0 (σ.1 0) (some a))) (k := 0) (i := 38) (kA := 1) (iA := σ.1 0) (a0 := a) (eA := .inr (3, [.int x])) hw x38n ?_ ?_ ?_ ?_ ?_ (hup_self _ _ _) ?_ (fun b e hb => hup_out b e hb hIa)
    · rfl
    · intro k' i' hne
      show upL Λ.1 1 (σ.1 0) a k' i' = Λ.1 k' i'
      rw [upL_at, if_neg hne]
    · show upL Λ.1 1 (σ.1 0) a 1 (σ.1 0) = a
      rw [upL_at, if_pos ⟨rfl, rfl⟩]
    · exact fun z => absurd z.1 (by decide)
    · intro k' i' h1 h2
      match k', h1, h2 with
      | 0, h1, h2 =>
        have h38 : i' ≠ 38 := fun q => h1 ⟨rfl, q⟩
        refine Or.inr ?_
        rw [xC_0 _ _ _ h38, xC_0 _ _ _ h38]
        unfold xA
        rw [hs1 8 (by decide), hs1 37 (by decide), hs1 51 (by decide), hs1 52 (by decide), hs1 53 (by decide), hs1 54 (by decide)]
        rfl
      | 1, h1, h2 =>
        rw [xC_1, xC_1]
        unfold xc1
        have e1 : (hid (sN (sA σ 1 (σ.1 0) x) 0 (σ.1 0 + 1)) nm km kd).2.1 1 i' = (hid σ nm km kd).2.1 1 i' := by
          show (sA σ 1 (σ.1 0) x).2.1 1 i' = σ.2.1 1 i'
          rw [sA_2, if_neg (fun z => h2 ⟨rfl, z.2⟩)]
        rw [e1]
        by_cases q : i' < σ.1 0
        · exact Or.inr (by rw [if_pos (show i' < (hid (sN (sA σ 1 (σ.1 0) x) 0 (σ.1 0 + 1)) nm km kd).1 0 from by show i' < σ.1 0 + 1; omega), if_pos (show i' < (hid σ nm km kd).1 0 from q)])
        · exact Or.inl (if_neg (show ¬ i' < (hid (sN (sA σ 1 (σ.1 0) x) 0 (σ.1 0 + 1)) nm km kd).1 0 from by
            show ¬ i' < σ.1 0 + 1
            have : i' ≠ σ.1 0 := fun z => h2 ⟨rfl, z⟩
            omega))
      | 2, _, _ => exact Or.inr (by rw [xC_2, xC_2]; unfold xc2 xP; rw [hs1 3 (by decide), hs1 4 (by decide), hs1 5 (by decide)]; rfl)
      | 3, _, _ => exact Or.inr (by rw [xC_3, xC_3]; unfold xc3; rw [rowK_congr (hs1 38 (by decide))]; rfl)
      | 4, _, _ => exact Or.inr (by rw [xC_4, xC_4]; unfold xc4; rw [rowK_congr (hs1 38 (by decide)), xI_congr (hs1 39 (by decide)) rfl i'])
      | n + 5, _, _ => exact Or.inl rfl
    · rw [xC_1]
      unfold xc1
      rw [if_pos (show σ.1 0 < (hid (sN (sA σ 1 (σ.1 0) x) 0 (σ.1 0 + 1)) nm km kd).1 0 from Nat.lt_succ_self _)]
      show some (Sum.inr (3, [Value.int ((sA σ 1 (σ.1 0) x).2.1 1 (σ.1 0))])) = _
      rw [sA_2, if_pos ⟨rfl, rfl⟩]
