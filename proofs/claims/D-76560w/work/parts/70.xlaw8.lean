/-! X: shelves and bodies: plain laws, rows -/
set_option maxRecDepth 100000
/-- the class of a body may lie where A is asked -/
def asP (E : State → Prop) (C A : String) : Prop := (∀ U, E U → va_Nw (.castable C A) U) ∨ C = A
theorem asStorey : ∀ k, k ≤ 7 → ∃ r, zCl[15 + k]? = some r ∧ asP ZE r.1 "PromiseRoofs$Storey" := fun k hk => all8 (P := fun k => ∃ r, zCl[15 + k]? = some r ∧ asP ZE r.1 "PromiseRoofs$Storey") hk ⟨_, rfl, Or.inr rfl⟩ ⟨_, rfl, Or.inl ze2075⟩ ⟨_, rfl, Or.inl ze2076⟩ ⟨_, rfl, Or.inl ze2080⟩ ⟨_, rfl, Or.inl ze2081⟩ ⟨_, rfl, Or.inl ze2079⟩ ⟨_, rfl, Or.inl ze2077⟩ ⟨_, rfl, Or.inl ze2078⟩
theorem asHeld : ∀ k, k ≤ 7 → ∃ r, zCl[15 + k]? = some r ∧ asP ZE r.1 "PromiseRoofs$Held" := fun k hk => all8 (P := fun k => ∃ r, zCl[15 + k]? = some r ∧ asP ZE r.1 "PromiseRoofs$Held") hk ⟨_, rfl, Or.inl ze2089⟩ ⟨_, rfl, Or.inl ze2082⟩ ⟨_, rfl, Or.inl ze2083⟩ ⟨_, rfl, Or.inl ze2084⟩ ⟨_, rfl, Or.inl ze2085⟩ ⟨_, rfl, Or.inl ze2086⟩ ⟨_, rfl, Or.inl ze2087⟩ ⟨_, rfl, Or.inl ze2088⟩
theorem asRow : ∀ k, k < 5 → ∃ r, zCl[24 + k]? = some r ∧ asP ZE r.1 "PromiseRoofs$Held" := by
  intro k hk
  rcases (show k = 0 ∨ k = 1 ∨ k = 2 ∨ k = 3 ∨ k = 4 by omega) with rfl | rfl | rfl | rfl | rfl
  · exact ⟨_, rfl, Or.inl ze2090⟩
  · exact ⟨_, rfl, Or.inl ze2091⟩
  · exact ⟨_, rfl, Or.inl ze2092⟩
  · exact ⟨_, rfl, Or.inl ze2093⟩
  · exact ⟨_, rfl, Or.inl ze2094⟩
section XRefS
variable {p : Program} {l : Launch} {e : Env} {R : Room} {s : State} {m : MethodId} {args : Array Value} {below : List Frame} {meth : Method} {c : Code} {D : va_G} {E : State → Prop} {B nL : Nat} {Q : State → Prop}
variable {S S' : AH → Prop} {kc ns pc np : Nat} {lv lv' : List (Option Value)} {st st' rest : List Value} {own : String} {cc : ByteArray}
theorem g_astqS (F : FX p s m args meth c D E B nL own cc) {a t0 ci v : Nat} {r : vw_C} {A : String} {i : Int32} (ht : (zTy D)[t0]? = some (D.1 (100 + t0), .object A)) (hc : zCl[ci]? = some r) (hz : asP E r.1 A) (hS : ∀ h, S h → (∃ vs, h v = some (.inr (ci, vs))) ∧ ∃ (n : Nat) (f : Nat → Option Nat), h a = some (.inl (D.1 (100 + t0), n, .inr (.inr (.inr (.inr f))))) ∧ vp_in i n ∧ S' (hup h a (.inl (D.1 (100 + t0), n, .inr (.inr (.inr (.inr (va_up f i.toNatClampNeg (some v))))))))) (d : decode cc pc = .ok (.aastore, 1)) (hp : pc + 1 = np) (kk : WG p l e R s m args below meth c D B nL Q S' kc ns np lv st) : WG p l e R s m args below meth c D B nL Q S kc ns pc lv (.ref v :: .int i :: .ref a :: st) := by
  rcases hz with hz | rfl
  · subst hp
    intro h H locs ls hs hR hV hL
    obtain ⟨⟨vs, hv⟩, n, f, h1, h2, h3⟩ := hS h hs
    have hK := F.2.2.2.2.2.1.1
    have hlt : i.toNatClampNeg < n := Nat.not_le.mp fun q => h2 (Or.inr q)
    have h0 : ¬ i < 0 := fun q => h2 (Or.inl q)
    obtain ⟨r', hr', cellV, g1, g2, g3, -⟩ := (hR.2 _ _ hv).2
    have hcls := (hK.1 ci r hc).2
    obtain ⟨kA, comp, k1, k2, k3, -⟩ := (hK.2 t0 _ ht).2
    have hz2 : (Cond.castable r.1 A).before #[] s = true := va_Nw.use rfl (hz s F.2.2.2.2.2.1.2)
    obtain ⟨c3, t3, w1, w2, w3⟩ := Cond.castable_spec hz2
    cases k3.symm.trans w2
    cases hcls.1.symm.trans w1
    obtain ⟨kC, hkC, -⟩ := hcls.2
    obtain ⟨kT, hkT, -⟩ := Vm.findClass_spec w2
    refine W.aast F.1 F.2.1 (hR.2 _ _ h1).2 (fun q h => by cases h) (fun h => by cases h) k1 k2 rfl hkT ⟨h0, by show _ < (arrV _ _ _).slots.size; rw [arrV_size]; exact hlt⟩ g1 (fun q h => by rw [g3] at h; cases h) (by rw [g2]; exact hkC) (by rw [g2]; exact w3) rfl rfl d fun H1 e z oq => ?_
    exact kk _ H1 _ ls h3 (hR.set (hR.2 _ _ h1).1 (e.trans (congrArg some (zcell_q (w := some v)))) z oq) (hV.put z oq (hR.2 _ _ h1).1) hL
  · exact g_astq F ht hc hS d hp kk
end XRefS
section XRefT
variable {p : Program} {l : Launch} {e : Env} {R : Room} {s : State} {m : MethodId} {args : Array Value} {below : List Frame} {meth : Method} {c : Code} {D : va_G} {E : State → Prop} {B nL : Nat} {Q : State → Prop}
variable {kc ns pc np : Nat} {lv lv' : List (Option Value)} {st st' rest : List Value} {own : String} {cc : ByteArray} {Λ Λ' : LT} {I J : AH} {L : LawT} {σ σ' : MSt}
/-- as x_astq, of a class below the array's -/
theorem x_astqS (F : FX p s m args meth c D E B nL own cc) {k i n t0 ci a : Nat} {r : vw_C} {A : String} {x : Int32} {fs : List Value} (ht : (zTy D)[t0]? = some (D.1 (100 + t0), .object A)) (hc : zCl[ci]? = some r) (hz : asP E r.1 A) (h11 : k ≠ 11) (h38 : k ≠ 38) (hA : ∀ (Λ : LT) (τ : MSt), xA D Λ τ k = some (xrefs (D.1 (100 + t0)) n (Λ.2 k))) (hn : n < 2 ^ 31) (hi : i < n) (e0 : x = nI i) (d : decode cc pc = .ok (.aastore, 1)) (hp : pc + 1 = np) (kk : I a = none → WG p l e R s m args below meth c D B nL Q (XP D Λ (Λ.1, upR Λ.2 k i (some a)) I (hup I a (.inr (ci, fs))) L σ) kc ns np lv st) : WG p l e R s m args below meth c D B nL Q (Fr B (XH D Λ I L σ) a (.inr (ci, fs))) kc ns pc lv (.ref a :: .int x :: .ref (Λ.1 0 k) :: st) := by
  refine WG.obt (P := I a = none) (fun h hs => (XH.fr hs).1) (fun hIa => ?_)
  refine g_astqS F ht hc hz (fun h hs => ?_) d hp (kk hIa)
  obtain ⟨-, nm, km, kd, hr, hw⟩ := XH.fr hs
  have hk : xC D Λ (hid σ nm km kd) 0 k = some (xrefs (D.1 (100 + t0)) n (Λ.2 k)) := (xC_0 _ _ _ h38).trans (hA _ _)
  refine ⟨⟨fs, hw.2.2.1 a _ (hup_self _ _ _)⟩, n, Λ.2 k, hw.1 0 k _ hk, (m_in hn hi e0).1, nm, km, kd, hr, ?_⟩
  rw [(m_in hn hi e0).2]
  refine hw.up (k := 0) (i := k) (by rw [hk]; exact fun q => by cases q) ?_ (xC_ref h11 i (some a)) rfl
  rw [xC_0 _ _ _ h38, hA, show (Λ.1, upR Λ.2 k i (some a)).2 k = va_up (Λ.2 k) i (some a) from upR_k _ _ _ _]
  rfl
/-- a new body goes among the bodies -/
theorem x_astB (F : FX p s m args meth c D ZE B nL own cc) {i kd b a : Nat} {x : Int32} (hkd : kd ≤ 7) (hi : i < 50) (e0 : x = nI i) (d : decode cc pc = .ok (.aastore, 1)) (hp : pc + 1 = np) (kk : I a = none → WG p l e R s m args below meth c D B nL Q (XP D Λ (Λ.1, upR Λ.2 35 i (some a)) I (hup I a (bCell (Λ.1 0 38) kd b)) L σ) kc ns np lv st) : WG p l e R s m args below meth c D B nL Q (Fr B (XH D Λ I L σ) a (bCell (Λ.1 0 38) kd b)) kc ns pc lv (.ref a :: .int x :: .ref (Λ.1 0 35) :: st) := by
  obtain ⟨r, h1, h2⟩ := asStorey kd hkd
  exact x_astqS F (k := 35) (n := 50) (t0 := 8) rfl h1 h2 (by decide) (by decide) (fun _ _ => rfl) (by decide) hi e0 d hp kk
/-- what is known goes on a shelf -/
theorem w_astH (F : FX p s m args meth c D ZE B nL own cc) {i kd b a q : Nat} {x : Int32} (hI : I a = some (bCell q kd b)) (hkd : kd ≤ 7) (hi : i < 6) (e0 : x = nI i) (d : decode cc pc = .ok (.aastore, 1)) (hp : pc + 1 = np) (kk : WG p l e R s m args below meth c D B nL Q (XW D (Λ.1, upR Λ.2 37 i (some a)) I σ) kc ns np lv st) : WG p l e R s m args below meth c D B nL Q (XW D Λ I σ) kc ns pc lv (.ref a :: .int x :: .ref (Λ.1 0 37) :: st) := by
  obtain ⟨r, h1, h2⟩ := asHeld kd hkd
  refine g_astqS F (t0 := 9) rfl h1 h2 (fun h hw => ?_) d hp kk
  have hk : xC D Λ σ 0 37 = some (xrefs (D.1 109) 6 (Λ.2 37)) := rfl
  refine ⟨⟨_, hw.2.2.1 a _ hI⟩, 6, Λ.2 37, hw.1 0 37 _ hk, (m_in (by decide) hi e0).1, ?_⟩
  rw [(m_in (by decide) hi e0).2]
  refine hw.up (k := 0) (i := 37) (by rw [hk]; exact fun q => by cases q) ?_ (xC_ref (by decide) i (some a)) rfl
  rw [xC_0 _ _ _ (by decide)]
  show some (xrefs _ _ (upR Λ.2 37 i (some a) 37)) = _
  rw [upR_k]
  rfl
theorem w_astHN (F : FX p s m args meth c D E B nL own cc) {i : Nat} {x : Int32} (hi : i < 6) (e0 : x = nI i) (d : decode cc pc = .ok (.aastore, 1)) (hp : pc + 1 = np) (kk : WG p l e R s m args below meth c D B nL Q (XW D (Λ.1, upR Λ.2 37 i none) I σ) kc ns np lv st) : WG p l e R s m args below meth c D B nL Q (XW D Λ I σ) kc ns pc lv (.null :: .int x :: .ref (Λ.1 0 37) :: st) := by
  refine g_astqN F (t0 := 9) rfl (fun h hw => ?_) d hp kk
  have hk : xC D Λ σ 0 37 = some (xrefs (D.1 109) 6 (Λ.2 37)) := rfl
  refine ⟨6, Λ.2 37, hw.1 0 37 _ hk, (m_in (by decide) hi e0).1, ?_⟩
  rw [(m_in (by decide) hi e0).2]
  refine hw.up (k := 0) (i := 37) (by rw [hk]; exact fun q => by cases q) ?_ (xC_ref (by decide) i none) rfl
  rw [xC_0 _ _ _ (by decide)]
  show some (xrefs _ _ (upR Λ.2 37 i none 37)) = _
  rw [upR_k]
  rfl
end XRefT
theorem XH.bod {D : va_G} {Λ : LT} {I : AH} {L : LawT} {σ : MSt} {h : AH} (hs : XH D Λ I L σ h) {b : Nat} (hb : b < σ.1 34) : ∃ a, Λ.2 35 b = some a ∧ I a = some (bCell (Λ.1 0 38) (kdN σ b) b) := by
  obtain ⟨nm, km, kd, hr, -⟩ := hs
  exact hr.2.2.2.2.1 b hb
/-- what a shelf's number says is no row -/
theorem rowK_no {σ : MSt} {i : Nat} (h : σ.2.1 38 i = -1 ∨ ∃ b, b < 60 ∧ σ.2.1 38 i = nI (10 + b)) : rowK σ i = none := by
  unfold rowK
  refine if_neg (fun z => ?_)
  rcases h with h | ⟨b, hb, h⟩
  · exact z.2.1 (by rw [h]; decide)
  · have := z.2.2
    rw [h, nI_clamp (by omega)] at this
    omega
theorem rowK_at {σ σ' : MSt} {i : Nat} (h : σ'.2.1 38 i = σ.2.1 38 i) : rowK σ' i = rowK σ i := by
  unfold rowK
  rw [h]
/-- a shelf holds another thing, no row -/
theorem keep_close {D : va_G} {Λ : LT} {I : AH} {L : LawT} {σ : MSt} {nm km kd : Nat → Int32} {h : AH} {i : Nat} {v : Int32} {r : Option Nat} (hi : i < 6) (h34 : σ.1 34 ≤ 50) (hv : (v = -1 ∧ r = none) ∨ (∃ b, b < σ.1 34 ∧ v = nI (10 + b) ∧ r = Λ.2 35 b)) (hr : XR Λ I L (hid σ nm km kd)) (hw : XW D (Λ.1, upR Λ.2 37 i r) I (hid σ nm km kd) h) : XH D (Λ.1, upR Λ.2 37 i r) I L (sA (sA σ 38 i v) 39 i 0) h := by
  have hn : ∀ j, j ≠ 38 → j ≠ 39 → (hid (sA (sA σ 38 i v) 39 i 0) nm km kd).2.1 j = (hid σ nm km kd).2.1 j := fun j h1 h2 => hid_congr ((up2_n _ _ _ h2).trans (up2_n _ _ _ h1))
  have e38 : ∀ s, (hid (sA (sA σ 38 i v) 39 i 0) nm km kd).2.1 38 s = if s = i then v else σ.2.1 38 s := fun s => by
    show (sA (sA σ 38 i v) 39 i 0).2.1 38 s = _
    rw [sA_2, if_neg (fun z => absurd z.1 (by decide)), sA_2]
    by_cases q : s = i
    · rw [if_pos ⟨rfl, q⟩, if_pos q]
    · rw [if_neg (fun z => q z.2), if_neg q]
  have hno : rowK (hid (sA (sA σ 38 i v) 39 i 0) nm km kd) i = none := by
    refine rowK_no ?_
    rw [e38 i, if_pos rfl]
    rcases hv with ⟨h1, -⟩ | ⟨b, h1, h2, -⟩
    · exact Or.inl h1
    · exact Or.inr ⟨b, by omega, h2⟩
  have hrk : ∀ s, s ≠ i → rowK (hid (sA (sA σ 38 i v) 39 i 0) nm km kd) s = rowK (hid σ nm km kd) s := fun s hs => rowK_at (by rw [e38 s, if_neg hs]; rfl)
  refine ⟨nm, km, kd, ?_, ?_⟩
  · obtain ⟨r1, r2, r3, r4, r5, r6, r7⟩ := hr
    refine ⟨r1, r2, fun e he => ?_, ⟨fun i hi => ?_, fun i hi => ?_⟩, fun b hb => ?_, fun s hs => ?_, r7⟩
    · rw [hn 33 (by decide) (by decide)]; exact r3 e he
    · rw [hn 53 (by decide) (by decide), hn 29 (by decide) (by decide)]; exact r4.1 i hi
    · rw [hn 54 (by decide) (by decide), hn 29 (by decide) (by decide)]; exact r4.2 i hi
    · unfold kdN
      rw [hn 35 (by decide) (by decide)]
      exact r5 b hb
    · rw [e38 s]
      show (_ → upR Λ.2 37 i r 37 s = none) ∧ (∀ b, b < σ.1 34 → _ → upR Λ.2 37 i r 37 s = Λ.2 35 b) ∧ ∀ k, _ → upR Λ.2 37 i r 37 s = some (Λ.1 3 s)
      rw [upR_k]
      by_cases q : s = i
      · subst q
        rw [if_pos rfl, va_up_self, hno]
        refine ⟨fun z => ?_, fun b hb z => ?_, fun k z => by cases z⟩
        · rcases hv with ⟨-, h2⟩ | ⟨b, hb, h2, -⟩
          · exact h2
          · exact absurd (h2.symm.trans z) (fun w => by
              have := congrArg Int32.toNatClampNeg w
              rw [nI_clamp (by omega)] at this
              exact absurd this (by show ¬ 10 + b = 0; omega))
        · rcases hv with ⟨h1, -⟩ | ⟨b', hb', h2, h3⟩
          · exact absurd (h1.symm.trans z) (fun w => by
              have := congrArg Int32.toNatClampNeg w
              rw [nI_clamp (by omega)] at this
              exact absurd this (by show ¬ 0 = 10 + b; omega))
          · have := (nI_eq (by omega) (by omega)).mp (h2.symm.trans z)
            rw [h3, show b' = b by omega]
      · rw [if_neg q, va_up_ne _ _ q, hrk s q]
        exact r6 s hs
  · refine hw.less (fun k' i' => ?_) rfl (fun _ _ q => q)
    match k' with
    | 0 =>
      refine Or.inr ?_
      by_cases h38 : i' = 38
      · rw [h38, x38, x38]
        unfold xF
        rw [hn 25 (by decide) (by decide), hn 50 (by decide) (by decide), hn 29 (by decide) (by decide), hn 30 (by decide) (by decide)]
        rfl
      · rw [xC_0 _ _ _ h38, xC_0 _ _ _ h38]
        unfold xA
        rw [hn 8 (by decide) (by decide), hn 37 (by decide) (by decide), hn 51 (by decide) (by decide), hn 52 (by decide) (by decide), hn 53 (by decide) (by decide), hn 54 (by decide) (by decide)]
    | 1 => exact Or.inr (by rw [xC_1, xC_1]; unfold xc1; rw [hn 1 (by decide) (by decide)]; rfl)
    | 2 => exact Or.inr (by rw [xC_2, xC_2]; unfold xc2 xP; rw [hn 3 (by decide) (by decide), hn 4 (by decide) (by decide), hn 5 (by decide) (by decide)]; rfl)
    | 3 =>
      rw [xC_3, xC_3]
      unfold xc3
      by_cases q : i' = i
      · subst q; rw [hno]; exact Or.inl rfl
      · rw [hrk i' q]; exact Or.inr rfl
    | 4 =>
      rw [xC_4, xC_4]
      unfold xc4
      by_cases q : i' = i
      · subst q; rw [hno]; exact Or.inl rfl
      · rw [hrk i' q]
        have : xItems D (hid (sA (sA σ 38 i v) 39 i 0) nm km kd) i' = xItems D (hid σ nm km kd) i' := by
          unfold xItems lenN
          rw [show (hid (sA (sA σ 38 i v) 39 i 0) nm km kd).2.1 39 i' = (hid σ nm km kd).2.1 39 i' from by
            show (sA (sA σ 38 i v) 39 i 0).2.1 39 i' = σ.2.1 39 i'
            rw [sA_2, if_neg (fun z => q z.2), sA_2, if_neg (fun z => absurd z.1 (by decide))]]
          rfl
        rw [this]
        exact Or.inr rfl
    | n + 5 => exact Or.inl rfl
/-- one body more -/
theorem new_body {D : va_G} {Λ : LT} {I : AH} {L : LawT} {σ : MSt} {a k : Nat} {h : AH} {nm km kd : Nat → Int32} (hk : k ≤ 7) (h34 : σ.1 34 < 50) (hho : hoOK σ) (hIa : I a = none) (hr : XR Λ I L (hid σ nm km kd)) (hw : XW D (Λ.1, upR Λ.2 35 (σ.1 34) (some a)) (hup I a (bCell (Λ.1 0 38) k (σ.1 34))) (hid σ nm km kd) h) : XH D (Λ.1, upR Λ.2 35 (σ.1 34) (some a)) (hup I a (bCell (Λ.1 0 38) k (σ.1 34))) L (sN (sA σ 35 (σ.1 34) (nI k)) 34 (σ.1 34 + 1)) (hup h (Λ.1 0 38) (.inr (0, (xF (Λ.1, upR Λ.2 35 (σ.1 34) (some a)) σ).set 36 (.int (nI (σ.1 34 + 1)))))) := by
  have hn : ∀ j, j ≠ 35 → (hid (sN (sA σ 35 (σ.1 34) (nI k)) 34 (σ.1 34 + 1)) nm km kd).2.1 j = (hid σ nm km kd).2.1 j := fun j hj => hid_congr (up2_n _ _ _ hj)
  have ek : ∀ b, kdN (hid (sN (sA σ 35 (σ.1 34) (nI k)) 34 (σ.1 34 + 1)) nm km kd) b = if b = σ.1 34 then k else kdN σ b := fun b => by
    unfold kdN
    show ((sA σ 35 (σ.1 34) (nI k)).2.1 35 b).toNatClampNeg = _
    rw [sA_2]
    by_cases q : b = σ.1 34
    · rw [if_pos ⟨rfl, q⟩, if_pos q, nI_clamp (by omega)]
    · rw [if_neg (fun z => q z.2), if_neg q]
  refine ⟨nm, km, kd, ?_, ?_⟩
  · obtain ⟨r1, r2, r3, r4, r5, r6, r7⟩ := XR.mono (IE.hup hIa) hr
    refine ⟨r1, r2, fun e he => ?_, ⟨fun i hi => ?_, fun i hi => ?_⟩, fun b hb => ?_, fun s hs => ?_, r7⟩
    · rw [hn 33 (by decide)]; exact r3 e he
    · rw [hn 53 (by decide), hn 29 (by decide)]; exact r4.1 i hi
    · rw [hn 54 (by decide), hn 29 (by decide)]; exact r4.2 i hi
    · have hb : b < σ.1 34 + 1 := hb
      show ∃ c, upR Λ.2 35 (σ.1 34) (some a) 35 b = some c ∧ _
      rw [upR_k, ek b]
      by_cases q : b = σ.1 34
      · subst q
        exact ⟨a, va_up_self _ _ _, by rw [if_pos rfl, hup_self]⟩
      · rw [va_up_ne _ _ q, if_neg q]
        exact r5 b (by show b < σ.1 34; omega)
    · rw [hn 38 (by decide), rowK_congr (hn 38 (by decide))]
      obtain ⟨s1, s2, s3⟩ := r6 s hs
      refine ⟨s1, fun b hb z => ?_, s3⟩
      have hb : b < σ.1 34 + 1 := hb
      show Λ.2 37 s = upR Λ.2 35 (σ.1 34) (some a) 35 b
      rw [upR_k]
      by_cases q : b = σ.1 34
      · exfalso
        have z : σ.2.1 38 s = nI (10 + b) := z
        rcases hho s hs with w | w | ⟨b', w1, w2⟩
        · have := congrArg Int32.toNatClampNeg (w.symm.trans z)
          rw [nI_clamp (by omega)] at this
          exact absurd this (by show ¬ 0 = 10 + b; omega)
        · obtain ⟨u1, u2⟩ := inN_cl (by decide) w
          rw [z, nI_clamp (by omega)] at u1
          omega
        · have := (nI_eq (by omega) (by omega)).mp (w2.symm.trans z)
          omega
      · rw [va_up_ne _ _ q]
        exact s2 b (by show b < σ.1 34; omega) z
  · refine XW.up (Λ := (Λ.1, upR Λ.2 35 (σ.1 34) (some a))) (k := 0) (i := 38) hw x38n ?_ (fun k' i' hne => Or.inr ?_) rfl
    · rw [x38]
      unfold xF
      rw [hn 25 (by decide), hn 50 (by decide), hn 29 (by decide), hn 30 (by decide)]
      rfl
    · exact xC_congr (σ := hid σ nm km kd) (σ' := hid (sN (sA σ 35 (σ.1 34) (nI k)) 34 (σ.1 34 + 1)) nm km kd) rfl (fun _ _ => rfl) rfl rfl (fun j hj => hn j (by rintro rfl; cases hj)) rfl k' i' hne
