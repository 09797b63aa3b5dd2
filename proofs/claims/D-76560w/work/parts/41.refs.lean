/-! ROWS: arrays of references -/
set_option maxRecDepth 100000
section RefA
variable {p : Program} {l : Launch} {e : Env} {R : Room} {s : State} {m : MethodId} {args : Array Value} {below : List Frame} {meth : Method} {c : Code} {D : va_G} {E : State → Prop} {B nL : Nat} {Q : State → Prop}
variable {S S' : AH → Prop} {kc ns pc np : Nat} {lv lv' : List (Option Value)} {st st' rest : List Value} {own : String} {cc : ByteArray}
theorem g_aldq (F : FX p s m args meth c D E B nL own cc) {a t0 : Nat} {C : String} {i : Int32} {v : Option Nat} (ht : (zTy D)[t0]? = some (D.1 (100 + t0), .object C)) (hS : ∀ h, S h → ∃ (n : Nat) (f : Nat → Option Nat), h a = some (.inl (D.1 (100 + t0), n, .inr (.inr (.inr (.inr f))))) ∧ vp_in i n ∧ f i.toNatClampNeg = v) (d : decode cc pc = .ok (.aaload, 1)) (hp : pc + 1 = np) (kk : WG p l e R s m args below meth c D B nL Q S kc ns np lv (va_rf v :: st)) : WG p l e R s m args below meth c D B nL Q S kc ns pc lv (.int i :: .ref a :: st) := by
  subst hp
  intro h H locs ls hs hR hV hL
  obtain ⟨n, f, h1, h2, h3⟩ := hS h hs
  subst h3
  exact va_aldq F.1 F.2.1 F.2.2.2.2.2.1.1 (hR.one h1) 0 t0 rfl ht h2 d (kk h H locs ls hs hR hV hL)
theorem zcell_q {cA : ClassId} {n k : Nat} {f : Nat → Option Nat} {w : Option Nat} : (vp_cell cA (n, .inr (.inr (.inr (.inr f))))).setSlot k (va_rf w) = vp_cell cA (n, .inr (.inr (.inr (.inr (va_up f k w))))) := by
  rw [vp_cell_q, vp_cell_q, arrV_store]
  congr 2
  funext q
  by_cases hq : q = k
  · subst hq
    simp [updV, va_up]
  · simp [updV, va_up, hq]
theorem g_astq (F : FX p s m args meth c D E B nL own cc) {a t0 ci v : Nat} {r : vw_C} {i : Int32} (ht : (zTy D)[t0]? = some (D.1 (100 + t0), .object r.1)) (hc : zCl[ci]? = some r) (hS : ∀ h, S h → (∃ vs, h v = some (.inr (ci, vs))) ∧ ∃ (n : Nat) (f : Nat → Option Nat), h a = some (.inl (D.1 (100 + t0), n, .inr (.inr (.inr (.inr f))))) ∧ vp_in i n ∧ S' (hup h a (.inl (D.1 (100 + t0), n, .inr (.inr (.inr (.inr (va_up f i.toNatClampNeg (some v))))))))) (d : decode cc pc = .ok (.aastore, 1)) (hp : pc + 1 = np) (kk : WG p l e R s m args below meth c D B nL Q S' kc ns np lv st) : WG p l e R s m args below meth c D B nL Q S kc ns pc lv (.ref v :: .int i :: .ref a :: st) := by
  subst hp
  intro h H locs ls hs hR hV hL
  obtain ⟨⟨vs, hv⟩, n, f, h1, h2, h3⟩ := hS h hs
  have hK := F.2.2.2.2.2.1.1
  have hlt : i.toNatClampNeg < n := Nat.not_le.mp fun q => h2 (Or.inr q)
  have h0 : ¬ i < 0 := fun q => h2 (Or.inl q)
  obtain ⟨r', hr', cellV, g1, g2, g3, -⟩ := (hR.2 _ _ hv).2
  have hcls := (hK.1 ci r hc).2
  obtain ⟨kA, comp, k1, k2, k3, -⟩ := (hK.2 t0 _ ht).2
  have hcomp : comp = D.1 ci := Option.some.inj (k3.symm.trans hcls.1)
  subst hcomp
  obtain ⟨kC, hkC, -⟩ := hcls.2
  refine W.aast F.1 F.2.1 (hR.2 _ _ h1).2 (fun q h => by cases h) (fun h => by cases h) k1 k2 rfl hkC ⟨h0, by show _ < (arrV _ _ _).slots.size; rw [arrV_size]; exact hlt⟩ g1 (fun q h => by rw [g3] at h; cases h) (by rw [g2]; exact hkC) (by rw [g2]; exact va_assign hcls) rfl rfl d fun H1 e z oq => ?_
  exact kk _ H1 _ ls h3 (hR.set (hR.2 _ _ h1).1 (e.trans (congrArg some (zcell_q (w := some v)))) z oq) (hV.put z oq (hR.2 _ _ h1).1) hL
theorem g_astqN (F : FX p s m args meth c D E B nL own cc) {a t0 : Nat} {C : String} {i : Int32} (ht : (zTy D)[t0]? = some (D.1 (100 + t0), .object C)) (hS : ∀ h, S h → ∃ (n : Nat) (f : Nat → Option Nat), h a = some (.inl (D.1 (100 + t0), n, .inr (.inr (.inr (.inr f))))) ∧ vp_in i n ∧ S' (hup h a (.inl (D.1 (100 + t0), n, .inr (.inr (.inr (.inr (va_up f i.toNatClampNeg none)))))))) (d : decode cc pc = .ok (.aastore, 1)) (hp : pc + 1 = np) (kk : WG p l e R s m args below meth c D B nL Q S' kc ns np lv st) : WG p l e R s m args below meth c D B nL Q S kc ns pc lv (.null :: .int i :: .ref a :: st) := by
  subst hp
  intro h H locs ls hs hR hV hL
  obtain ⟨n, f, h1, h2, h3⟩ := hS h hs
  have hK := F.2.2.2.2.2.1.1
  refine va_WaastN (C := C) F.1 F.2.1 (hR.2 _ _ h1).2 ((hK.2 t0 _ ht).1 n (fun j => va_rf (f j))) (fun h => by cases h) (by show ¬ (i < 0 ∨ (arrV _ _ _).slots.size ≤ _); rw [arrV_size]; exact h2) rfl rfl d fun H1 e z oq => ?_
  exact kk _ H1 _ ls h3 (hR.set (hR.2 _ _ h1).1 (e.trans (congrArg some (zcell_q (w := none)))) z oq) (hV.put z oq (hR.2 _ _ h1).1) hL
end RefA
