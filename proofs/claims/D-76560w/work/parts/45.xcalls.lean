/-! X: calls to nest mates, what a written field changes, arrays -/
set_option maxRecDepth 100000
section XCall
variable {p : Program} {l : Launch} {e : Env} {R : Room} {s : State} {m : MethodId} {args : Array Value} {below : List Frame} {meth : Method} {c : Code} {D : va_G} {E : State → Prop} {B nL : Nat} {Q : State → Prop}
variable {S S' : AH → Prop} {kc ns pc np : Nat} {lv lv' : List (Option Value)} {st st' rest : List Value} {own : String} {cc : ByteArray}
theorem g_runVN (F : FX p s m args meth c D E B nL own cc) {C host : String} {index b ci n nLy fr lo mc ms N : Nat} {T0 : u_T} {y : MethodName} {bytes : ByteArray} {ret : Option FieldType} {As : List Value} {T : Option Value → AH → Prop}
    (hC : Ct l D E B y bytes nLy ret fr lo mc ms (.ref b :: As) S T) (hl : ∀ U, E U → va_Nw (.methodLinkNest own index y host) U) (him : Cond.instanceMethod y ∈ lw_all) (hsel : Cond.selects C y y ∈ lw_all) (hini : Cond.initialized y.cls ∈ lw_all) (hcode : Cond.code y bytes nLy ret ∈ lw_all) (hcl : y.cls ≠ "java/lang/invoke/MethodHandle" ∧ y.cls ≠ "java/lang/invoke/VarHandle" ∧ (parseMethodDescriptor y.desc).map (fun d => d.parameters.length) = some n) (hroom : fr + 1 ≤ R.frames ∧ 8 + (nLy + 11) + lo ≤ R.locals) (hc : zCl[ci]? = some (C, T0, N)) (hb : ∀ h, S h → ∃ fs, h b = some (.inr (ci, fs))) (hn : As.length = n) (hst : st = As.reverse ++ .ref b :: rest) (hW : (rest.map fun v => v.category).sum ≤ 8) (d : decode cc pc = .ok (.invokevirtual index, 3)) (hf : kc + mc ≤ R.cells ∧ ns + ms ≤ R.slots) (hp : pc + 3 = np)
    (kk : ∀ v, WG p l e R s m args below meth c D B nL Q (T v) (kc + mc) (ns + ms) np lv (v.toList ++ rest)) : WG p l e R s m args below meth c D B nL Q S kc ns pc lv st := by
  have hts := F.2.2.2.2.1
  refine g_call (a := (Value.ref b :: As).toArray) (As := As) (dp := 3) st (fun h H locs ls hs hR hL => ?_) hp kk
  obtain ⟨fs, hbf⟩ := hb h hs
  exact va_runVN (C := C) (g := F0 m pc ls st) ⟨F.1, F.2.1, F.2.2.1, F.2.2.2.1, F.2.2.2.2.1⟩ hC ⟨va_cnB n F.2.2.2.2.1 (lw_meth hcode) rfl rfl rfl (hl s F.2.2.2.2.2.1.2) (hts _ hini) hcl hroom, hts _ him, hts _ hsel⟩ ⟨pre_blind F.2.2.2.2.2.2.1, g_recv F.2.2.2.2.2.1 hR hc hbf, pre_at F.2.2.2.2.2.2.1 F.2.2.2.2.2.1 hs hR⟩ rfl hn hL.1 hst (lv_room hW) d hf
theorem g_runSN (F : FX p s m args meth c D E B nL own cc) {host : String} {index n nLy fr lo mc ms : Nat} {y : MethodName} {bytes : ByteArray} {ret : Option FieldType} {As : List Value} {T : Option Value → AH → Prop}
    (hC : Ct l D E B y bytes nLy ret fr lo mc ms As S T) (hl : ∀ U, E U → va_Nw (.methodLinkNest own index y host) U) (hstat : Cond.static y ∈ lw_all) (hini : Cond.initialized y.cls ∈ lw_all) (hcode : Cond.code y bytes nLy ret ∈ lw_all) (hcl : y.cls ≠ "java/lang/invoke/MethodHandle" ∧ y.cls ≠ "java/lang/invoke/VarHandle" ∧ (parseMethodDescriptor y.desc).map (fun d => d.parameters.length) = some n) (hroom : fr + 1 ≤ R.frames ∧ 8 + (nLy + 11) + lo ≤ R.locals) (hn : As.length = n) (hst : st = As.reverse ++ rest) (hW : (rest.map fun v => v.category).sum ≤ 8) (d : decode cc pc = .ok (.invokestatic index, 3)) (hf : kc + mc ≤ R.cells ∧ ns + ms ≤ R.slots) (hp : pc + 3 = np)
    (kk : ∀ v, WG p l e R s m args below meth c D B nL Q (T v) (kc + mc) (ns + ms) np lv (v.toList ++ rest)) : WG p l e R s m args below meth c D B nL Q S kc ns pc lv st := by
  have hts := F.2.2.2.2.1
  refine g_call (a := As.toArray) (As := As) (dp := 3) st (fun h H locs ls hs hR hL => ?_) hp kk
  exact va_runSN (g := F0 m pc ls st) ⟨F.1, F.2.1, F.2.2.1, F.2.2.2.1, F.2.2.2.2.1⟩ hC ⟨va_cnB n F.2.2.2.2.1 (lw_meth hcode) rfl rfl rfl (hl s F.2.2.2.2.2.1.2) (hts _ hini) hcl hroom, hts _ hstat, trivial⟩ ⟨pre_blind F.2.2.2.2.2.2.1, pre_at F.2.2.2.2.2.2.1 F.2.2.2.2.2.1 hs hR⟩ rfl hn hL.1 hst (lv_room hW) d hf
theorem g_runIN (F : FX p s m args meth c D E B nL own cc) {host : String} {index b n nLy fr lo mc ms : Nat} {y : MethodName} {bytes : ByteArray} {As : List Value} {T : Option Value → AH → Prop}
    (hC : Ct l D E B y bytes nLy none fr lo mc ms (.ref b :: As) S T) (hl : ∀ U, E U → va_Nw (.methodLinkNest own index y host) U) (him : Cond.instanceMethod y ∈ lw_all) (hini : Cond.initialized y.cls ∈ lw_all) (hcode : Cond.code y bytes nLy none ∈ lw_all) (hy1 : y.name = "<init>") (hcl : y.cls ≠ "java/lang/invoke/MethodHandle" ∧ y.cls ≠ "java/lang/invoke/VarHandle" ∧ (parseMethodDescriptor y.desc).map (fun d => d.parameters.length) = some n) (hroom : fr + 1 ≤ R.frames ∧ 8 + (nLy + 11) + lo ≤ R.locals) (hn : As.length = n) (hst : st = As.reverse ++ .ref b :: rest) (hW : (rest.map fun v => v.category).sum ≤ 8) (d : decode cc pc = .ok (.invokespecial index, 3)) (hf : kc + mc ≤ R.cells ∧ ns + ms ≤ R.slots) (hp : pc + 3 = np)
    (kk : ∀ v, WG p l e R s m args below meth c D B nL Q (T v) (kc + mc) (ns + ms) np lv (v.toList ++ rest)) : WG p l e R s m args below meth c D B nL Q S kc ns pc lv st := by
  have hts := F.2.2.2.2.1
  refine g_call (a := (Value.ref b :: As).toArray) (As := As) (dp := 3) st (fun h H locs ls hs hR hL => ?_) hp kk
  exact va_runIN (g := F0 m pc ls st) ⟨F.1, F.2.1, F.2.2.1, F.2.2.2.1, F.2.2.2.2.1⟩ hC ⟨va_cnB n F.2.2.2.2.1 (lw_meth hcode) rfl rfl rfl (hl s F.2.2.2.2.2.1.2) (hts _ hini) hcl hroom, hy1, hts _ him⟩ ⟨pre_blind F.2.2.2.2.2.2.1, pre_at F.2.2.2.2.2.2.1 F.2.2.2.2.2.1 hs hR⟩ rfl hn hL.1 hst (lv_room hW) d hf
end XCall
theorem PutOK.of {D : va_G} {Λ : LT} {σ σ' : MSt} {k : Nat} {v : Value} (hset : (xF Λ σ).set k v = xF Λ σ') (h0 : σ'.1 0 = σ.1 0) (h2 : σ'.1 2 = σ.1 2) (hA : ∀ j, xU j = true → σ'.2.1 j = σ.2.1 j) (hL : σ'.2.2 = σ.2.2) : PutOK D Λ Λ σ k v σ' := ⟨hset, rfl, fun k' i' hne => Or.inr (xC_congr rfl (fun _ _ => rfl) h0 h2 hA hL k' i' hne)⟩
theorem PutXH.of {D : va_G} {Λ : LT} {I : AH} {L : LawT} {σ σ' : MSt} {k : Nat} {v : Value} (hset : ∀ nm km kd, (xF Λ (hid σ nm km kd)).set k v = xF Λ (hid σ' nm km kd)) (hN : ∀ j, xVn j = true → σ'.1 j = σ.1 j) (hA : ∀ j, (xU j || xV j) = true → σ'.2.1 j = σ.2.1 j) (hL : σ'.2.2 = σ.2.2) : PutXH D Λ I L σ k v σ' := fun nm km kd => ⟨PutOK.of (hset nm km kd) (hN 0 rfl) (hN 2 rfl) (fun j hj => hid_congr (hA j (by rw [hj]; rfl))) hL, XR_congr hN fun j hj => hid_congr (hA j (by rw [hj, Bool.or_true]))⟩
/-- a number's field -/
theorem PutXH.ofN {D : va_G} {Λ : LT} {I : AH} {L : LawT} {σ : MSt} {k n x : Nat} {v : Value} (hset : ∀ nm km kd, (xF Λ (hid σ nm km kd)).set k v = xF Λ (hid (sN σ n x) nm km kd)) (hn : xVn n = false) : PutXH D Λ I L σ k v (sN σ n x) := PutXH.of hset (fun j hj => va_up_ne _ _ (by rintro rfl; rw [hn] at hj; cases hj)) (fun _ _ => rfl) rfl
theorem PutXH.ofA {D : va_G} {Λ : LT} {I : AH} {L : LawT} {σ : MSt} {k n i : Nat} {x : Int32} {v : Value} (hset : ∀ nm km kd, (xF Λ (hid σ nm km kd)).set k v = xF Λ (hid (sA σ n i x) nm km kd)) (hn : (xU n || xV n) = false) : PutXH D Λ I L σ k v (sA σ n i x) := PutXH.of hset (fun j hj => rfl) (fun j hj => up2_n _ _ _ (by rintro rfl; rw [hn] at hj; cases hj)) rfl
theorem XH.obj {D : va_G} {Λ : LT} {I : AH} {L : LawT} {σ : MSt} {h : AH} (hs : XH D Λ I L σ h) : ∃ fs, h (Λ.1 0 38) = some (.inr (0, fs)) := by
  obtain ⟨nm, km, kd, -, hw⟩ := hs
  exact ⟨_, hw.1 0 38 _ x38⟩
theorem XW.obj {D : va_G} {Λ : LT} {I : AH} {σ : MSt} {h : AH} (hw : XW D Λ I σ h) : ∃ fs, h (Λ.1 0 38) = some (.inr (0, fs)) := ⟨_, hw.1 0 38 _ x38⟩
theorem XH.prm {D : va_G} {Λ : LT} {I : AH} {L : LawT} {σ : MSt} {h : AH} (hs : XH D Λ I L σ h) {p : Nat} (hp : p < σ.1 2) : h (Λ.1 2 p) = some (.inr (4, xP σ p)) := hs.wc (fun _ _ _ => by show (if p < σ.1 2 then _ else _) = _; rw [if_pos hp]; rfl)
theorem XW.prm {D : va_G} {Λ : LT} {I : AH} {σ : MSt} {h : AH} (hw : XW D Λ I σ h) {p : Nat} (hp : p < σ.1 2) : h (Λ.1 2 p) = some (.inr (4, xP σ p)) := hw.1 2 p _ (by show (if p < σ.1 2 then _ else _) = _; rw [if_pos hp])
section XArr
variable {p : Program} {l : Launch} {e : Env} {R : Room} {s : State} {m : MethodId} {args : Array Value} {below : List Frame} {meth : Method} {c : Code} {D : va_G} {E : State → Prop} {B nL : Nat} {Q : State → Prop}
variable {kc ns pc np : Nat} {lv lv' : List (Option Value)} {st st' rest : List Value} {own : String} {cc : ByteArray} {Λ Λ' : LT} {I I' : AH} {L : LawT} {σ σ' : MSt}
theorem x_aldO (F : FX p s m args meth c D E B nL own cc) {i : Nat} {x : Int32} (e0 : x = nI i) (hi : i < σ.1 0) (ho : σ.1 0 ≤ 8) (d : decode cc pc = .ok (.aaload, 1)) (hp : pc + 1 = np) (kk : WG p l e R s m args below meth c D B nL Q (XH D Λ I L σ) kc ns np lv (.ref (Λ.1 1 i) :: st)) : WG p l e R s m args below meth c D B nL Q (XH D Λ I L σ) kc ns pc lv (.int x :: .ref (Λ.1 0 0) :: st) := x_ald (t0 := 5) (n := 8) F rfl (fun _ _ _ => rfl) (by decide) (by decide) (by omega) e0 (v := some (Λ.1 1 i)) (fun _ _ _ hr => hr.1 i hi) d hp kk
theorem x_aldP (F : FX p s m args meth c D E B nL own cc) {i : Nat} {x : Int32} (e0 : x = nI i) (hi : i < σ.1 2) (ho : σ.1 2 ≤ 14) (d : decode cc pc = .ok (.aaload, 1)) (hp : pc + 1 = np) (kk : WG p l e R s m args below meth c D B nL Q (XH D Λ I L σ) kc ns np lv (.ref (Λ.1 2 i) :: st)) : WG p l e R s m args below meth c D B nL Q (XH D Λ I L σ) kc ns pc lv (.int x :: .ref (Λ.1 0 1) :: st) := x_ald (t0 := 6) (n := 14) F rfl (fun _ _ _ => rfl) (by decide) (by decide) (by omega) e0 (v := some (Λ.1 2 i)) (fun _ _ _ hr => hr.2.1 i hi) d hp kk
theorem w_aldO (F : FX p s m args meth c D E B nL own cc) {i : Nat} {x : Int32} (e0 : x = nI i) (hR : xrO Λ σ) (hi : i < σ.1 0) (ho : σ.1 0 ≤ 8) (d : decode cc pc = .ok (.aaload, 1)) (hp : pc + 1 = np) (kk : WG p l e R s m args below meth c D B nL Q (XW D Λ I σ) kc ns np lv (.ref (Λ.1 1 i) :: st)) : WG p l e R s m args below meth c D B nL Q (XW D Λ I σ) kc ns pc lv (.int x :: .ref (Λ.1 0 0) :: st) := w_ald (t0 := 5) (n := 8) F rfl rfl (by decide) (by decide) (by omega) e0 (v := some (Λ.1 1 i)) (hR i hi) d hp kk
theorem w_aldP (F : FX p s m args meth c D E B nL own cc) {i : Nat} {x : Int32} (e0 : x = nI i) (hR : xrP Λ σ) (hi : i < σ.1 2) (ho : σ.1 2 ≤ 14) (d : decode cc pc = .ok (.aaload, 1)) (hp : pc + 1 = np) (kk : WG p l e R s m args below meth c D B nL Q (XW D Λ I σ) kc ns np lv (.ref (Λ.1 2 i) :: st)) : WG p l e R s m args below meth c D B nL Q (XW D Λ I σ) kc ns pc lv (.int x :: .ref (Λ.1 0 1) :: st) := w_ald (t0 := 6) (n := 14) F rfl rfl (by decide) (by decide) (by omega) e0 (v := some (Λ.1 2 i)) (hR i hi) d hp kk
end XArr
/-- arrays of numbers: the component's field J, the state's array a, its length -/
def xNA (J : Nat) : Nat × Nat := match J with
  | 14 => (51, 60)
  | 23 => (53, 8)
  | 24 => (54, 14)
  | _ => (52, 128)
theorem xA_ast14 {D : va_G} {Λ : LT} {σ : MSt} (i : Nat) (v : Int32) {j : Nat} (hn : j ≠ 14) : xA D Λ (sA σ 51 i v) j = xA D Λ σ j := by
  have ea : ∀ b, b ≠ 51 → (sA σ 51 i v).2.1 b = σ.2.1 b := fun b hb => up2_n _ _ _ hb
  unfold xA
  rw [ea 8 (by decide), ea 37 (by decide), ea 52 (by decide), ea 53 (by decide), ea 54 (by decide)]
  unfold xA0
  split <;> first | rfl | exact absurd rfl hn
theorem xA_ast23 {D : va_G} {Λ : LT} {σ : MSt} (i : Nat) (v : Int32) {j : Nat} (hn : j ≠ 23) : xA D Λ (sA σ 53 i v) j = xA D Λ σ j := by
  have ea : ∀ b, b ≠ 53 → (sA σ 53 i v).2.1 b = σ.2.1 b := fun b hb => up2_n _ _ _ hb
  unfold xA
  rw [ea 8 (by decide), ea 37 (by decide), ea 51 (by decide), ea 52 (by decide), ea 54 (by decide)]
  unfold xA0
  split <;> first | rfl | exact absurd rfl hn
theorem xA_ast24 {D : va_G} {Λ : LT} {σ : MSt} (i : Nat) (v : Int32) {j : Nat} (hn : j ≠ 24) : xA D Λ (sA σ 54 i v) j = xA D Λ σ j := by
  have ea : ∀ b, b ≠ 54 → (sA σ 54 i v).2.1 b = σ.2.1 b := fun b hb => up2_n _ _ _ hb
  unfold xA
  rw [ea 8 (by decide), ea 37 (by decide), ea 51 (by decide), ea 52 (by decide), ea 53 (by decide)]
  unfold xA0
  split <;> first | rfl | exact absurd rfl hn
theorem xA_ast39 {D : va_G} {Λ : LT} {σ : MSt} (i : Nat) (v : Int32) {j : Nat} (hn : j ≠ 39) : xA D Λ (sA σ 52 i v) j = xA D Λ σ j := by
  have ea : ∀ b, b ≠ 52 → (sA σ 52 i v).2.1 b = σ.2.1 b := fun b hb => up2_n _ _ _ hb
  unfold xA
  rw [ea 8 (by decide), ea 37 (by decide), ea 51 (by decide), ea 53 (by decide), ea 54 (by decide)]
  unfold xA0
  split <;> first | rfl | exact absurd rfl hn
theorem xC_ast {D : va_G} {Λ : LT} {σ : MSt} {J a : Nat} (hJ : (J = 14 ∧ a = 51) ∨ (J = 23 ∧ a = 53) ∨ (J = 24 ∧ a = 54) ∨ (J = 39 ∧ a = 52)) (i : Nat) (v : Int32) (k' i' : Nat) (hne : ¬ (k' = 0 ∧ i' = J)) : xC D Λ (sA σ a i v) k' i' = none ∨ xC D Λ (sA σ a i v) k' i' = xC D Λ σ k' i' := by
  refine Or.inr ?_
  have ha : 51 ≤ a := by omega
  have ea : ∀ j, j < 51 → (sA σ a i v).2.1 j = σ.2.1 j := fun j hj => up2_n _ _ _ (by omega)
  have hA : i' ≠ J → xA D Λ (sA σ a i v) i' = xA D Λ σ i' := by
    intro hn
    rcases hJ with ⟨rfl, rfl⟩ | ⟨rfl, rfl⟩ | ⟨rfl, rfl⟩ | ⟨rfl, rfl⟩
    · exact xA_ast14 i v hn
    · exact xA_ast23 i v hn
    · exact xA_ast24 i v hn
    · exact xA_ast39 i v hn
  have e38 := rowK_congr (ea 38 (by decide))
  have e39 := xI_congr (D := D) (ea 39 (by decide)) (show (sA σ a i v).2.2 = σ.2.2 from rfl) i'
  have e1 := ea 1 (by decide)
  have e3 := ea 3 (by decide)
  have e4 := ea 4 (by decide)
  have e5 := ea 5 (by decide)
  have eF : xF Λ (sA σ a i v) = xF Λ σ := by
    unfold xF
    rw [ea 25 (by decide), ea 50 (by decide), ea 29 (by decide), ea 30 (by decide)]
    rfl
  match k', hne with
  | 0, hne =>
    by_cases h38 : i' = 38
    · rw [h38, x38, x38, eF]
    · exact (xC_0 _ _ _ h38).trans ((hA (fun q => hne ⟨rfl, q⟩)).trans (xC_0 _ _ _ h38).symm)
  | 1, _ => rw [xC_1, xC_1]; unfold xc1; rw [e1]; rfl
  | 2, _ => rw [xC_2, xC_2]; unfold xc2 xP; rw [e3, e4, e5]; rfl
  | 3, _ => rw [xC_3, xC_3]; unfold xc3; rw [e38]
  | 4, _ => rw [xC_4, xC_4]; unfold xc4; rw [e38, e39]
  | n + 5, _ => rw [xC_5, xC_5]
section XArr2
variable {p : Program} {l : Launch} {e : Env} {R : Room} {s : State} {m : MethodId} {args : Array Value} {below : List Frame} {meth : Method} {c : Code} {D : va_G} {E : State → Prop} {B nL : Nat} {Q : State → Prop}
variable {kc ns pc np : Nat} {lv lv' : List (Option Value)} {st st' rest : List Value} {own : String} {cc : ByteArray} {Λ Λ' : LT} {I I' : AH} {L : LawT} {σ σ' : MSt}
theorem w_iald (F : FX p s m args meth c D E B nL own cc) {J a i n : Nat} {x v : Int32} (hA : xC D Λ σ 0 J = some (.inl (D.1 100, n, .inl (σ.2.1 a)))) (hn : n < 2 ^ 31) (hi : i < n) (e0 : x = nI i) (hv : σ.2.1 a i = v) (d : decode cc pc = .ok (.iaload, 1)) (hp : pc + 1 = np) (kk : WG p l e R s m args below meth c D B nL Q (XW D Λ I σ) kc ns np lv (.int v :: st)) : WG p l e R s m args below meth c D B nL Q (XW D Λ I σ) kc ns pc lv (.int x :: .ref (Λ.1 0 J) :: st) := by
  subst hv
  exact g_iald F (fun h hs => ⟨_, _, hs.1 0 J _ hA, (m_in hn hi e0).1, by rw [(m_in hn hi e0).2]⟩) d hp kk
theorem x_iald (F : FX p s m args meth c D E B nL own cc) {J a i n : Nat} {x v : Int32} (hA : ∀ nm km kd, xC D Λ (hid σ nm km kd) 0 J = some (.inl (D.1 100, n, .inl (σ.2.1 a)))) (hn : n < 2 ^ 31) (hi : i < n) (e0 : x = nI i) (hv : σ.2.1 a i = v) (d : decode cc pc = .ok (.iaload, 1)) (hp : pc + 1 = np) (kk : WG p l e R s m args below meth c D B nL Q (XH D Λ I L σ) kc ns np lv (.int v :: st)) : WG p l e R s m args below meth c D B nL Q (XH D Λ I L σ) kc ns pc lv (.int x :: .ref (Λ.1 0 J) :: st) := by
  subst hv
  exact g_iald F (fun h hs => ⟨_, _, hs.wc hA, (m_in hn hi e0).1, by rw [(m_in hn hi e0).2]⟩) d hp kk
theorem w_iast (F : FX p s m args meth c D E B nL own cc) {J a i n : Nat} {x v : Int32} (hJ : (J = 14 ∧ a = 51) ∨ (J = 23 ∧ a = 53) ∨ (J = 24 ∧ a = 54) ∨ (J = 39 ∧ a = 52)) (hA : ∀ τ : MSt, xC D Λ τ 0 J = some (.inl (D.1 100, n, .inl (τ.2.1 a)))) (hn : n < 2 ^ 31) (hi : i < n) (e0 : x = nI i) (d : decode cc pc = .ok (.iastore, 1)) (hp : pc + 1 = np) (kk : WG p l e R s m args below meth c D B nL Q (XW D Λ I (sA σ a i v)) kc ns np lv st) : WG p l e R s m args below meth c D B nL Q (XW D Λ I σ) kc ns pc lv (.int v :: .int x :: .ref (Λ.1 0 J) :: st) := g_iast F (fun h hs => ⟨_, _, hs.1 0 J _ (hA σ), (m_in hn hi e0).1, by
    rw [(m_in hn hi e0).2]
    refine hs.up (k := 0) (i := J) (by rw [hA]; exact fun q => by cases q) ?_ (xC_ast hJ i v) rfl
    rw [hA, show (sA σ a i v).2.1 a = va_up (σ.2.1 a) i v from up2_k _ _ _ _]⟩) d hp kk
theorem x_iast (F : FX p s m args meth c D E B nL own cc) {i : Nat} {x v : Int32} (hi : i < 60) (e0 : x = nI i) (d : decode cc pc = .ok (.iastore, 1)) (hp : pc + 1 = np) (kk : WG p l e R s m args below meth c D B nL Q (XH D Λ I L (sA σ 51 i v)) kc ns np lv st) : WG p l e R s m args below meth c D B nL Q (XH D Λ I L σ) kc ns pc lv (.int v :: .int x :: .ref (Λ.1 0 14) :: st) := x_lift (σ := σ) (σ' := sA σ 51 i v) (fun nm km kd hr => XR_congr (σ := hid σ nm km kd) (fun j _ => rfl) (fun j hj => hid_congr (up2_n _ _ _ (fun z => by rw [z] at hj; cases hj))) hr) (fun nm km kd k2 => w_iast F (J := 14) (a := 51) (n := 60) (Or.inl ⟨rfl, rfl⟩) (fun _ => rfl) (by decide) hi e0 d hp (by rw [hid_sA _ _ _ _ _ _ (by decide) (by decide) (by decide)]; exact k2)) kk
theorem x_bald (F : FX p s m args meth c D E B nL own cc) {i : Nat} {x v : Int32} (hi : i < 24) (e0 : x = nI i) (hv : (σ.2.1 37 i).toInt8.toInt32 = v) (d : decode cc pc = .ok (.baload, 1)) (hp : pc + 1 = np) (kk : WG p l e R s m args below meth c D B nL Q (XH D Λ I L σ) kc ns np lv (.int v :: st)) : WG p l e R s m args below meth c D B nL Q (XH D Λ I L σ) kc ns pc lv (.int x :: .ref (Λ.1 0 34) :: st) := by
  subst hv
  exact g_bald F (fun h hs => ⟨24, _, hs.wc (fun _ _ _ => rfl), (m_in (by decide) hi e0).1, by rw [(m_in (L := 24) (by decide) hi e0).2]⟩) d hp kk
end XArr2
theorem hid_s52 (σ : MSt) (nm km kd : Nat → Int32) (i : Nat) (v : Int32) : sA (hid σ nm km kd) 52 i v = hid σ (va_up nm i v) km kd := by
  rw [← hid_cp52 σ nm km kd (va_up nm i v), show nm = (hid σ nm km kd).2.1 52 from rfl, cpS_sA]
  show sA (hid σ nm km kd) 52 i v = sA (cpS (hid σ nm km kd) 52 ((hid σ nm km kd).2.1 52)) 52 i v
  rw [cpS_id]
theorem hid_s53 (σ : MSt) (nm km kd : Nat → Int32) (i : Nat) (v : Int32) : sA (hid σ nm km kd) 53 i v = hid σ nm (va_up km i v) kd := by
  rw [← hid_cp53 σ nm km kd (va_up km i v), show km = (hid σ nm km kd).2.1 53 from rfl, cpS_sA]
  show sA (hid σ nm km kd) 53 i v = sA (cpS (hid σ nm km kd) 53 ((hid σ nm km kd).2.1 53)) 53 i v
  rw [cpS_id]
theorem hid_s54 (σ : MSt) (nm km kd : Nat → Int32) (i : Nat) (v : Int32) : sA (hid σ nm km kd) 54 i v = hid σ nm km (va_up kd i v) := by
  rw [← hid_cp54 σ nm km kd (va_up kd i v), show kd = (hid σ nm km kd).2.1 54 from rfl, cpS_sA]
  show sA (hid σ nm km kd) 54 i v = sA (cpS (hid σ nm km kd) 54 ((hid σ nm km kd).2.1 54)) 54 i v
  rw [cpS_id]
theorem XH.facts {D : va_G} {Λ : LT} {I : AH} {L : LawT} {σ : MSt} {h : AH} (hs : XH D Λ I L σ h) : h (Λ.1 0 12) = some (.inr (1, [.ref (Λ.1 0 39)])) := hs.wc (fun _ _ _ => rfl)
theorem XW.facts {D : va_G} {Λ : LT} {I : AH} {σ : MSt} {h : AH} (hs : XW D Λ I σ h) : h (Λ.1 0 12) = some (.inr (1, [.ref (Λ.1 0 39)])) := hs.1 0 12 _ rfl
section XQ
variable {p : Program} {l : Launch} {e : Env} {R : Room} {s : State} {m : MethodId} {args : Array Value} {below : List Frame} {meth : Method} {c : Code} {D : va_G} {E : State → Prop} {B nL : Nat} {Q : State → Prop}
variable {S S' : AH → Prop} {kc ns pc np : Nat} {lv lv' : List (Option Value)} {st st' rest : List Value} {own : String} {cc : ByteArray}
theorem g_aload_nQ (F : FX p s m args meth c D E B nL own cc) {kf : Fin 4} {i : Nat} {r : Option Nat} (d : decode cc pc = .ok (.aload_n kf, 1)) (hi : (kf : Nat) = i) (hl : lv[i]? = some (some (va_rf r))) (hp : pc + 1 = np)  (kk : WG p l e R s m args below meth c D B nL Q S kc ns np lv (va_rf r :: st)) : WG p l e R s m args below meth c D B nL Q S kc ns pc lv st := by
  cases r with
  | none => exact g_aload_nN F d hi hl hp kk
  | some a => exact g_aload_n F d hi hl hp kk
theorem g_aloadQ (F : FX p s m args meth c D E B nL own cc) {i : Nat} {r : Option Nat} (d : decode cc pc = .ok (.aload i, 2)) (hl : lv[i]? = some (some (va_rf r))) (hp : pc + 2 = np)  (kk : WG p l e R s m args below meth c D B nL Q S kc ns np lv (va_rf r :: st)) : WG p l e R s m args below meth c D B nL Q S kc ns pc lv st := by
  cases r with
  | none => exact g_aloadN F d hl hp kk
  | some a => exact g_aload F d hl hp kk
theorem g_astore_nQ (F : FX p s m args meth c D E B nL own cc) {kf : Fin 4} {i : Nat} {r : Option Nat} (d : decode cc pc = .ok (.astore_n kf, 1)) (hi : (kf : Nat) = i) (hn : i < nL) (ho : okst lv i = true) (hs : lv.set i (some (va_rf r)) = lv') (hp : pc + 1 = np) (kk : WG p l e R s m args below meth c D B nL Q S kc ns np lv' st) : WG p l e R s m args below meth c D B nL Q S kc ns pc lv (va_rf r :: st) := by
  cases r with
  | none => exact g_astore_nN F d hi hn ho hs hp kk
  | some a => exact g_astore_n F d hi hn ho hs hp kk
theorem g_astoreQ (F : FX p s m args meth c D E B nL own cc) {i : Nat} {r : Option Nat} (d : decode cc pc = .ok (.astore i, 2)) (hn : i < nL) (ho : okst lv i = true) (hs : lv.set i (some (va_rf r)) = lv') (hp : pc + 2 = np) (kk : WG p l e R s m args below meth c D B nL Q S kc ns np lv' st) : WG p l e R s m args below meth c D B nL Q S kc ns pc lv (va_rf r :: st) := by
  cases r with
  | none => exact g_astoreN F d hn ho hs hp kk
  | some a => exact g_astore F d hn ho hs hp kk
end XQ
