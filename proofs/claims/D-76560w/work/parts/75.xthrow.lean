/-! X: throwing, catching: rows over WG -/
set_option maxRecDepth 100000
theorem RepH.ext {D : va_G} {B : Nat} {h : AH} {H H1 : Heap} (hR : RepH D B h H) (hz : H.size ≤ H1.size) (oq : ∀ q : Nat, q < H.size → H1[q]? = H[q]?) : RepH D B h H1 := ⟨Nat.le_trans hR.1 hz, fun b y hb => ⟨(hR.2 b y hb).1, (hR.2 b y hb).2.kept (oq b (hR.lt hb))⟩⟩
theorem ZH.at {l : Launch} {B : Nat} {s U : State} {H : Heap} {locs : List Loc} (h : ZH l B s) (hU : U.heap = H) (hW : s.WarmedH U.vm) (hV : va_S (zA B) s.heap H locs) : ZH l B U := by
  obtain ⟨h1, h2, h3, h4, h5⟩ := h
  refine ⟨h1, ?_, ?_, ?_, fun q hq => va_Nc.moved hW.alike (h5 q hq)⟩
  · rw [hU]; exact vx_Zq.moved hW.alike (h2.kept hV.2.1)
  · rw [hU]; exact vx_Zq.moved hW.alike (h3.kept hV.2.1)
  · have e : U.vm.modules = s.vm.modules := by rw [hW.alike.1]
    unfold modulesRight_1 at h4 ⊢
    rw [e]; exact h4
/-- what throwing contracts say at their start -/
def PZ (l : Launch) (D : va_G) (B : Nat) (S : AH → Prop) (U : State) : Prop := ((∃ h, S h ∧ RepH D B h U.heap) ∧ KX D ZE U) ∧ ZH l B U
/-- returns, where something may be thrown within -/
def CtP (l : Launch) (D : va_G) (B : Nat) (ws : List Cond) (y : MethodName) (fr lo mc ms : Nat) (As : List Value) (S : AH → Prop) (T : Option Value → AH → Prop) : Prop :=
  Met l y ws { frames := fr, cells := mc, slots := ms, locals := lo } (va_Pc As (PZ l D B S)) (QT D B T) mc ms (zA B)
def XCt (D : va_G) (B : Nat) (X : String) (S : AH → Prop) : String → State → State → Prop := fun En st t => En = X ∧ (∃ h, S h ∧ RepH D B h t.heap) ∧ va_F (zA B) st t
/-- always throws X -/
def CtX (l : Launch) (D : va_G) (B : Nat) (y : MethodName) (cc : ByteArray) (nL : Nat) (ret : Option FieldType) (fr lo mc ms : Nat) (As : List Value) (S : AH → Prop) (X : String) (S' : AH → Prop) : Prop :=
  vx_Met l y (ws_ y cc nL ret) { frames := fr, cells := mc, slots := ms, locals := lo } (va_Pc As (PZ l D B S)) (fun _ _ _ _ => False) (XCt D B X S') mc ms (zA B)
section XThrow
variable {p : Program} {l : Launch} {e : Env} {R : Room} {s : State} {m : MethodId} {args : Array Value} {below : List Frame} {meth : Method} {c : Code} {D : va_G} {B nL : Nat} {Q : State → Prop}
variable {S S' : AH → Prop} {kc ns pc np : Nat} {lv lv' : List (Option Value)} {st st' rest : List Value} {own : String} {cc : ByteArray} {X : String}
/-- an object of the class X is thrown at pc -/
def WX (p : Program) (l : Launch) (e : Env) (R : Room) (s : State) (m : MethodId) (args : Array Value) (below : List Frame) (meth : Method) (c : Code) (D : va_G) (B nL : Nat) (Q : State → Prop) (S : AH → Prop) (kc ns pc : Nat) (lv : List (Option Value)) (X : String) : Prop :=
  ∀ (h : AH) (H : Heap) (locs : List Loc) (ls : Array Slot) (rest : List Value) (q : Addr) (ce : Cell), S h → RepH D B h H → va_S (zA B) s.heap H locs → lvh ls nL lv → H[q]? = some ce → ce.vm = .none → s.vm.findClass X = some ce.cls → vx_W p l e R s m args below meth c H locs kc ns Q (F0 m pc ls rest) q
theorem WX.weak (hS : ∀ h, S h → S' h) (kk : WX p l e R s m args below meth c D B nL Q S' kc ns pc lv X) : WX p l e R s m args below meth c D B nL Q S kc ns pc lv X := fun h H locs ls rest q ce a => kk h H locs ls rest q ce (hS h a)
theorem WX.widen {k n : Nat} (h1 : kc ≤ k) (h2 : ns ≤ n) (kk : WX p l e R s m args below meth c D B nL Q S k n pc lv X) : WX p l e R s m args below meth c D B nL Q S kc ns pc lv X := fun h H locs ls rest q ce a b c0 d e1 e2 e3 => vx_widen h1 h2 (kk h H locs ls rest q ce a b c0 d e1 e2 e3)
/-- room for a throw -/
def TR (R : Room) (kc ns : Nat) : Prop := 8 ≤ R.frames ∧ 10340 ≤ R.locals ∧ kc + 3 ≤ R.cells ∧ ns + 910 ≤ R.slots
theorem z_vm (F : FX p s m args meth c D ZE B nL own cc) (hZ : ZH l B s) {names : List String} {text : String} {nb : Nat} (hcls : Bundle.fit X = true) (hnames : ∀ n ∈ names, Bundle.fit n = true) (hsoe : (X == "java/lang/StackOverflowError") = false) (hoom : (X == "java/lang/OutOfMemoryError") = false) (ht : ∀ w ∈ vx_atM X names, w ∈ lw_tbl) (hz : ∀ w ∈ (vx_atM X names).filter (fun w => !goodWord w), w ∈ zW) (hot : ∀ w ∈ vx_atM X names, vx_ot w = true) (hnl : names.length ≤ 3) (hr : TR R kc ns) (hcat : (rest.map fun v => v.category).sum ≤ 40) (hnb1 : nb ≤ 900) (kk : WX p l e R s m args below meth c D B nL Q S (kc + 3) (ns + 910) pc lv X) {h : AH} {H : Heap} {locs : List Loc} {ls : Array Slot} (hS : S h) (hR : RepH D B h H) (hV : va_S (zA B) s.heap H locs) (hL : lvh ls nL lv) (htext : (text == notModelled) = false) (hnb : (stringBytes (stringToUtf16 text)).size ≤ nb) : vx_Note p l e R s m args below meth c H locs kc ns Q (F0 m pc ls rest) X text := by
  obtain ⟨r1, r2, r3, r4⟩ := hr
  exact vx_vm (nb := nb) (A := zA B) F.1 hZ.1 hcls hnames hsoe hoom (ex_hold ht hz F.2.2.2.2.1 F.2.2.2.2.2.1.2) hot hZ.2.1 hZ.2.2.1 hV (hL.1.trans F.2.2.1.symm) htext hnb (by omega) (by omega) (by omega) (by omega) r3 (by omega) F.2.2.2.2.2.2.2.1 (fun H1 q9 ce e1 e2 e3 e4 e5 e6 => vx_widen (Nat.le_refl _) (by omega) (kk h H1 locs ls rest q9 ce hS (hR.ext e1 e2) e3 hL e4 e5 e6))
theorem z_aiobe (F : FX p s m args meth c D ZE B nL own cc) (hZ : ZH l B s) {text : String} (hr : TR R kc ns) (hcat : (rest.map fun v => v.category).sum ≤ 40) (kk : WX p l e R s m args below meth c D B nL Q S (kc + 3) (ns + 910) pc lv "java/lang/ArrayIndexOutOfBoundsException") {h : AH} {H : Heap} {locs : List Loc} {ls : Array Slot} (hS : S h) (hR : RepH D B h H) (hV : va_S (zA B) s.heap H locs) (hL : lvh ls nL lv) (htext : (text == notModelled) = false) (hnb : (stringBytes (stringToUtf16 text)).size ≤ 900) : vx_Note p l e R s m args below meth c H locs kc ns Q (F0 m pc ls rest) "java/lang/ArrayIndexOutOfBoundsException" text :=
  z_vm F hZ (names := nA) (by decide +kernel) (by decide +kernel) (by decide +kernel) (by decide +kernel) exA_tbl exA_zW exA_ot (by decide) hr hcat (Nat.le_refl _) kk hS hR hV hL htext hnb
theorem z_cce (F : FX p s m args meth c D ZE B nL own cc) (hZ : ZH l B s) {text : String} (hr : TR R kc ns) (hcat : (rest.map fun v => v.category).sum ≤ 40) (kk : WX p l e R s m args below meth c D B nL Q S (kc + 3) (ns + 910) pc lv "java/lang/ClassCastException") {h : AH} {H : Heap} {locs : List Loc} {ls : Array Slot} (hS : S h) (hR : RepH D B h H) (hV : va_S (zA B) s.heap H locs) (hL : lvh ls nL lv) (htext : (text == notModelled) = false) (hnb : (stringBytes (stringToUtf16 text)).size ≤ 900) : vx_Note p l e R s m args below meth c H locs kc ns Q (F0 m pc ls rest) "java/lang/ClassCastException" text :=
  z_vm F hZ (names := nB) (by decide +kernel) (by decide +kernel) (by decide +kernel) (by decide +kernel) exC_tbl exC_zW exC_ot (by decide) hr hcat (Nat.le_refl _) kk hS hR hV hL htext hnb
theorem z_nase (F : FX p s m args meth c D ZE B nL own cc) (hZ : ZH l B s) {text : String} (hr : TR R kc ns) (hcat : (rest.map fun v => v.category).sum ≤ 40) (kk : WX p l e R s m args below meth c D B nL Q S (kc + 3) (ns + 910) pc lv "java/lang/NegativeArraySizeException") {h : AH} {H : Heap} {locs : List Loc} {ls : Array Slot} (hS : S h) (hR : RepH D B h H) (hV : va_S (zA B) s.heap H locs) (hL : lvh ls nL lv) (htext : (text == notModelled) = false) (hnb : (stringBytes (stringToUtf16 text)).size ≤ 900) : vx_Note p l e R s m args below meth c H locs kc ns Q (F0 m pc ls rest) "java/lang/NegativeArraySizeException" text :=
  z_vm F hZ (names := nB) (by decide +kernel) (by decide +kernel) (by decide +kernel) (by decide +kernel) exS_tbl exS_zW exS_ot (by decide) hr hcat (Nat.le_refl _) kk hS hR hV hL htext hnb
theorem z_npe (F : FX p s m args meth c D ZE B nL own cc) (hZ : ZH l B s) (hr : TR R kc ns) (hcat : (rest.map fun v => v.category).sum ≤ 40) (kk : WX p l e R s m args below meth c D B nL Q S (kc + 3) (ns + 910) pc lv "java/lang/NullPointerException") {h : AH} {H : Heap} {locs : List Loc} {ls : Array Slot} (hS : S h) (hR : RepH D B h H) (hV : va_S (zA B) s.heap H locs) (hL : lvh ls nL lv) : vx_NoteN p l e R s m args below meth c H locs kc ns Q (F0 m pc ls rest) := by
  obtain ⟨r1, r2, r3, r4⟩ := hr
  exact vx_npe (nb := 8) (A := zA B) F.1 hZ.1 (ex_hold exN_tbl exN_zW F.2.2.2.2.1 F.2.2.2.2.2.1.2) exN_ot hZ.2.1 hZ.2.2.1 hV (hL.1.trans F.2.2.1.symm) (by omega) (by omega) (by omega) (by omega) F.2.2.2.2.2.2.2.1 (fun H1 q9 ce e1 e2 e3 e4 e5 e6 => vx_widen (by omega) (by omega) (kk h H1 locs ls rest q9 ce hS (hR.ext e1 e2) e3 hL e4 e5 e6))
/-- caught here -/
theorem z_catch (F : FX p s m args meth c D ZE B nL own cc) {name : String} (pre : List ExceptionTableEntry) (x : ExceptionTableEntry) (suf : List ExceptionTableEntry) (hsplit : c.exceptionTable.toList = pre ++ x :: suf) (hpass : ∀ z ∈ pre, covers z pc = false ∨ (z.catchType ≠ 0 ∧ ∃ nm : String, Cond.classLink own z.catchType nm ∈ lw_all ∧ va_Nc X nm s)) (hx : covers x pc = true) (h0 : x.catchType ≠ 0) (hlink : Cond.classLink own x.catchType name ∈ lw_all) (hcast : ∀ U, ZE U → va_Nw (.castable X name) U) (kk : ∀ q : Nat, WG p l e R s m args below meth c D B nL Q S kc ns x.handlerPc lv [.ref q]) : WX p l e R s m args below meth c D B nL Q S kc ns pc lv X := fun h H locs ls rest q ce hS hR hV hL h1 h2 h3 =>
  vx_catch F.2.2.2.1 pre x suf hsplit (fun z hz => (hpass z hz).imp (fun w => w) (fun w => ⟨w.1, by obtain ⟨nm, a1, a2⟩ := w.2; exact ⟨nm, F.2.2.2.2.1 _ a1, a2⟩⟩)) hx h0 (F.2.2.2.2.1 _ hlink) (va_Nw.use rfl (hcast s F.2.2.2.2.2.1.2)) h1 h2 h3 (kk q h H locs ls hS hR hV hL)
/-- not caught in a method without handlers -/
theorem z_out (F : FX p s m args meth c D ZE B nL own cc) {mc ms : Nat} {Qf : Array Value → State → Outcome → State → Prop} (hnt : ∀ x ∈ c.exceptionTable.toList, False) (hc : kc ≤ mc) (hs : ns ≤ ms) (hS' : ∀ h, S h → S' h) : WX p l e R s m args below meth c D B nL (vx_MQ below Qf (XCt D B X S') args s mc ms (zA B)) S kc ns pc lv X := fun h H locs ls rest q ce hS hR hV hL h1 h2 h3 =>
  vx_out (fun x hx => (hnt x hx).elim) F.2.2.2.2.2.2.2.1 h1 h2 h3 (fun t ht hal => ⟨rfl, ⟨h, hS' h hS, by rw [ht]; exact hR⟩, hV.F ht⟩) hV.2.2 hc hs
/-! calls -/
theorem pz_blind {As : List Value} : FrameBlind (va_Pc As (PZ l D B S)) := by
  intro a U g mk q
  obtain ⟨q0, ⟨q1, q2⟩, q3⟩ := q
  exact ⟨q0, ⟨q1, q2.blind stZE g mk a⟩, q3⟩
theorem pz_at {As : List Value} {h : AH} {H : Heap} {locs : List Loc} (F : FX p s m args meth c D ZE B nL own cc) (hZ : ZH l B s) (hS : S h) (hR : RepH D B h H) (hV : va_S (zA B) s.heap H locs) : ∀ U : State, U.heap = H → s.WarmedH U.vm → va_Pc As (PZ l D B S) As.toArray U := fun U hU hW => ⟨rfl, ⟨⟨h, hS, by rw [hU]; exact hR⟩, F.2.2.2.2.2.1.warm stZE hW⟩, hZ.at hU hW hV⟩
/-- behind a call that throws -/
theorem z_call {mc ms : Nat} (st0 : List Value) (hrun : ∀ (h : AH) (H : Heap) (locs : List Loc) (ls : Array Slot), S h → RepH D B h H → va_S (zA B) s.heap H locs → lvh ls nL lv → vx_Run p l e R s m args below meth c H locs kc ns mc ms (F0 m pc ls st0) rest (fun _ _ _ => False) (XCt D B X S') (zA B)) (kk : WX p l e R s m args below meth c D B nL Q S' (kc + mc) (ns + ms) pc lv X) : WG p l e R s m args below meth c D B nL Q S kc ns pc lv st0 := by
  intro h H locs ls hS hR hV hL T hT Xs
  rcases hrun h H locs ls hS hR hV hL T hT Xs with ⟨v, st₀, t, T', L, h0, X', hLf, e1, e2, hq, st⟩ | ⟨q, st₀, t, T', L, En, ce, h0, X', hLf, e1, e2, ⟨rfl, ⟨h', hS', hR'⟩, hz, hk⟩, hce, hcv, hcl, st⟩
  · exact hq.elim
  · rw [h0] at hz hk
    obtain ⟨t2, a1, b1⟩ := kk h' T'.heap (locs ++ L) ls rest q ce hS' (by rw [e1]; exact hR') ⟨Nat.le_trans hV.1 (by rw [e1]; exact hz), fun q h1 h2 => by rw [e1, hk q (Nat.lt_of_lt_of_le h1 hV.1) h2]; exact hV.2.1 q h1 h2, fun q hq => by
      rcases List.mem_append.mp hq with z | z
      · exact hV.2.2 q z
      · exact hLf q z⟩ hL (by rw [e1]; exact hce) hcv hcl T' rfl X'
    exact ⟨t2, st.trans a1, b1⟩
theorem x_runO (F : FX p s m args meth c D ZE B nL own cc) (hZ : ZH l B s) {C owner : String} {index b ci n nLy fr lo mc ms N : Nat} {T0 : u_T} {x y : MethodName} {bytes : ByteArray} {ret : Option FieldType} {As : List Value}
    (hC : CtX l D B y bytes nLy ret fr lo mc ms (.ref b :: As) S X S') (w1 : Cond.methodLink own index x ∈ lw_all) (w2 : Cond.sameMethod x.cls owner x.name x.desc ∈ lw_all) (wd : ∀ U, ZE U → va_Nw (.declares ⟨owner, x.name, x.desc⟩) U) (w4 : Cond.selects C x y ∈ lw_all) (w5 : Cond.instanceMethod y ∈ lw_all) (w6 : Cond.initialized y.cls ∈ lw_all) (w7 : Cond.code y bytes nLy ret ∈ lw_all) (hd : owner ≠ "java/lang/invoke/MethodHandle" ∧ owner ≠ "java/lang/invoke/VarHandle" ∧ (parseMethodDescriptor x.desc).map (fun d => d.parameters.length) = some n) (hroom : fr + 1 ≤ R.frames ∧ 8 + (nLy + 11) + lo ≤ R.locals) (hc : zCl[ci]? = some (C, T0, N)) (hb : ∀ h, S h → ∃ fs, h b = some (.inr (ci, fs))) (hn : As.length = n) (hst : st = As.reverse ++ .ref b :: rest) (hW : (rest.map fun v => v.category).sum ≤ 8) (d : decode cc pc = .ok (.invokevirtual index, 3)) (hf : kc + mc ≤ R.cells ∧ ns + ms ≤ R.slots)
    (kk : WX p l e R s m args below meth c D B nL Q S' (kc + mc) (ns + ms) pc lv X) : WG p l e R s m args below meth c D B nL Q S kc ns pc lv st := by
  refine z_call (rest := rest) st (fun h H locs ls hs hR hV hL => ?_) kk
  obtain ⟨fs, hbf⟩ := hb h hs
  exact vx_runU (C := C) (owner := owner) (x := x) (g := F0 m pc ls st) (Qc := fun _ _ _ _ => False) ⟨F.1, F.2.1, F.2.2.1, F.2.2.2.1, F.2.2.2.2.1⟩ hC (va_cwA n F.2.2.2.2.1 (lw_U w1 w2 w4 w5 w6 w7) rfl rfl rfl (wd s F.2.2.2.2.2.1.2) hd hroom) ⟨pz_blind, g_recv F.2.2.2.2.2.1 hR hc hbf, pz_at F hZ hs hR hV⟩ rfl hn hL.1 hst (lv_room hW) d hf
theorem x_runV (F : FX p s m args meth c D ZE B nL own cc) (hZ : ZH l B s) {C : String} {index b ci n nLy fr lo mc ms N : Nat} {T0 : u_T} {y : MethodName} {bytes : ByteArray} {ret : Option FieldType} {As : List Value}
    (hC : CtX l D B y bytes nLy ret fr lo mc ms (.ref b :: As) S X S') (hw : GoodIn lw_all (wsV own index C y (ws_ y bytes nLy ret))) (hcl : y.cls = C ∧ y.cls ≠ "java/lang/invoke/MethodHandle" ∧ y.cls ≠ "java/lang/invoke/VarHandle" ∧ (parseMethodDescriptor y.desc).map (fun d => d.parameters.length) = some n) (hroom : fr + 1 ≤ R.frames ∧ 8 + (nLy + 11) + lo ≤ R.locals) (hc : zCl[ci]? = some (C, T0, N)) (hb : ∀ h, S h → ∃ fs, h b = some (.inr (ci, fs))) (hn : As.length = n) (hst : st = As.reverse ++ .ref b :: rest) (hW : (rest.map fun v => v.category).sum ≤ 8) (d : decode cc pc = .ok (.invokevirtual index, 3)) (hf : kc + mc ≤ R.cells ∧ ns + ms ≤ R.slots)
    (kk : WX p l e R s m args below meth c D B nL Q S' (kc + mc) (ns + ms) pc lv X) : WG p l e R s m args below meth c D B nL Q S kc ns pc lv st := by
  refine z_call (rest := rest) st (fun h H locs ls hs hR hV hL => ?_) kk
  obtain ⟨fs, hbf⟩ := hb h hs
  exact vx_runV (g := F0 m pc ls st) (Qc := fun _ _ _ _ => False) ⟨F.1, F.2.1, F.2.2.1, F.2.2.2.1, F.2.2.2.2.1⟩ hC (cwV n F.2.2.2.2.1 hw rfl rfl rfl hcl hroom) ⟨pz_blind, g_recv F.2.2.2.2.2.1 hR hc hbf, pz_at F hZ hs hR hV⟩ rfl hn hL.1 hst (lv_room hW) d hf
theorem x_runS (F : FX p s m args meth c D ZE B nL own cc) (hZ : ZH l B s) {index n nLy fr lo mc ms : Nat} {y : MethodName} {bytes : ByteArray} {ret : Option FieldType} {As : List Value}
    (hC : CtX l D B y bytes nLy ret fr lo mc ms As S X S') (hw : GoodIn lw_all (va_wsS own index y (ws_ y bytes nLy ret))) (hcl : y.cls ≠ "java/lang/invoke/MethodHandle" ∧ y.cls ≠ "java/lang/invoke/VarHandle" ∧ (parseMethodDescriptor y.desc).map (fun d => d.parameters.length) = some n) (hroom : fr + 1 ≤ R.frames ∧ 8 + (nLy + 11) + lo ≤ R.locals) (hn : As.length = n) (hst : st = As.reverse ++ rest) (hW : (rest.map fun v => v.category).sum ≤ 8) (d : decode cc pc = .ok (.invokestatic index, 3)) (hf : kc + mc ≤ R.cells ∧ ns + ms ≤ R.slots)
    (kk : WX p l e R s m args below meth c D B nL Q S' (kc + mc) (ns + ms) pc lv X) : WG p l e R s m args below meth c D B nL Q S kc ns pc lv st := by
  refine z_call (rest := rest) st (fun h H locs ls hs hR hV hL => ?_) kk
  exact vx_runS (g := F0 m pc ls st) (Qc := fun _ _ _ _ => False) ⟨F.1, F.2.1, F.2.2.1, F.2.2.2.1, F.2.2.2.2.1⟩ hC (va_cwS n F.2.2.2.2.1 hw rfl rfl rfl hcl hroom) ⟨pz_blind, pz_at F hZ hs hR hV⟩ rfl hn hL.1 hst (lv_room hW) d hf
theorem x_runI (F : FX p s m args meth c D ZE B nL own cc) (hZ : ZH l B s) {index b n nLy fr lo mc ms : Nat} {y : MethodName} {bytes : ByteArray} {As : List Value}
    (hC : CtX l D B y bytes nLy none fr lo mc ms (.ref b :: As) S X S') (hw : Cond.code y bytes nLy none ∈ lw_all) (hini : Cond.initialized y.cls ∈ lw_all) (hlk : Cond.methodLink own index y ∈ lw_all) (him : Cond.instanceMethod y ∈ lw_all) (hy1 : y.name = "<init>") (hcl : y.cls ≠ "java/lang/invoke/MethodHandle" ∧ y.cls ≠ "java/lang/invoke/VarHandle" ∧ (parseMethodDescriptor y.desc).map (fun d => d.parameters.length) = some n) (hroom : fr + 1 ≤ R.frames ∧ 8 + (nLy + 11) + lo ≤ R.locals) (hn : As.length = n) (hst : st = As.reverse ++ .ref b :: rest) (hW : (rest.map fun v => v.category).sum ≤ 8) (d : decode cc pc = .ok (.invokespecial index, 3)) (hf : kc + mc ≤ R.cells ∧ ns + ms ≤ R.slots)
    (kk : WX p l e R s m args below meth c D B nL Q S' (kc + mc) (ns + ms) pc lv X) : WG p l e R s m args below meth c D B nL Q S kc ns pc lv st := by
  have hts := F.2.2.2.2.1
  refine z_call (rest := rest) st (fun h H locs ls hs hR hV hL => ?_) kk
  exact vx_runI (g := F0 m pc ls st) (Qc := fun _ _ _ _ => False) ⟨F.1, F.2.1, F.2.2.1, F.2.2.2.1, F.2.2.2.2.1⟩ hC (cwI n F.2.2.2.2.1 (lw_meth hw) rfl rfl rfl (hts _ hini) (hts _ hlk) (hts _ him) hy1 hcl hroom) ⟨pz_blind, pz_at F hZ hs hR hV⟩ rfl hn hL.1 hst (lv_room hW) d hf
end XThrow
