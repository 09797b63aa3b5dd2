/-! X: what throws; contracts where something is thrown -/
set_option maxRecDepth 100000
theorem iob_text {i : Int32} {n : Nat} (hn : n < 2 ^ 31) {tx : String} (h : tx = (toString "Index " ++ toString i ++ toString " out of bounds for length " ++ toString n : String)) : (tx == notModelled) = false ∧ (stringBytes (stringToUtf16 tx)).size ≤ 900 := by
  subst h
  exact ⟨index_text_modelled i n, Nat.le_trans (index_text_bytes i hn) (by decide)⟩
section XThrow2
variable {p : Program} {l : Launch} {e : Env} {R : Room} {s : State} {m : MethodId} {args : Array Value} {below : List Frame} {meth : Method} {c : Code} {D : va_G} {B nL : Nat} {Q : State → Prop}
variable {S S' : AH → Prop} {kc ns pc np : Nat} {lv lv' : List (Option Value)} {st st' rest : List Value} {own : String} {cc : ByteArray} {X : String}
theorem z_bald (F : FX p s m args meth c D ZE B nL own cc) (hZ : ZH l B s) (hr : TR R kc ns) (hcat : (st.map fun v => v.category).sum ≤ 40) {a n : Nat} {i : Int32} (hn : n < 2 ^ 31) (hout : ¬ vp_in i n) (hS : ∀ h, S h → ∃ f : Nat → Int32, h a = some (.inl (D.1 101, n, .inl f))) (d : decode cc pc = .ok (.baload, 1)) (kk : WX p l e R s m args below meth c D B nL Q S (kc + 3) (ns + 910) pc lv "java/lang/ArrayIndexOutOfBoundsException") : WG p l e R s m args below meth c D B nL Q S kc ns pc lv (.int i :: .ref a :: st) := fun h H locs ls hs hR hV hL => by
  obtain ⟨f, hf⟩ := hS h hs
  exact vx_baldZ F.1 F.2.1 F.2.2.2.2.2.1.1 (hR.one hf) 0 1 rfl rfl hout d (fun tx ht => z_aiobe F hZ hr hcat kk hs hR hV hL (iob_text hn ht).1 (iob_text hn ht).2)
theorem z_zald (F : FX p s m args meth c D ZE B nL own cc) (hZ : ZH l B s) (hr : TR R kc ns) (hcat : (st.map fun v => v.category).sum ≤ 40) {a n : Nat} {i : Int32} (hn : n < 2 ^ 31) (hout : ¬ vp_in i n) (hS : ∀ h, S h → ∃ f : Nat → Int32, h a = some (.inl (D.1 103, n, .inl f))) (d : decode cc pc = .ok (.baload, 1)) (kk : WX p l e R s m args below meth c D B nL Q S (kc + 3) (ns + 910) pc lv "java/lang/ArrayIndexOutOfBoundsException") : WG p l e R s m args below meth c D B nL Q S kc ns pc lv (.int i :: .ref a :: st) := fun h H locs ls hs hR hV hL => by
  obtain ⟨f, hf⟩ := hS h hs
  exact vx_zaldZ F.1 F.2.1 F.2.2.2.2.2.1.1 (hR.one hf) 0 3 rfl rfl hout d (fun tx ht => z_aiobe F hZ hr hcat kk hs hR hV hL (iob_text hn ht).1 (iob_text hn ht).2)
theorem z_sald (F : FX p s m args meth c D ZE B nL own cc) (hZ : ZH l B s) (hr : TR R kc ns) (hcat : (st.map fun v => v.category).sum ≤ 40) {a n : Nat} {i : Int32} (hn : n < 2 ^ 31) (hout : ¬ vp_in i n) (hS : ∀ h, S h → ∃ f : Nat → Int32, h a = some (.inl (D.1 104, n, .inl f))) (d : decode cc pc = .ok (.saload, 1)) (kk : WX p l e R s m args below meth c D B nL Q S (kc + 3) (ns + 910) pc lv "java/lang/ArrayIndexOutOfBoundsException") : WG p l e R s m args below meth c D B nL Q S kc ns pc lv (.int i :: .ref a :: st) := fun h H locs ls hs hR hV hL => by
  obtain ⟨f, hf⟩ := hS h hs
  exact vx_saldZ F.1 F.2.1 F.2.2.2.2.2.1.1 (hR.one hf) 0 4 rfl rfl hout d (fun tx ht => z_aiobe F hZ hr hcat kk hs hR hV hL (iob_text hn ht).1 (iob_text hn ht).2)
theorem z_iald (F : FX p s m args meth c D ZE B nL own cc) (hZ : ZH l B s) (hr : TR R kc ns) (hcat : (st.map fun v => v.category).sum ≤ 40) {a n : Nat} {i : Int32} (hn : n < 2 ^ 31) (hout : ¬ vp_in i n) (hS : ∀ h, S h → ∃ f : Nat → Int32, h a = some (.inl (D.1 100, n, .inl f))) (d : decode cc pc = .ok (.iaload, 1)) (kk : WX p l e R s m args below meth c D B nL Q S (kc + 3) (ns + 910) pc lv "java/lang/ArrayIndexOutOfBoundsException") : WG p l e R s m args below meth c D B nL Q S kc ns pc lv (.int i :: .ref a :: st) := fun h H locs ls hs hR hV hL => by
  obtain ⟨f, hf⟩ := hS h hs
  exact vx_ialdZ F.1 F.2.1 F.2.2.2.2.2.1.1 (hR.one hf) 0 0 rfl rfl hout d (fun tx ht => z_aiobe F hZ hr hcat kk hs hR hV hL (iob_text hn ht).1 (iob_text hn ht).2)
theorem z_lald (F : FX p s m args meth c D ZE B nL own cc) (hZ : ZH l B s) (hr : TR R kc ns) (hcat : (st.map fun v => v.category).sum ≤ 40) {a n : Nat} {i : Int32} (hn : n < 2 ^ 31) (hout : ¬ vp_in i n) (hS : ∀ h, S h → ∃ f : Nat → Int64, h a = some (.inl (D.1 102, n, .inr (.inl f)))) (d : decode cc pc = .ok (.laload, 1)) (kk : WX p l e R s m args below meth c D B nL Q S (kc + 3) (ns + 910) pc lv "java/lang/ArrayIndexOutOfBoundsException") : WG p l e R s m args below meth c D B nL Q S kc ns pc lv (.int i :: .ref a :: st) := fun h H locs ls hs hR hV hL => by
  obtain ⟨f, hf⟩ := hS h hs
  exact vx_laldZ F.1 F.2.1 F.2.2.2.2.2.1.1 (hR.one hf) 0 2 rfl rfl hout d (fun tx ht => z_aiobe F hZ hr hcat kk hs hR hV hL (iob_text hn ht).1 (iob_text hn ht).2)
theorem z_bast (F : FX p s m args meth c D ZE B nL own cc) (hZ : ZH l B s) (hr : TR R kc ns) (hcat : (st.map fun v => v.category).sum ≤ 40) {a n : Nat} {i x : Int32} (hn : n < 2 ^ 31) (hout : ¬ vp_in i n) (hS : ∀ h, S h → ∃ f : Nat → Int32, h a = some (.inl (D.1 101, n, .inl f))) (d : decode cc pc = .ok (.bastore, 1)) (kk : WX p l e R s m args below meth c D B nL Q S (kc + 3) (ns + 910) pc lv "java/lang/ArrayIndexOutOfBoundsException") : WG p l e R s m args below meth c D B nL Q S kc ns pc lv (.int x :: .int i :: .ref a :: st) := fun h H locs ls hs hR hV hL => by
  obtain ⟨f, hf⟩ := hS h hs
  exact vx_bastZ F.1 F.2.1 F.2.2.2.2.2.1.1 (hR.one hf) 0 1 rfl rfl hout d (fun tx ht => z_aiobe F hZ hr hcat kk hs hR hV hL (iob_text hn ht).1 (iob_text hn ht).2)
theorem z_zast (F : FX p s m args meth c D ZE B nL own cc) (hZ : ZH l B s) (hr : TR R kc ns) (hcat : (st.map fun v => v.category).sum ≤ 40) {a n : Nat} {i x : Int32} (hn : n < 2 ^ 31) (hout : ¬ vp_in i n) (hS : ∀ h, S h → ∃ f : Nat → Int32, h a = some (.inl (D.1 103, n, .inl f))) (d : decode cc pc = .ok (.bastore, 1)) (kk : WX p l e R s m args below meth c D B nL Q S (kc + 3) (ns + 910) pc lv "java/lang/ArrayIndexOutOfBoundsException") : WG p l e R s m args below meth c D B nL Q S kc ns pc lv (.int x :: .int i :: .ref a :: st) := fun h H locs ls hs hR hV hL => by
  obtain ⟨f, hf⟩ := hS h hs
  exact vx_zastZ F.1 F.2.1 F.2.2.2.2.2.1.1 (hR.one hf) 0 3 rfl rfl hout d (fun tx ht => z_aiobe F hZ hr hcat kk hs hR hV hL (iob_text hn ht).1 (iob_text hn ht).2)
theorem z_sast (F : FX p s m args meth c D ZE B nL own cc) (hZ : ZH l B s) (hr : TR R kc ns) (hcat : (st.map fun v => v.category).sum ≤ 40) {a n : Nat} {i x : Int32} (hn : n < 2 ^ 31) (hout : ¬ vp_in i n) (hS : ∀ h, S h → ∃ f : Nat → Int32, h a = some (.inl (D.1 104, n, .inl f))) (d : decode cc pc = .ok (.sastore, 1)) (kk : WX p l e R s m args below meth c D B nL Q S (kc + 3) (ns + 910) pc lv "java/lang/ArrayIndexOutOfBoundsException") : WG p l e R s m args below meth c D B nL Q S kc ns pc lv (.int x :: .int i :: .ref a :: st) := fun h H locs ls hs hR hV hL => by
  obtain ⟨f, hf⟩ := hS h hs
  exact vx_sastZ F.1 F.2.1 F.2.2.2.2.2.1.1 (hR.one hf) 0 4 rfl rfl hout d (fun tx ht => z_aiobe F hZ hr hcat kk hs hR hV hL (iob_text hn ht).1 (iob_text hn ht).2)
theorem z_iast (F : FX p s m args meth c D ZE B nL own cc) (hZ : ZH l B s) (hr : TR R kc ns) (hcat : (st.map fun v => v.category).sum ≤ 40) {a n : Nat} {i x : Int32} (hn : n < 2 ^ 31) (hout : ¬ vp_in i n) (hS : ∀ h, S h → ∃ f : Nat → Int32, h a = some (.inl (D.1 100, n, .inl f))) (d : decode cc pc = .ok (.iastore, 1)) (kk : WX p l e R s m args below meth c D B nL Q S (kc + 3) (ns + 910) pc lv "java/lang/ArrayIndexOutOfBoundsException") : WG p l e R s m args below meth c D B nL Q S kc ns pc lv (.int x :: .int i :: .ref a :: st) := fun h H locs ls hs hR hV hL => by
  obtain ⟨f, hf⟩ := hS h hs
  exact vx_iastZ F.1 F.2.1 F.2.2.2.2.2.1.1 (hR.one hf) 0 0 rfl rfl hout d (fun tx ht => z_aiobe F hZ hr hcat kk hs hR hV hL (iob_text hn ht).1 (iob_text hn ht).2)
theorem z_last (F : FX p s m args meth c D ZE B nL own cc) (hZ : ZH l B s) (hr : TR R kc ns) (hcat : (st.map fun v => v.category).sum ≤ 40) {a n : Nat} {i : Int32} {x : Int64} (hn : n < 2 ^ 31) (hout : ¬ vp_in i n) (hS : ∀ h, S h → ∃ f : Nat → Int64, h a = some (.inl (D.1 102, n, .inr (.inl f)))) (d : decode cc pc = .ok (.lastore, 1)) (kk : WX p l e R s m args below meth c D B nL Q S (kc + 3) (ns + 910) pc lv "java/lang/ArrayIndexOutOfBoundsException") : WG p l e R s m args below meth c D B nL Q S kc ns pc lv (.long x :: .int i :: .ref a :: st) := fun h H locs ls hs hR hV hL => by
  obtain ⟨f, hf⟩ := hS h hs
  exact vx_lastZ F.1 F.2.1 F.2.2.2.2.2.1.1 (hR.one hf) 0 2 rfl rfl hout d (fun tx ht => z_aiobe F hZ hr hcat kk hs hR hV hL (iob_text hn ht).1 (iob_text hn ht).2)
/-- a call on null -/
theorem z_invN (F : FX p s m args meth c D ZE B nL own cc) (hZ : ZH l B s) (hr : TR R kc ns) (hcat : (rest.map fun v => v.category).sum ≤ 40) {C : String} {index maxL : Nat} {y : MethodName} {bytes : ByteArray} {ret : Option FieldType} (hlink : Cond.methodLink own index y ∈ lw_all) (hinst : Cond.instanceMethod y ∈ lw_all) (hcode : Cond.code y bytes maxL ret ∈ lw_all) (hsel : Cond.selects C y y ∈ lw_all) (hx : y.cls ≠ "java/lang/invoke/MethodHandle" ∧ y.cls ≠ "java/lang/invoke/VarHandle") {As : List Value} (hlen : (parseMethodDescriptor y.desc).map (fun d => d.parameters.length) = some As.length) (d : decode cc pc = .ok (.invokevirtual index, 3)) (hst : st = As.reverse ++ .null :: rest) (kk : WX p l e R s m args below meth c D B nL Q S (kc + 3) (ns + 910) pc lv "java/lang/NullPointerException") : WG p l e R s m args below meth c D B nL Q S kc ns pc lv st := fun h H locs ls hs hR hV hL =>
  vx_invokeN F.1 F.2.1 F.2.2.2.1 (F.2.2.2.2.1 _ hlink) (F.2.2.2.2.1 _ hinst) (F.2.2.2.2.1 _ hcode) (F.2.2.2.2.1 _ hsel) hx hlen d (z_npe F hZ hr hcat kk hs hR hV hL) hst
/-- .. whose method is known by its name alone -/
theorem z_invNA (F : FX p s m args meth c D ZE B nL own cc) (hZ : ZH l B s) (hr : TR R kc ns) (hcat : (rest.map fun v => v.category).sum ≤ 40) {index : Nat} {x : MethodName} (hlink : Cond.methodLink own index x ∈ lw_all) (hdecl : ∀ U, ZE U → va_Nw (.declares x) U) (hx : x.cls ≠ "java/lang/invoke/MethodHandle" ∧ x.cls ≠ "java/lang/invoke/VarHandle") {As : List Value} (hlen : (parseMethodDescriptor x.desc).map (fun d => d.parameters.length) = some As.length) (hsame : Cond.sameMethod x.cls x.cls x.name x.desc ∈ lw_all) (d : decode cc pc = .ok (.invokevirtual index, 3)) (hst : st = As.reverse ++ .null :: rest) (kk : WX p l e R s m args below meth c D B nL Q S (kc + 3) (ns + 910) pc lv "java/lang/NullPointerException") : WG p l e R s m args below meth c D B nL Q S kc ns pc lv st := fun h H locs ls hs hR hV hL T hT Xs => by
  have hd : (Cond.declares x).before args s = true := va_Nw.use rfl (hdecl s F.2.2.2.2.2.1.2)
  obtain ⟨r0, r, hn, hrm, hstR, hsigR⟩ := Cond.declares_spec hd
  obtain ⟨cn, kP, r1, hcn, hkP, hkPi, -, hn1⟩ := Cond.sameMethod_found (F.2.2.2.2.1 _ hsame)
  cases hn.symm.trans hn1
  have hcl : r0.cls = cn := Option.some.inj ((findClass_of_methodNamed hn).symm.trans hcn)
  rw [← hcl] at hkP
  have hl9 : As.length = r.sig.parameters.length := by
    rw [hsigR] at hlen
    exact (Option.some.inj hlen).symm
  obtain ⟨vm', X1, st1⟩ := Xs.invokevirtualNull F.1 F.2.2.2.1 (F.2.2.2.2.1 _ hlink) hn hrm hstR hkP hkPi hx (g := F0 m pc ls st) rfl (argsL := As) (rest := rest) hl9 hst (by rw [F.2.1]; exact d)
  obtain ⟨t, q1, q2⟩ := z_npe F hZ hr hcat kk hs hR hV hL (T.setVm vm') hT X1
  exact ⟨t, st1 t q1, q2⟩
/-- an array of a size below 0 -/
theorem z_newa (F : FX p s m args meth c D ZE B nL own cc) (hZ : ZH l B s) (hr : TR R kc ns) (hcat : (st.map fun v => v.category).sum ≤ 40) {aty : ArrayType} {n : Int32} (h0 : n < 0) (d : decode cc pc = .ok (.newarray aty, 2)) (kk : WX p l e R s m args below meth c D B nL Q S (kc + 3) (ns + 910) pc lv "java/lang/NegativeArraySizeException") : WG p l e R s m args below meth c D B nL Q S kc ns pc lv (.int n :: st) := fun h H locs ls hs hR hV hL =>
  vx_newarrayZ F.1 F.2.1 h0 d (fun tx ht => z_nase F hZ hr hcat kk hs hR hV hL (by rw [ht]; exact negative_text_modelled h0) (by rw [ht]; exact Nat.le_trans (negative_text_bytes n) (by decide)))
end XThrow2
/-! contracts out of walks -/
section XOf
variable {l : Launch} {D : va_G} {B nL : Nat} {S S' : AH → Prop} {lv : List (Option Value)} {cc : ByteArray}
theorem CtX.of {y : MethodName} {ret : Option FieldType} {fr lo mc ms : Nat} {As : List Value} {X : String} (hy : plainName y.cls = true) (hlen : (lg_sl As).length ≤ nL) (k0 : Nat) (hlv : lve As ++ List.replicate k0 none = lv)
    (body : ∀ (p : Program) (e : Env) (s : State) (m : MethodId) (below : List Frame) (meth : Method) (c : Code), FX p s m As.toArray meth c D ZE B nL y.cls cc → ZH l B s → meth.name = y.name → (∀ x ∈ c.exceptionTable.toList, False) → WG p l e { frames := fr, cells := mc, slots := ms, locals := lo } s m As.toArray below meth c D B nL (vx_MQ below (fun _ _ _ _ => False) (XCt D B X S') As.toArray s mc ms (zA B)) S 0 0 0 lv []) : CtX l D B y cc nL ret fr lo mc ms As S X S' := by
  refine vx_ofW (cc := cc) (maxL := nL) (ret := ret) hy rfl ?_
  intro p e s m args below meth c s₁ B0 hml hnt hv
  obtain ⟨rfl, ⟨⟨h, hS, hR⟩, hK⟩, hZ⟩ := hv
  have hts := atoms_spec (ws := ws_ y cc nL ret) B0.pre
  have hts : ∀ w ∈ lw_all, w.before _ s = true := fun w h => hts w (List.mem_cons_of_mem _ h)
  have F : FX p s m As.toArray meth c D ZE B nL y.cls cc := ⟨B0.exec, B0.bytes, hml, findClass_of_methodNamed B0.named, hts, hK, stZE, B0.notSynchronized, hR.1⟩
  have hl := lvh_entry As hlen k0
  rw [lg_entry_eq]
  rw [hlv] at hl
  exact body p e s m below meth c F hZ (name_of_methodNamed B0.named B0.method).1 hnt h s.heap [] _ hS hR va_S.rf hl
theorem CtP.of {y : MethodName} {ret : Option FieldType} {fr lo mc ms : Nat} {As : List Value} {T : Option Value → AH → Prop} (hy : plainName y.cls = true) (hlen : (lg_sl As).length ≤ nL) (k0 : Nat) (hlv : lve As ++ List.replicate k0 none = lv)
    (body : ∀ (p : Program) (e : Env) (s : State) (m : MethodId) (below : List Frame) (meth : Method) (c : Code), FX p s m As.toArray meth c D ZE B nL y.cls cc → ZH l B s → meth.sig.returnType = ret → meth.name = y.name → WG p l e { frames := fr, cells := mc, slots := ms, locals := lo } s m As.toArray below meth c D B nL (MQ below (QT D B T) As.toArray s mc ms (zA B)) S 0 0 0 lv []) : CtP l D B (ws_ y cc nL ret) y fr lo mc ms As S T := by
  refine Met.ofW (cc := cc) (maxL := nL) (ret := ret) hy rfl ?_
  intro p e s m args below meth c s₁ B0 hml hv
  obtain ⟨rfl, ⟨⟨h, hS, hR⟩, hK⟩, hZ⟩ := hv
  have hts := atoms_spec (ws := ws_ y cc nL ret) B0.pre
  have hts : ∀ w ∈ lw_all, w.before _ s = true := fun w h => hts w (List.mem_cons_of_mem _ h)
  have F : FX p s m As.toArray meth c D ZE B nL y.cls cc := ⟨B0.exec, B0.bytes, hml, findClass_of_methodNamed B0.named, hts, hK, stZE, B0.notSynchronized, hR.1⟩
  have hl := lvh_entry As hlen k0
  rw [lg_entry_eq]
  rw [hlv] at hl
  exact body p e s m below meth c F hZ B0.returns (name_of_methodNamed B0.named B0.method).1 h s.heap [] _ hS hR va_S.rf hl
/-- .. with a table of handlers -/
theorem CtP.ofW {y : MethodName} {ret : Option FieldType} {fr lo mc ms : Nat} {As : List Value} {T : Option Value → AH → Prop} {hh : List (Nat × Nat × Nat × Nat)} (hy : plainName y.cls = true) (hlen : (lg_sl As).length ≤ nL) (k0 : Nat) (hlv : lve As ++ List.replicate k0 none = lv)
    (body : ∀ (p : Program) (e : Env) (s : State) (m : MethodId) (below : List Frame) (meth : Method) (c : Code), FX p s m As.toArray meth c D ZE B nL y.cls cc → ZH l B s → meth.sig.returnType = ret → meth.name = y.name → c.exceptionTable.toList = tableOf hh → WG p l e { frames := fr, cells := mc, slots := ms, locals := lo } s m As.toArray below meth c D B nL (MQ below (QT D B T) As.toArray s mc ms (zA B)) S 0 0 0 lv []) : CtP l D B (wsW_ y cc nL ret hh) y fr lo mc ms As S T := by
  refine va_MetW (hh := hh) (cc := cc) (maxL := nL) (ret := ret) hy rfl ?_
  intro p e s m args below meth c s₁ B0 hml hv
  obtain ⟨rfl, ⟨⟨h, hS, hR⟩, hK⟩, hZ⟩ := hv
  have hts0 := atoms_spec (ws := wsW_ y cc nL ret hh) B0.pre
  have hts : ∀ w ∈ lw_all, w.before _ s = true := fun w h => hts0 w (List.mem_cons_of_mem _ h)
  have F : FX p s m As.toArray meth c D ZE B nL y.cls cc := ⟨B0.exec, B0.bytes, hml, findClass_of_methodNamed B0.named, hts, hK, stZE, B0.notSynchronized, hR.1⟩
  have hl := lvh_entry As hlen k0
  have hX : c.exceptionTable.toList = tableOf hh := vx_table (x := y) B0 (hts0 _ List.mem_cons_self)
  rw [lg_entry_eq]
  rw [hlv] at hl
  exact body p e s m below meth c F hZ B0.returns (name_of_methodNamed B0.named B0.method).1 hX h s.heap [] _ hS hR va_S.rf hl
end XOf
