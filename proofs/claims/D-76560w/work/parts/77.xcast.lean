/-! X: a cast that fails; calls of what may throw within -/
set_option maxRecDepth 100000
theorem z_castNo {p : Program} {l : Launch} {e : Env} {R : Room} {s : State} {m : MethodId} {args : Array Value} {below : List Frame} {meth : Method} {c : Code} {T : State} {locs : List Loc} {cells slots : Nat} (X : Stand p l e R s m args below meth c T locs cells slots) (hexec : p.tables.exec = Jvm.exec) {own name : String} {index : Nat} (hown : s.vm.findClass own = some m.cls) (hlink : (Cond.classLink own index name).before args s = true) {a : Addr} {cell : Cell} {cT : ClassId} {ks : Class} (hcell : T.heap[a]? = some cell) (hobj : ∀ k, cell.vm ≠ .statics k) (hks : s.vm.classes[cell.cls]? = some ks) (hcT : s.vm.findClass name = some cT) (hasg : s.vm.assignable cell.cls cT = false) {g : JFrame} (hg : g.method = m) {rest : List Value} (hstack : g.stack = .ref a :: rest) (hdg : decode c.code g.pc = .ok (.checkcast index, 3)) :
    ∃ (vm' : Vm) (ks' kt' : Class), Stand p l e R s m args below meth c (T.setVm vm') locs cells slots ∧ s.vm.Alike vm' ∧ vm'.classes[cell.cls]? = some ks' ∧ vm'.classes[cT]? = some kt' ∧ ∀ target, Steps p.tables e below (((T.setVm vm').setTop g).pushFrame (.throwNew "java/lang/ClassCastException" (some (Op.checkcast.message vm' ks' kt')) none)) target → Steps p.tables e below (T.setTop g) target := by
  have hpl : e.platform.magicAccessors = ({} : Platform).magicAccessors := by rw [X.admits.platform]
  obtain ⟨c', hc', hcl⟩ := Cond.classLink_spec hown hlink e.platform hpl
  cases hcT.symm.trans hc'
  obtain ⟨dk, _, _, kt, hd, _, _, _, _, hkt, _, hopen⟩ := hcl.here
  have hcl₀ := X.warmed.classLinks hcl
  have hW' : s.WarmedH (T.vm.noted m.cls index (.cls cT)) := X.warmed.noted hd hopen (State.rightAt_cls hcl)
  obtain ⟨ks', hks', -⟩ := hW'.alike.2.2 _ _ hks
  obtain ⟨kt', hkt', -⟩ := hW'.alike.2.2 _ _ hkt
  refine ⟨_, ks', kt', X.noted hW', hW'.alike, hks', hkt', fun target hrest => ?_⟩
  subst hg
  jvm_step X.here [hexec, hdg, Op.checkcast.wp_cold (e := e) (s := T) (f := g) X.here.top hstack (resolveClass_links e.toSetting hcl₀) hcl₀.ready,
    Op.checkcast.wp_ready (e := e) (s := T.setVm (T.vm.noted g.method.cls index (.cls cT))) (f := g) X.here.top hcl₀.ready hstack]
  refine ⟨cell, hcell, hobj, ks', hks', kt', hkt', ?_⟩
  rw [if_neg (by rw [hW'.alike.assignable, hasg]; decide)]
  exact hrest
theorem home_len {vm : Vm} {k : Class} (hl : k.loader = none) (hp : packageOf k.name = "") (hm : (vm.modules.all fun m => m.loader.isSome || m.name == "java.base" || !(castPackages_1.any fun p => m.packages.contains p)) = true) : (vm.home k).toList.length ≤ 38 := by
  have hn : vm.moduleOf k = none ∨ ∃ m, vm.moduleOf k = some m ∧ m.name = "java.base" := by
    cases h : vm.moduleOf k with
    | none => exact Or.inl rfl
    | some m =>
      refine Or.inr ⟨m, rfl, ?_⟩
      unfold Vm.moduleOf at h
      split at h
      · have := List.find?_some h
        simpa using this
      · have h1 := List.find?_some h
        have h2 := List.mem_of_find?_eq_some h
        have h3 := List.all_eq_true.mp hm m h2
        simp only [Bool.and_eq_true, beq_iff_eq] at h1
        rw [h1.1, hl] at h3
        have h4 : (castPackages_1.any fun p => m.packages.contains p) = true := List.any_eq_true.mpr ⟨"", by decide, by rw [← hp]; exact h1.2⟩
        rw [h4] at h3
        simpa using h3
  unfold Vm.home
  rw [hl]
  rcases hn with h | ⟨m, h, h2⟩
  · rw [h]
    show ("unnamed module" ++ " of loader " ++ "'bootstrap'").toList.length ≤ 38
    decide +kernel
  · rw [h]
    show ("module " ++ m.name ++ " of loader " ++ "'bootstrap'").toList.length ≤ 38
    rw [h2]
    show ("module " ++ "java.base" ++ " of loader " ++ "'bootstrap'").toList.length ≤ 38
    decide +kernel
theorem found_boot {vm : Vm} {name : String} {c : ClassId} {k : Class} (h : vm.findClass name = some c) (hk : vm.classes[c]? = some k) : k.name = name ∧ k.hidden = none ∧ k.loader = none := by
  obtain ⟨hlt, hp, _⟩ := Array.findIdx?_eq_some_iff_getElem.mp h
  have e : vm.classes[c] = k := by
    rw [Array.getElem?_eq_getElem hlt] at hk
    exact Option.some.inj hk
  rw [e] at hp
  simp only [Bool.and_eq_true, beq_iff_eq] at hp
  refine ⟨hp.1.1.1, ?_, ?_⟩
  · have := hp.1.1.2
    cases hh : k.hidden with
    | none => rfl
    | some x => rw [hh] at this; cases this
  · have := hp.2
    cases hh : k.loader with
    | none => rfl
    | some x => rw [hh] at this; cases this
/-- a class of ours: its name is short, in the unnamed package -/
def shortN (n : String) : Prop := packageOf n = "" ∧ (dotted n).toList.length ≤ 24
theorem shown_len {k : Class} (h : k.hidden = none) (hs : shortN k.name) : k.shown.toList.length ≤ 24 := by
  unfold Class.shown
  rw [h]
  exact hs.2
theorem cast_text {vm : Vm} {a b : Class} (ha : shortN a.name) (hb : shortN b.name) (h1 : a.hidden = none) (h2 : b.hidden = none) (l1 : a.loader = none) (l2 : b.loader = none) (hm : (vm.modules.all fun m => m.loader.isSome || m.name == "java.base" || !(castPackages_1.any fun p => m.packages.contains p)) = true) : (Op.checkcast.message vm a b == notModelled) = false ∧ (stringBytes (stringToUtf16 (Op.checkcast.message vm a b))).size ≤ 900 := by
  have ea := shown_len h1 ha
  have eb := shown_len h2 hb
  have fa := home_len l1 ha.1 hm
  have fb := home_len l2 hb.1 hm
  have hh : (vm.homes a b).toList.length ≤ 140 := by
    unfold Vm.homes
    split
    · show (a.shown ++ " and " ++ b.shown ++ " are in " ++ vm.home a).toList.length ≤ 140
      simp only [String.toList_append, List.length_append]
      have c1 : " and ".toList.length = 5 := by decide +kernel
      have c2 : " are in ".toList.length = 8 := by decide +kernel
      omega
    · show (a.shown ++ " is in " ++ vm.home a ++ "; " ++ b.shown ++ " is in " ++ vm.home b).toList.length ≤ 140
      simp only [String.toList_append, List.length_append]
      have c1 : " is in ".toList.length = 7 := by decide +kernel
      have c2 : "; ".toList.length = 2 := by decide +kernel
      omega
  have e : Op.checkcast.message vm a b = "class " ++ a.shown ++ " cannot be cast to class " ++ b.shown ++ " (" ++ vm.homes a b ++ ")" := rfl
  refine ⟨?_, ?_⟩
  · rw [beq_eq_false_iff_ne]
    intro h
    have h9 := congrArg String.toList h
    have h3 : (Op.checkcast.message vm a b).toList = 'c' :: ("lass ".toList ++ a.shown.toList ++ " cannot be cast to class ".toList ++ b.shown.toList ++ " (".toList ++ (vm.homes a b).toList ++ ")".toList) := by
      rw [e]
      simp only [String.toList_append]
      rfl
    rw [h3] at h9
    have h4 := congrArg List.head? h9
    have h5 : notModelled.toList.head? = some (Char.ofNat 0) := by decide +kernel
    rw [h5] at h4
    exact absurd (Option.some.inj h4) (by decide)
  · have b1 := stringBytes_size_le (stringToUtf16 (Op.checkcast.message vm a b))
    have b2 := utf16_size_le (Op.checkcast.message vm a b)
    have b3 : (Op.checkcast.message vm a b).toList.length ≤ 225 := by
      rw [e]
      simp only [String.toList_append, List.length_append]
      have c1 : "class ".toList.length = 6 := by decide +kernel
      have c2 : " cannot be cast to class ".toList.length = 25 := by decide +kernel
      have c3 : " (".toList.length = 2 := by decide +kernel
      have c4 : ")".toList.length = 1 := by decide +kernel
      omega
    omega
section XCast
variable {p : Program} {l : Launch} {e : Env} {R : Room} {s : State} {m : MethodId} {args : Array Value} {below : List Frame} {meth : Method} {c : Code} {D : va_G} {B nL : Nat} {Q : State → Prop}
variable {S S' : AH → Prop} {kc ns pc np : Nat} {lv lv' : List (Option Value)} {st st' rest : List Value} {own : String} {cc : ByteArray} {X : String}
/-- a cast that fails -/
theorem z_cast (F : FX p s m args meth c D ZE B nL own cc) (hZ : ZH l B s) (hr : TR R kc ns) (hcat : (st.map fun v => v.category).sum ≤ 30) {C name : String} {T0 : u_T} {index a ci N : Nat} (hpair : (C, name) ∈ zCasts) (hlink : Cond.classLink own index name ∈ lw_all) (hc : zCl[ci]? = some (C, T0, N)) (hb : ∀ h, S h → ∃ fs, h a = some (.inr (ci, fs))) (s1 : shortN C) (s2 : shortN name) (d : decode cc pc = .ok (.checkcast index, 3)) (kk : WX p l e R s m args below meth c D B nL Q S (kc + 3) (ns + 910) pc lv "java/lang/ClassCastException") : WG p l e R s m args below meth c D B nL Q S kc ns pc lv (.ref a :: st) := fun h H locs ls hs hR hV hL T hT Xs => by
  obtain ⟨fs, hf⟩ := hb h hs
  obtain ⟨cell, g1, g2, g3⟩ := g_recv F.2.2.2.2.2.1 hR hc hf
  obtain ⟨c1, c2, h1, h2, h3⟩ := hZ.2.2.2.2 _ hpair
  cases g3.symm.trans h1
  obtain ⟨ks, hks, -⟩ := Vm.findClass_spec h1
  obtain ⟨vm', ks', kt', X1, hal, hks', hkt', st1⟩ := z_castNo Xs F.1 F.2.2.2.1 (F.2.2.2.2.1 _ hlink) (by rw [hT]; exact g1) (fun z w => by rw [w] at g2; cases g2) hks h2 h3 (g := F0 m pc ls (.ref a :: st)) rfl rfl (by rw [F.2.1]; exact d)
  obtain ⟨n1, n2, n3⟩ := found_boot (by rw [hal.findClass]; exact h1) hks'
  obtain ⟨m1, m2, m3⟩ := found_boot (by rw [hal.findClass]; exact h2) hkt'
  have hm := hZ.2.2.2.1
  unfold modulesRight_1 at hm
  have em : vm'.modules = s.vm.modules := by rw [hal.1]
  have ht := cast_text (vm := vm') (a := ks') (b := kt') (by rw [n1]; exact s1) (by rw [m1]; exact s2) n2 m2 n3 m3 (by rw [em]; exact hm)
  obtain ⟨t, q1, q2⟩ := z_cce F hZ (rest := .ref a :: st) hr (by show 1 + (st.map fun v => v.category).sum ≤ 40; omega) kk hs hR hV hL ht.1 ht.2 (T.setVm vm') hT X1
  exact ⟨t, st1 t q1, q2⟩
theorem g_callZ {As : List Value} {a : Array Value} {T : Option Value → AH → Prop} {mc ms dp : Nat} (st0 : List Value)
    (hrun : ∀ (h : AH) (H : Heap) (locs : List Loc) (ls : Array Slot), S h → RepH D B h H → va_S (zA B) s.heap H locs → lvh ls nL lv → ∀ T0 : State, T0.heap = H → Stand p l e R s m args below meth c T0 locs kc ns → ∃ (v : Option Value) (st₀ t T' : State) (L : List Loc), st₀.heap = H ∧ Stand p l e R s m args below meth c T' (locs ++ L) (kc + mc) (ns + ms) ∧ (∀ q ∈ L, zA B q.base) ∧ T'.heap = t.heap ∧ T'.vm = t.vm ∧ QT D B T a st₀ (.returned v) t ∧ Goes p e below T0 (F0 m pc ls st0) T' (F0 m (pc + dp) ls (v.toList ++ rest)))
    (hp : pc + dp = np) (kk : ∀ v, WG p l e R s m args below meth c D B nL Q (T v) (kc + mc) (ns + ms) np lv (v.toList ++ rest)) : WG p l e R s m args below meth c D B nL Q S kc ns pc lv st0 := by
  subst hp
  intro h H locs ls hS hR hV hL T0 hT X
  obtain ⟨v, st₀, t, T', L, h0, X', hLf, e1, e2, ⟨⟨v', h', hv, hT', hR'⟩, hz, hk⟩, st⟩ := hrun h H locs ls hS hR hV hL T0 hT X
  cases hv
  rw [h0] at hz hk
  obtain ⟨t2, a1, b1⟩ := kk v h' T'.heap (locs ++ L) ls hT' (by rw [e1]; exact hR') ⟨Nat.le_trans hV.1 (by rw [e1]; exact hz), fun q h1 h2 => by rw [e1, hk q (Nat.lt_of_lt_of_le h1 hV.1) h2]; exact hV.2.1 q h1 h2, fun q hq => by
      rcases List.mem_append.mp hq with z | z
      · exact hV.2.2 q z
      · exact hLf q z⟩ hL T' rfl X'
  exact ⟨t2, st t2 a1, b1⟩
/-- a call of a method with handlers -/
theorem g_runVW (F : FX p s m args meth c D ZE B nL own cc) (hZ : ZH l B s) {C : String} {index b ci n nLy fr lo mc ms N : Nat} {T0 : u_T} {y : MethodName} {bytes : ByteArray} {ret : Option FieldType} {hh : List (Nat × Nat × Nat × Nat)} {As : List Value} {T : Option Value → AH → Prop}
    (hC : CtP l D B (wsW_ y bytes nLy ret hh) y fr lo mc ms (.ref b :: As) S T) (hw : GoodIn lw_all (wsV own index C y (wsW_ y bytes nLy ret hh))) (hcl : y.cls = C ∧ y.cls ≠ "java/lang/invoke/MethodHandle" ∧ y.cls ≠ "java/lang/invoke/VarHandle" ∧ (parseMethodDescriptor y.desc).map (fun d => d.parameters.length) = some n) (hroom : fr + 1 ≤ R.frames ∧ 8 + (nLy + 11) + lo ≤ R.locals) (hc : zCl[ci]? = some (C, T0, N)) (hb : ∀ h, S h → ∃ fs, h b = some (.inr (ci, fs))) (hn : As.length = n) (hst : st = As.reverse ++ .ref b :: rest) (hW : (rest.map fun v => v.category).sum ≤ 8) (d : decode cc pc = .ok (.invokevirtual index, 3)) (hf : kc + mc ≤ R.cells ∧ ns + ms ≤ R.slots) (hp : pc + 3 = np)
    (kk : ∀ v, WG p l e R s m args below meth c D B nL Q (T v) (kc + mc) (ns + ms) np lv (v.toList ++ rest)) : WG p l e R s m args below meth c D B nL Q S kc ns pc lv st := by
  refine g_callZ (a := (Value.ref b :: As).toArray) (As := As) (dp := 3) st (fun h H locs ls hs hR hV hL => ?_) hp kk
  obtain ⟨fs, hbf⟩ := hb h hs
  exact vx_runVW (hh := hh) (g := F0 m pc ls st) ⟨F.1, F.2.1, F.2.2.1, F.2.2.2.1, F.2.2.2.2.1⟩ hC (vx_cwVW n F.2.2.2.2.1 hw rfl rfl rfl hcl hroom) ⟨pz_blind, g_recv F.2.2.2.2.2.1 hR hc hbf, pz_at F hZ hs hR hV⟩ rfl hn hL.1 hst (lv_room hW) d hf
/-- .. without -/
theorem g_runVZ (F : FX p s m args meth c D ZE B nL own cc) (hZ : ZH l B s) {C : String} {index b ci n nLy fr lo mc ms N : Nat} {T0 : u_T} {y : MethodName} {bytes : ByteArray} {ret : Option FieldType} {As : List Value} {T : Option Value → AH → Prop}
    (hC : CtP l D B (ws_ y bytes nLy ret) y fr lo mc ms (.ref b :: As) S T) (hw : GoodIn lw_all (wsV own index C y (ws_ y bytes nLy ret))) (hcl : y.cls = C ∧ y.cls ≠ "java/lang/invoke/MethodHandle" ∧ y.cls ≠ "java/lang/invoke/VarHandle" ∧ (parseMethodDescriptor y.desc).map (fun d => d.parameters.length) = some n) (hroom : fr + 1 ≤ R.frames ∧ 8 + (nLy + 11) + lo ≤ R.locals) (hc : zCl[ci]? = some (C, T0, N)) (hb : ∀ h, S h → ∃ fs, h b = some (.inr (ci, fs))) (hn : As.length = n) (hst : st = As.reverse ++ .ref b :: rest) (hW : (rest.map fun v => v.category).sum ≤ 8) (d : decode cc pc = .ok (.invokevirtual index, 3)) (hf : kc + mc ≤ R.cells ∧ ns + ms ≤ R.slots) (hp : pc + 3 = np)
    (kk : ∀ v, WG p l e R s m args below meth c D B nL Q (T v) (kc + mc) (ns + ms) np lv (v.toList ++ rest)) : WG p l e R s m args below meth c D B nL Q S kc ns pc lv st := by
  refine g_callZ (a := (Value.ref b :: As).toArray) (As := As) (dp := 3) st (fun h H locs ls hs hR hV hL => ?_) hp kk
  obtain ⟨fs, hbf⟩ := hb h hs
  exact va_runV (g := F0 m pc ls st) ⟨F.1, F.2.1, F.2.2.1, F.2.2.2.1, F.2.2.2.2.1⟩ hC (cwV n F.2.2.2.2.1 hw rfl rfl rfl hcl hroom) ⟨pz_blind, g_recv F.2.2.2.2.2.1 hR hc hbf, pz_at F hZ hs hR hV⟩ rfl hn hL.1 hst (lv_room hW) d hf
end XCast
