/-! X: bodies: overriding, interfaces, super calls, fields of one name -/
set_option maxRecDepth 100000
theorem z_apart {args : Array Value} {s : State} {C O f d O' f' d' : String} (h : (Cond.laysFinal C O f d).before args s = true) (h' : (Cond.laysFinal C O' f' d').before args s = true) {cf kf fi fd cf' kf' fi' fd'} (hi : s.fieldFound? O f d = some (cf, kf, fi, fd)) (hi' : s.fieldFound? O' f' d' = some (cf', kf', fi', fd')) (hne : O ≠ O') : fd.slot ≠ fd'.slot := by
  obtain ⟨c, k, c1, k1, i1, x1, r1, -, r3, -, -, -, r7, -, dd, q1, q2, -⟩ := Cond.laysFinal_spec h
  obtain ⟨c', k', c2, k2, i2, x2, u1, -, u3, -, -, -, u7, -, dd', w1, w2, -⟩ := Cond.laysFinal_spec h'
  cases r1.symm.trans u1
  cases hi.symm.trans r3
  cases hi'.symm.trans u3
  intro e
  rw [e] at q1
  cases q1.symm.trans w1
  obtain ⟨z1, y1, y2⟩ := Vm.findClass_spec r7
  obtain ⟨z2, v1, v2⟩ := Vm.findClass_spec u7
  cases (State.fieldFound?_spec hi).1.symm.trans y1
  cases (State.fieldFound?_spec hi').1.symm.trans v1
  exact hne (y2.symm.trans (q2.symm.trans (w2.trans v2)))
def apT (T : u_T) (N : Nat) : Prop := ∀ a, a < N → ∀ b, b < N → a ≠ b → (T a).2.1 ≠ (T b).2.1 ∨ ((T a).1 ≠ (T b).1 ∧ (T a).2.2.2 = true ∧ (T b).2.2.2 = true)
theorem z_apartT {args : Array Value} {s : State} {D : va_G} {C : String} {T : u_T} {N ci : Nat} {Ts : List Cond} {cl : List vw_C} {tys : List (ClassId × FieldType)} (hts : ∀ w ∈ Ts, w.before args s = true) (hin : ∀ w ∈ u_ws C T N, w ∈ Ts) (ty : Nat → FieldType) (hty : ∀ k, k < N → parseFieldDescriptor (T k).2.2.1 = some (ty k)) (hnm : apT T N) (hK : va_K D cl tys s) (hc : cl[ci]? = some (C, T, N)) : ∀ x y, x < N → y < N → x ≠ y → (D.2 ci) x ≠ (D.2 ci) y := by
  intro x y hx hy hne
  obtain ⟨hS, -⟩ := hK.1 ci _ hc
  obtain ⟨_, _, _, fa, hia, ea⟩ := hS x hx
  obtain ⟨_, _, _, fb, hib, eb⟩ := hS y hy
  rw [← ea, ← eb]
  rcases hnm x hx y hy hne with h | ⟨h, f1, f2⟩
  · refine u_apart (u_lays hts hin hx) (u_lays hts hin hy) hia hib ?_
    rw [(State.fieldFound?_type hia (hty x hx)).1, (State.fieldFound?_type hib (hty y hy)).1]
    exact h
  · have l1 := hts _ (hin _ (u_in_lay hx))
    have l2 := hts _ (hin _ (u_in_lay hy))
    unfold u_lay at l1 l2
    rw [if_pos f1] at l1
    rw [if_pos f2] at l2
    exact z_apart l1 l2 hia hib h
section XSup
variable {p : Program} {l : Launch} {e : Env} {R : Room} {s : State} {m : MethodId} {args : Array Value} {below : List Frame} {meth : Method} {c : Code} {D : va_G} {E : State → Prop} {B nL : Nat} {Q : State → Prop}
variable {S S' : AH → Prop} {kc ns pc np : Nat} {lv lv' : List (Option Value)} {st st' rest : List Value} {own : String} {cc : ByteArray}
theorem g_putFX (F : FX p s m args meth c D E B nL own cc) (hin2 : meth.name = "<init>") {ref C : String} {T : u_T} {N ci index a : Nat} (hin : ∀ w ∈ u_ws C T N, w ∈ lw_all) (ty0 : Nat → FieldType) (hty : ∀ k, k < N → parseFieldDescriptor (T k).2.2.1 = some (ty0 k)) (hnm : apT T N) (hc : zCl[ci]? = some (C, T, N)) (k : Nat) (hk : k < N) (hlink : Cond.fieldLink own index ref (T k).2.1 (T k).2.2.1 ∈ lw_all) (hsame : ∀ x, s.fieldFound? (T k).1 (T k).2.1 (T k).2.2.1 = some x → s.fieldFound? ref (T k).2.1 (T k).2.2.1 = some x) (hfin : (T k).2.2.2 = true) (hdecl : (T k).1 = own) {ty : FieldType} {v : Value} (hd : parseFieldDescriptor (T k).2.2.1 = some ty) (hn : narrow ty v = v) (hfit : fits ty v = true) (hS : ∀ h, S h → ∃ fs, h a = some (.inr (ci, fs)) ∧ k < fs.length ∧ S' (hup h a (.inr (ci, fs.set k v)))) (d : decode cc pc = .ok (.putfield index, 3)) (hp : pc + 3 = np) (kk : WG p l e R s m args below meth c D B nL Q S' kc ns np lv st) : WG p l e R s m args below meth c D B nL Q S kc ns pc lv (v :: .ref a :: st) := by
  subst hp
  intro h H locs ls hs hR hV hL
  obtain ⟨fs, he, hl, hs'⟩ := hS h hs
  have hts := F.2.2.2.2.1
  have hK := F.2.2.2.2.2.1.1
  have hown := F.2.2.2.1
  have hap := z_apartT hts hin ty0 hty hnm hK hc
  obtain ⟨r, h1, cell, q1, q2, q3, q4⟩ := (hR.2 _ _ he).2
  have hr : r = (C, T, N) := Option.some.inj (h1.symm.trans hc)
  subst hr
  obtain ⟨hSl, hfc, kC, hkC, hkind⟩ := hK.1 ci _ hc
  obtain ⟨cf, kf, fi, f, hi, hsl⟩ := hSl k hk
  have hlay := hts _ (hin _ (u_in_lay hk))
  unfold u_lay at hlay
  rw [if_pos hfin] at hlay
  have hst := (u_facts hfc hkC (u_lays hts hin hk) hi).1
  have hcf : m.cls = cf := by
    obtain ⟨_, _, c', _, _, _, -, -, hf', -, -, -, hown2, -⟩ := Cond.laysFinal_spec hlay
    have e1 : c' = cf := by have := hi.symm.trans hf'; simp at this; exact this.1.symm
    rw [hdecl] at hown2
    rw [← e1]; exact Option.some.inj (hown.symm.trans hown2)
  have h6 := u_fits hfc hkC hkind (Or.inr hlay) hi hd hn hfit
  refine W.putFinK F.1 F.2.1 hown (hts _ hlink) (hsame _ hi) hst hcf hin2 (by rw [q2]; exact h6) q1 q3 (by rw [hsl]; exact k2_hasslot (q4 k hk)) rfl rfl d fun H' e1 e2 e3 => ?_
  rw [hsl] at e1 ⊢
  exact kk _ H' _ ls hs' (hR.set (hR.2 _ _ he).1 ⟨_, hc, t_OB.to (V := updV (vp_V fs) k v) ⟨_, e1, q2, q3, t_set q4 hap hk v⟩ (fun j _ => vp_updV_set hl v j)⟩ e2 e3) (hV.put e2 e3 (hR.2 _ _ he).1) hL
theorem fr_putFX (F : FX p s m args meth c D E B nL own cc) (hin2 : meth.name = "<init>") {C : String} {T : u_T} {N ci index a : Nat} {fs : List Value} (hin : ∀ w ∈ u_ws C T N, w ∈ lw_all) (ty0 : Nat → FieldType) (hty : ∀ k, k < N → parseFieldDescriptor (T k).2.2.1 = some (ty0 k)) (hnm : apT T N) (hc : zCl[ci]? = some (C, T, N)) (k : Nat) (hk : k < N) (hT : (T k).1 = own) (hlink : Cond.fieldLink own index own (T k).2.1 (T k).2.2.1 ∈ lw_all) (hfin : (T k).2.2.2 = true) {ty : FieldType} {v : Value} (hd : parseFieldDescriptor (T k).2.2.1 = some ty) (hn : narrow ty v = v) (hfit : fits ty v = true) (hl : k < fs.length) (d : decode cc pc = .ok (.putfield index, 3)) (hp : pc + 3 = np) (kk : WG p l e R s m args below meth c D B nL Q (Fr B S a (.inr (ci, fs.set k v))) kc ns np lv st) : WG p l e R s m args below meth c D B nL Q (Fr B S a (.inr (ci, fs))) kc ns pc lv (v :: .ref a :: st) :=
  g_putFX F hin2 hin ty0 hty hnm hc k hk hlink (fun x hx => by rw [hT] at hx; exact hx) hfin hT hd hn hfit (fun h' hs => by
    obtain ⟨h, h1, h2, h3, rfl⟩ := hs
    exact ⟨fs, hup_self _ _ _, hl, h, h1, h2, h3, hup_hup _ _ _ _⟩) d hp kk
/-- invokevirtual of x, the receiver's class has y; the owner's method is known too -/
theorem g_runO (F : FX p s m args meth c D E B nL own cc) {C owner : String} {index b ci n nLy fr lo mc ms N : Nat} {T0 : u_T} {x y : MethodName} {bytes : ByteArray} {ret : Option FieldType} {As : List Value} {T : Option Value → AH → Prop}
    (hC : Ct l D E B y bytes nLy ret fr lo mc ms (.ref b :: As) S T) (w1 : Cond.methodLink own index x ∈ lw_all) (w2 : Cond.sameMethod x.cls owner x.name x.desc ∈ lw_all) (w3 : Cond.instanceMethod ⟨owner, x.name, x.desc⟩ ∈ lw_all) (w4 : Cond.selects C x y ∈ lw_all) (w5 : Cond.instanceMethod y ∈ lw_all) (w6 : Cond.initialized y.cls ∈ lw_all) (w7 : Cond.code y bytes nLy ret ∈ lw_all) {b0 : ByteArray} {m0 : Nat} {r0 : Option FieldType} (w8 : Cond.code ⟨owner, x.name, x.desc⟩ b0 m0 r0 ∈ lw_all) (hd : owner ≠ "java/lang/invoke/MethodHandle" ∧ owner ≠ "java/lang/invoke/VarHandle" ∧ (parseMethodDescriptor x.desc).map (fun d => d.parameters.length) = some n) (hroom : fr + 1 ≤ R.frames ∧ 8 + (nLy + 11) + lo ≤ R.locals) (hc : zCl[ci]? = some (C, T0, N)) (hb : ∀ h, S h → ∃ fs, h b = some (.inr (ci, fs))) (hn : As.length = n) (hst : st = As.reverse ++ .ref b :: rest) (hW : (rest.map fun v => v.category).sum ≤ 8) (d : decode cc pc = .ok (.invokevirtual index, 3)) (hf : kc + mc ≤ R.cells ∧ ns + ms ≤ R.slots) (hp : pc + 3 = np)
    (kk : ∀ v, WG p l e R s m args below meth c D B nL Q (T v) (kc + mc) (ns + ms) np lv (v.toList ++ rest)) : WG p l e R s m args below meth c D B nL Q S kc ns pc lv st := by
  refine g_call (a := (Value.ref b :: As).toArray) (As := As) (dp := 3) st (fun h H locs ls hs hR hL => ?_) hp kk
  obtain ⟨fs, hbf⟩ := hb h hs
  have hw : GoodIn lw_all (va_wsO own index C owner x y (ws_ y bytes nLy ret)) := lw_app (List.forall_mem_cons.mpr ⟨w1, List.forall_mem_cons.mpr ⟨w2, List.forall_mem_cons.mpr ⟨w3, List.forall_mem_cons.mpr ⟨w4, List.forall_mem_cons.mpr ⟨w5, List.forall_mem_cons.mpr ⟨w6, fun _ h => by cases h⟩⟩⟩⟩⟩⟩) (lw_meth w7)
  exact (va_runU (C := C) (owner := owner) (x := x) (g := F0 m pc ls st) ⟨F.1, F.2.1, F.2.2.1, F.2.2.2.1, F.2.2.2.2.1⟩ hC (va_cwO n F.2.2.2.2.1 hw rfl rfl rfl w8 hd hroom) ⟨pre_blind F.2.2.2.2.2.2.1, g_recv F.2.2.2.2.2.1 hR hc hbf, pre_at F.2.2.2.2.2.2.1 F.2.2.2.2.2.1 hs hR⟩ rfl hn hL.1 hst (lv_room hW) d hf)
/-- invokeinterface of x, the receiver's class has y -/
theorem g_runF (F : FX p s m args meth c D E B nL own cc) {C : String} {index count b ci n nLy fr lo mc ms N : Nat} {T0 : u_T} {x y : MethodName} {bytes : ByteArray} {ret : Option FieldType} {As : List Value} {T : Option Value → AH → Prop}
    (hC : Ct l D E B y bytes nLy ret fr lo mc ms (.ref b :: As) S T) (w1 : Cond.methodLink own index x ∈ lw_all) (w4 : Cond.selects C x y ∈ lw_all) (w5 : Cond.instanceMethod y ∈ lw_all) (w6 : Cond.initialized y.cls ∈ lw_all) (w7 : Cond.code y bytes nLy ret ∈ lw_all) (hz : ∀ U, E U → va_Fw C x y U) (hd : x.cls ≠ "java/lang/invoke/MethodHandle" ∧ x.cls ≠ "java/lang/invoke/VarHandle" ∧ (parseMethodDescriptor x.desc).map (fun d => d.parameters.length) = some n) (hroom : fr + 1 ≤ R.frames ∧ 8 + (nLy + 11) + lo ≤ R.locals) (hc : zCl[ci]? = some (C, T0, N)) (hb : ∀ h, S h → ∃ fs, h b = some (.inr (ci, fs))) (hn : As.length = n) (hst : st = As.reverse ++ .ref b :: rest) (hW : (rest.map fun v => v.category).sum ≤ 8) (d : decode cc pc = .ok (.invokeinterface index count, 5)) (hf : kc + mc ≤ R.cells ∧ ns + ms ≤ R.slots) (hp : pc + 5 = np)
    (kk : ∀ v, WG p l e R s m args below meth c D B nL Q (T v) (kc + mc) (ns + ms) np lv (v.toList ++ rest)) : WG p l e R s m args below meth c D B nL Q S kc ns pc lv st := by
  refine g_call (a := (Value.ref b :: As).toArray) (As := As) (dp := 5) st (fun h H locs ls hs hR hL => ?_) hp kk
  obtain ⟨fs, hbf⟩ := hb h hs
  have hw : GoodIn lw_all (va_wsF own index C x y (ws_ y bytes nLy ret)) := lw_app (List.forall_mem_cons.mpr ⟨w1, List.forall_mem_cons.mpr ⟨w4, List.forall_mem_cons.mpr ⟨w5, List.forall_mem_cons.mpr ⟨w6, fun _ h => by cases h⟩⟩⟩⟩) (lw_meth w7)
  exact va_runF (C := C) (x := x) (g := F0 m pc ls st) (F.2.2.2.2.2.1.1.1 ci _ hc).2 ⟨F.1, F.2.1, F.2.2.1, F.2.2.2.1, F.2.2.2.2.1⟩ hC (va_cwF n F.2.2.2.2.1 hw rfl rfl rfl (hz s F.2.2.2.2.2.1.2) hd hroom) ⟨pre_blind F.2.2.2.2.2.2.1, g_recv F.2.2.2.2.2.1 hR hc hbf, pre_at F.2.2.2.2.2.2.1 F.2.2.2.2.2.1 hs hR⟩ rfl hn hL.1 hst (lv_room hW) d hf
/-- super.x(..), that the class above has from owner -/
theorem z_callSU {T : State} {locs : List Loc} {cells slots : Nat} (X : Stand p l e R s m args below meth c T locs cells slots) (hexec : p.tables.exec = Jvm.exec) {own owner : String} {index : Nat} {x : MethodName} {bytes : ByteArray} {maxL : Nat} {ret : Option FieldType}
    (hown : s.vm.findClass own = some m.cls) (hlink : (Cond.methodLink own index x).before args s = true) (hsame : (Cond.sameMethod x.cls owner x.name x.desc).before args s = true) (hsup : (Cond.superclass own x.cls).before args s = true)
    (hinst : (Cond.instanceMethod ⟨owner, x.name, x.desc⟩).before args s = true) (hcode : (Cond.code ⟨owner, x.name, x.desc⟩ bytes maxL ret).before args s = true) (hno : x.name ≠ "<init>")
    (hsubs : ∀ cn ro, s.vm.findClass x.cls = some cn → s.vm.findClass owner = some ro → s.vm.isSubclass cn ro = true)
    {W : Nat} {Pre : Pt → Array Value → Prop} {Post : Pt → Array Value → Option Value → Pt → Prop} (hK : Back l R p e below s args ⟨owner, x.name, x.desc⟩ 3 W Pre Post)
    {b : Addr} {cellB : Cell} {kB : Class} (hcell : T.heap[b]? = some cellB) (hobj : cellB.vm.isStatics = false) (hkB : s.vm.classes[cellB.cls]? = some kB)
    {g : JFrame} (hg : g.method = m) (hsize : g.locals.size = c.maxLocals) {argsL rest : List Value} (hlen : ∀ sig, parseMethodDescriptor x.desc = some sig → argsL.length = sig.parameters.length)
    (hstack : g.stack = argsL.reverse ++ .ref b :: rest) (hW : 2 * g.monitorRoom + (rest.map fun v => v.category).sum ≤ W) (hdg : decode c.code g.pc = .ok (.invokespecial index, 3))
    (hpre : ∀ vm₁, s.WarmedH vm₁ → Pre ⟨T.setVm vm₁, locs, cells, slots⟩ (Value.ref b :: argsL).toArray) :
    ∃ (v : Option Value) (vm₁ : Vm) (B : Pt), s.WarmedH vm₁ ∧ Stand p l e R s m args below meth c B.U B.locs B.cells B.slots ∧ Post ⟨T.setVm vm₁, locs, cells, slots⟩ (Value.ref b :: argsL).toArray v B ∧
      ∀ target, Steps p.tables e below (B.U.setTop { g with pc := g.pc + 3, stack := v.toList ++ rest }) target → Steps p.tables e below (T.setTop g) target := by
  obtain ⟨mk, methM, hnamed, hmethM, hstM, habM⟩ := Cond.instanceMethod_spec hinst
  obtain ⟨methM', cM, hmethM', -, -, -, -, -, -, hsigM⟩ := Cond.code_spec hnamed hcode
  cases hmethM.symm.trans hmethM'
  obtain ⟨ps, dk, kp, hps, hdk, hkp, hsuper, -, -, hnid⟩ := Cond.superclass_spec hown hsup
  have hsub : s.vm.isSubclass ps mk.cls = true := hsubs _ _ hps (findClass_of_methodNamed hnamed)
  obtain ⟨vm₁, X₁, hstep₁⟩ := X.invokespecialUp hexec (x := x) (owner := owner) hown hlink hsame hnamed hmethM hstM habM hno hdk hnid hps hsuper hsub (a := b) (cell := cellB) hcell
    (fun z h => by rw [h] at hobj; cases hobj) hkB (g := g) hg (argsL := argsL) (rest := rest) (hlen _ hsigM) hstack hdg
  obtain ⟨v, B, X', hpost, hsteps⟩ := hK m meth c ⟨T.setVm vm₁, locs, cells, slots⟩ { g with stack := rest } (.invokespecial index) mk (Value.ref b :: argsL).toArray X₁ hg hsize hdg hW (X₁.named hnamed) (hpre vm₁ X₁.warmed)
  exact ⟨v, vm₁, B, X₁.warmed, X', hpost, fun target h => hstep₁ _ (by rw [doInvoke_state]; exact hsteps.trans h)⟩
/-- from C up to U by words -/
def SupW (U : String) : String → List String → Prop
  | C, [] => C = U
  | C, M :: r => Cond.superclass C M ∈ lw_all ∧ SupW U M r
theorem SupW.sub {U : String} (hts : ∀ w ∈ lw_all, w.before args s = true) : ∀ (ch : List String) (C : String), SupW U C ch → ∀ (fuel : Nat) (cn ro : ClassId), ch.length < fuel → s.vm.findClass C = some cn → s.vm.findClass U = some ro → s.vm.isSubclassAux fuel cn ro = true
  | [], C, h, fuel, cn, ro, hf, h1, h2 => by
    have h : C = U := h
    subst h
    cases h1.symm.trans h2
    match fuel, hf with
    | f + 1, _ => simp [Vm.isSubclassAux]
  | M :: r, C, h, fuel, cn, ro, hf, h1, h2 => by
    obtain ⟨ps, dk, kp, hps, hdk, hkp, hsuper, -⟩ := Cond.superclass_spec h1 (hts _ h.1)
    have hf : r.length + 1 < fuel := hf
    match fuel, hf with
    | f + 1, hf =>
      have := SupW.sub hts r M h.2 f ps ro (by omega) hps h2
      simp [Vm.isSubclassAux, hdk, hsuper, this]
theorem two_classes {A B : String} {a b : ClassId} (h1 : s.vm.findClass A = some a) (h2 : s.vm.findClass B = some b) (hne : A ≠ B) : 2 ≤ s.vm.classes.size := by
  obtain ⟨k1, a1, a2⟩ := Vm.findClass_spec h1
  obtain ⟨k2, b1, b2⟩ := Vm.findClass_spec h2
  have l1 : a < s.vm.classes.size := (Array.getElem?_eq_some_iff.mp a1).1
  have l2 : b < s.vm.classes.size := (Array.getElem?_eq_some_iff.mp b1).1
  have : a ≠ b := fun z => by
    subst z
    cases a1.symm.trans b1
    exact hne (a2.symm.trans b2)
  rcases Nat.lt_or_ge s.vm.classes.size 2 with z | z
  · have e1 : a = 0 := Nat.le_zero.mp (Nat.le_of_lt_succ (Nat.lt_of_lt_of_le l1 (Nat.le_of_lt_succ z)))
    have e2 : b = 0 := Nat.le_zero.mp (Nat.le_of_lt_succ (Nat.lt_of_lt_of_le l2 (Nat.le_of_lt_succ z)))
    exact absurd (e1.trans e2.symm) this
  · exact z
/-- super.x(..) -/
theorem g_runSU (F : FX p s m args meth c D E B nL own cc) {C owner : String} {ch : List String} {index b ci n nLy fr lo mc ms N : Nat} {T0 : u_T} {x : MethodName} {bytes : ByteArray} {ret : Option FieldType} {As : List Value} {T : Option Value → AH → Prop}
    (hC : Ct l D E B ⟨owner, x.name, x.desc⟩ bytes nLy ret fr lo mc ms (.ref b :: As) S T) (w1 : Cond.methodLink own index x ∈ lw_all) (w2 : Cond.sameMethod x.cls owner x.name x.desc ∈ lw_all) (w3 : Cond.superclass own x.cls ∈ lw_all) (w4 : Cond.instanceMethod ⟨owner, x.name, x.desc⟩ ∈ lw_all) (w6 : Cond.initialized owner ∈ lw_all) (w7 : Cond.code ⟨owner, x.name, x.desc⟩ bytes nLy ret ∈ lw_all) (hch : SupW owner x.cls ch) (hcl : ch.length ≤ 2) (hd : x.name ≠ "<init>" ∧ (parseMethodDescriptor x.desc).map (fun d => d.parameters.length) = some n) (hroom : fr + 1 ≤ R.frames ∧ 8 + (nLy + 11) + lo ≤ R.locals) (hc : zCl[ci]? = some (C, T0, N)) (hb : ∀ h, S h → ∃ fs, h b = some (.inr (ci, fs))) (hn : As.length = n) (hst : st = As.reverse ++ .ref b :: rest) (hW : (rest.map fun v => v.category).sum ≤ 8) (d : decode cc pc = .ok (.invokespecial index, 3)) (hf : kc + mc ≤ R.cells ∧ ns + ms ≤ R.slots) (hp : pc + 3 = np)
    (kk : ∀ v, WG p l e R s m args below meth c D B nL Q (T v) (kc + mc) (ns + ms) np lv (v.toList ++ rest)) : WG p l e R s m args below meth c D B nL Q S kc ns pc lv st := by
  refine g_call (a := (Value.ref b :: As).toArray) (As := As) (dp := 3) st (fun h H locs ls hs hR hL => ?_) hp kk
  obtain ⟨fs, hbf⟩ := hb h hs
  have hts := F.2.2.2.2.1
  have hK1 := F.2.2.2.2.2.1.1.1
  have h2c : 2 ≤ s.vm.classes.size := two_classes (A := RX3) (B := RX4) (hK1 3 _ rfl).2.1 (hK1 4 _ rfl).2.1 (by decide)
  have hG : GoodIn lw_all (ws_ ⟨owner, x.name, x.desc⟩ bytes nLy ret) := lw_meth w7
  have hlen : ∀ sig, parseMethodDescriptor x.desc = some sig → n = sig.parameters.length := fun sig h => by
    have h2 := hd.2
    rw [h] at h2
    exact (Option.some.inj h2).symm
  have hp : PreV s H C b _ As := ⟨pre_blind F.2.2.2.2.2.2.1, g_recv F.2.2.2.2.2.1 hR hc hbf, pre_at (S := S) F.2.2.2.2.2.2.1 F.2.2.2.2.2.1 hs hR⟩
  have hat := (hK1 ci _ hc).2
  have hcode := hts _ w7
  have hini := hts _ w6
  have hK : Back l R p e below s args ⟨owner, x.name, x.desc⟩ 3 8 (PreOf R mc ms _) (PostOf _ mc ms (zA B)) := back_of (bytes := bytes) (maxL := nLy) (ret := ret) hC hp.1 rfl rfl hroom.1 hroom.2 (pay_in hts hG) (by first | exact List.mem_cons_self) (fun a' U hW => word_at hW (Or.inl (by first | rfl | simp [Cond.onTables, Cond.keeps, Cond.steady])) hini)
  obtain ⟨-, ⟨cellB, hcB, hoB, hclB⟩, hPc⟩ := hp
  obtain ⟨hfc, kB, hkB, -⟩ := hat
  rw [Option.some.inj (hfc.symm.trans hclB)] at hkB
  intro T1 hT X
  obtain ⟨v, vm₁, ⟨U', l2, c2, s2⟩, hW₁, X', ⟨g', mk, t, L, e1, e2, hq, h1, hL2, h2, h3⟩, st2⟩ := z_callSU X F.1 (bytes := bytes) (maxL := nLy) (ret := ret) F.2.2.2.1 (hts _ w1) (hts _ w2) (hts _ w3) (hts _ w4) hcode hd.1 (fun cn ro z1 z2 => SupW.sub hts ch x.cls hch _ cn ro (by omega) z1 z2) hK (by rw [hT]; exact hcB) hoB hkB (g := F0 m pc ls st) rfl (hL.1.trans F.2.2.1.symm) (argsL := As) (rest := rest) (fun sig h => hn.trans (hlen sig h)) hst (lv_room hW) (by rw [F.2.1]; exact d)
    (fun vm₁ hW₁ => ⟨hf.1, hf.2, hPc (T1.setVm vm₁) hT hW₁⟩)
  dsimp only [Pt.U, Pt.locs, Pt.cells, Pt.slots] at X' e1 e2 h1 h2 h3 st2
  subst h1; subst h2; subst h3
  exact ⟨v, (T1.setVm vm₁).calling g' mk (Value.ref b :: As).toArray, t, U', L, hT, X', hL2, e1, e2, hq, st2⟩
end XSup
theorem apX15 : apT TX15 2 := by show ∀ a, a < 2 → ∀ b, b < 2 → a ≠ b → _ ∨ _; decide +kernel
theorem apX16 : apT TX16 3 := by show ∀ a, a < 3 → ∀ b, b < 3 → a ≠ b → _ ∨ _; decide +kernel
theorem apX17 : apT TX17 3 := by show ∀ a, a < 3 → ∀ b, b < 3 → a ≠ b → _ ∨ _; decide +kernel
theorem apX18 : apT TX18 4 := by show ∀ a, a < 4 → ∀ b, b < 4 → a ≠ b → _ ∨ _; decide +kernel
theorem apX19 : apT TX19 4 := by show ∀ a, a < 4 → ∀ b, b < 4 → a ≠ b → _ ∨ _; decide +kernel
theorem apX20 : apT TX20 5 := by show ∀ a, a < 5 → ∀ b, b < 5 → a ≠ b → _ ∨ _; decide +kernel
theorem apX21 : apT TX21 3 := by show ∀ a, a < 3 → ∀ b, b < 3 → a ≠ b → _ ∨ _; decide +kernel
theorem apX22 : apT TX22 5 := by show ∀ a, a < 5 → ∀ b, b < 5 → a ≠ b → _ ∨ _; decide +kernel
