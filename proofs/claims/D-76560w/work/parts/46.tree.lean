/-! X: the law's trees -/
set_option maxRecDepth 100000
theorem lw_U {own : String} {idx : Nat} {C owner : String} {x y : MethodName} {b : ByteArray} {L : Nat} {r : Option FieldType} (h1 : Cond.methodLink own idx x ∈ lw_all) (h2 : Cond.sameMethod x.cls owner x.name x.desc ∈ lw_all) (h3 : Cond.selects C x y ∈ lw_all) (h4 : Cond.instanceMethod y ∈ lw_all) (h5 : Cond.initialized y.cls ∈ lw_all) (h6 : Cond.code y b L r ∈ lw_all) : GoodIn lw_all (va_wsU own idx C owner x y (ws_ y b L r)) := lw_app (List.forall_mem_cons.mpr ⟨h1, List.forall_mem_cons.mpr ⟨h2, List.forall_mem_cons.mpr ⟨h3, List.forall_mem_cons.mpr ⟨h4, List.forall_mem_cons.mpr ⟨h5, fun _ h => by cases h⟩⟩⟩⟩⟩) (lw_meth h6)
section XRunA
variable {p : Program} {l : Launch} {e : Env} {R : Room} {s : State} {m : MethodId} {args : Array Value} {below : List Frame} {meth : Method} {c : Code} {D : va_G} {E : State → Prop} {B nL : Nat} {Q : State → Prop}
variable {S S' : AH → Prop} {kc ns pc np : Nat} {lv lv' : List (Option Value)} {st st' rest : List Value} {own : String} {cc : ByteArray}
/-- invokevirtual of x, the receiver's class has y -/
theorem g_runA (F : FX p s m args meth c D E B nL own cc) {C owner : String} {index b ci n nLy fr lo mc ms N : Nat} {T0 : u_T} {x y : MethodName} {bytes : ByteArray} {ret : Option FieldType} {As : List Value} {T : Option Value → AH → Prop}
    (hC : Ct l D E B y bytes nLy ret fr lo mc ms (.ref b :: As) S T) (hw : GoodIn lw_all (va_wsU own index C owner x y (ws_ y bytes nLy ret))) (hz : ∀ U, E U → va_Nw (.declares ⟨owner, x.name, x.desc⟩) U) (hd : owner ≠ "java/lang/invoke/MethodHandle" ∧ owner ≠ "java/lang/invoke/VarHandle" ∧ (parseMethodDescriptor x.desc).map (fun d => d.parameters.length) = some n) (hroom : fr + 1 ≤ R.frames ∧ 8 + (nLy + 11) + lo ≤ R.locals) (hc : zCl[ci]? = some (C, T0, N)) (hb : ∀ h, S h → ∃ fs, h b = some (.inr (ci, fs))) (hn : As.length = n) (hst : st = As.reverse ++ .ref b :: rest) (hW : (rest.map fun v => v.category).sum ≤ 8) (d : decode cc pc = .ok (.invokevirtual index, 3)) (hf : kc + mc ≤ R.cells ∧ ns + ms ≤ R.slots) (hp : pc + 3 = np)
    (kk : ∀ v, WG p l e R s m args below meth c D B nL Q (T v) (kc + mc) (ns + ms) np lv (v.toList ++ rest)) : WG p l e R s m args below meth c D B nL Q S kc ns pc lv st := by
  refine g_call (a := (Value.ref b :: As).toArray) (As := As) (dp := 3) st (fun h H locs ls hs hR hL => ?_) hp kk
  obtain ⟨fs, hbf⟩ := hb h hs
  exact (va_runU (C := C) (owner := owner) (x := x) (g := F0 m pc ls st) ⟨F.1, F.2.1, F.2.2.1, F.2.2.2.1, F.2.2.2.2.1⟩ hC (va_cwA n F.2.2.2.2.1 hw rfl rfl rfl (hz s F.2.2.2.2.2.1.2) hd hroom) ⟨pre_blind F.2.2.2.2.2.2.1, g_recv F.2.2.2.2.2.1 hR hc hbf, pre_at F.2.2.2.2.2.2.1 F.2.2.2.2.2.1 hs hR⟩ rfl hn hL.1 hst (lv_room hW) d hf)
end XRunA
/-- the node at a answers v -/
def NV (l : Launch) (D : va_G) (B : Nat) (I : AH) (S : AH → Prop) (fa a : Nat) (v : Int32) (fr lo : Nat) : Prop :=
  (∃ fs, I a = some (.inr (9, fs)) ∧ Ct l D ZE B yX9_value cX9_value 2 (some .int) fr lo 0 0 [.ref a, .ref fa] S (RI v S)) ∨
  (∃ fs, I a = some (.inr (10, fs)) ∧ Ct l D ZE B yX10_value cX10_value 2 (some .int) fr lo 0 0 [.ref a, .ref fa] S (RI v S)) ∨
  (∃ fs, I a = some (.inr (11, fs)) ∧ Ct l D ZE B yX11_value cX11_value 2 (some .int) fr lo 0 0 [.ref a, .ref fa] S (RI v S)) ∨
  (∃ fs, I a = some (.inr (12, fs)) ∧ Ct l D ZE B yX12_value cX12_value 2 (some .int) fr lo 0 0 [.ref a, .ref fa] S (RI v S)) ∨
  (∃ fs, I a = some (.inr (13, fs)) ∧ Ct l D ZE B yX13_value cX13_value 4 (some .int) fr lo 0 0 [.ref a, .ref fa] S (RI v S))
theorem g_value {p : Program} {l : Launch} {e : Env} {R : Room} {s : State} {m : MethodId} {args : Array Value} {below : List Frame} {meth : Method} {c : Code} {D : va_G} {B nL : Nat} {Q : State → Prop} {S : AH → Prop} {kc ns pc np : Nat} {lv : List (Option Value)} {rest : List Value} {own : String} {cc : ByteArray} {I : AH} {index a fa fr lo : Nat} {v : Int32} (F : FX p s m args meth c D ZE B nL own cc) (hN : NV l D B I S fa a v fr lo) (hI : ∀ h, S h → ∀ a e, I a = some e → h a = some e) (hlk : Cond.methodLink own index ⟨"PromiseRoofs$Node", "value", "(LPromiseRoofs$Facts;)I"⟩ ∈ lw_all) (hroom : fr + 1 ≤ R.frames ∧ 23 + lo ≤ R.locals) (hW : (rest.map fun v => v.category).sum ≤ 8) (d : decode cc pc = .ok (.invokevirtual index, 3)) (hf : kc ≤ R.cells ∧ ns ≤ R.slots) (hp : pc + 3 = np) (kk : WG p l e R s m args below meth c D B nL Q S kc ns np lv (.int v :: rest)) : WG p l e R s m args below meth c D B nL Q S kc ns pc lv (.ref fa :: .ref a :: rest) := by
  rcases hN with ⟨fs, ha, hC⟩ | ⟨fs, ha, hC⟩ | ⟨fs, ha, hC⟩ | ⟨fs, ha, hC⟩ | ⟨fs, ha, hC⟩
  · exact g_runA F (C := RX9) (owner := "PromiseRoofs$Node") (ci := 9) (T0 := TX9) (N := 1) (x := ⟨"PromiseRoofs$Node", "value", "(LPromiseRoofs$Facts;)I"⟩) (As := [.ref fa]) (n := 1) (rest := rest) hC (lw_U hlk q839 q858 q846 q122 q847) ze838 (by decide +kernel) ⟨hroom.1, by omega⟩ rfl (fun h hs => ⟨_, hI h hs _ _ ha⟩) rfl rfl hW d ⟨hf.1, hf.2⟩ hp (k_RI kk)
  · exact g_runA F (C := RX10) (owner := "PromiseRoofs$Node") (ci := 10) (T0 := TX10) (N := 1) (x := ⟨"PromiseRoofs$Node", "value", "(LPromiseRoofs$Facts;)I"⟩) (As := [.ref fa]) (n := 1) (rest := rest) hC (lw_U hlk q839 q840 q841 q123 q842) ze838 (by decide +kernel) ⟨hroom.1, by omega⟩ rfl (fun h hs => ⟨_, hI h hs _ _ ha⟩) rfl rfl hW d ⟨hf.1, hf.2⟩ hp (k_RI kk)
  · exact g_runA F (C := RX11) (owner := "PromiseRoofs$Node") (ci := 11) (T0 := TX11) (N := 1) (x := ⟨"PromiseRoofs$Node", "value", "(LPromiseRoofs$Facts;)I"⟩) (As := [.ref fa]) (n := 1) (rest := rest) hC (lw_U hlk q839 q860 q851 q124 q852) ze838 (by decide +kernel) ⟨hroom.1, by omega⟩ rfl (fun h hs => ⟨_, hI h hs _ _ ha⟩) rfl rfl hW d ⟨hf.1, hf.2⟩ hp (k_RI kk)
  · exact g_runA F (C := RX12) (owner := "PromiseRoofs$Node") (ci := 12) (T0 := TX12) (N := 1) (x := ⟨"PromiseRoofs$Node", "value", "(LPromiseRoofs$Facts;)I"⟩) (As := [.ref fa]) (n := 1) (rest := rest) hC (lw_U hlk q839 q857 q844 q125 q845) ze838 (by decide +kernel) ⟨hroom.1, by omega⟩ rfl (fun h hs => ⟨_, hI h hs _ _ ha⟩) rfl rfl hW d ⟨hf.1, hf.2⟩ hp (k_RI kk)
  · exact g_runA F (C := RX13) (owner := "PromiseRoofs$Node") (ci := 13) (T0 := TX13) (N := 3) (x := ⟨"PromiseRoofs$Node", "value", "(LPromiseRoofs$Facts;)I"⟩) (As := [.ref fa]) (n := 1) (rest := rest) hC (lw_U hlk q839 q859 q848 q126 q849) ze838 (by decide +kernel) ⟨hroom.1, by omega⟩ rfl (fun h hs => ⟨_, hI h hs _ _ ha⟩) rfl rfl hW d ⟨hf.1, hf.2⟩ hp (k_RI kk)
/-! what a tree's code does -/
theorem zrun_1 (nm : Nat → Int32) (c : Nat) (st : List Int32) : zrun nm [c] st = zstep nm c st := rfl
theorem nd_run {I : AH} : ∀ (d a : Nat) (cs : List Nat), ndT I d a cs → ∀ nm : Nat → Int32, ∃ v, ∀ st, zrun nm cs st = v :: st
  | 0, _, _, h, _ => h.elim
  | d + 1, a, cs, h, nm => by
    rcases h with ⟨n, hn, rfl, -⟩ | ⟨k, hk, rfl, -⟩ | ⟨b, cs1, rfl, -, h1⟩ | ⟨b, cs1, rfl, -, h1⟩ | ⟨b, b', cs1, cs2, op, o1, o2, rfl, -, h1, h2⟩
    · exact ⟨nI n, fun st => by show zstep nm (18 + n) st = _; rw [zstep_num (by omega), Nat.add_sub_cancel_left]⟩
    · exact ⟨nm k, fun st => zstep_nm hk⟩
    · obtain ⟨v, hv⟩ := nd_run d b cs1 h1 nm
      exact ⟨-v, fun st => by rw [zrun_app, hv, zrun_1, zstep_un (Or.inr rfl)]; rfl⟩
    · obtain ⟨v, hv⟩ := nd_run d b cs1 h1 nm
      exact ⟨if v = 0 then 1 else 0, fun st => by rw [zrun_app, hv, zrun_1, zstep_un (Or.inl rfl)]; rfl⟩
    · obtain ⟨v, hv⟩ := nd_run d b cs1 h1 nm
      obtain ⟨w, hw⟩ := nd_run d b' cs2 h2 nm
      exact ⟨zbin op v w, fun st => by rw [zrun_app, zrun_app, hv, hw, zrun_1, zstep_bin ⟨o1, o2⟩]⟩
theorem nd_st {I : AH} {d a : Nat} {cs : List Nat} (h : ndT I d a cs) (nm : Nat → Int32) (st : List Int32) : zrun nm cs st = zev nm cs :: st := by
  obtain ⟨v, hv⟩ := nd_run d a cs h nm
  rw [hv st]
  unfold zev
  rw [hv []]
  rfl
theorem nd_neg {I : AH} {d a : Nat} {cs : List Nat} (h : ndT I d a cs) (nm : Nat → Int32) : zev nm (cs ++ [17]) = -zev nm cs := by
  show (zrun nm (cs ++ [17]) []).headD 0 = _
  rw [zrun_app, nd_st h, zrun_1, zstep_un (Or.inr rfl)]; rfl
theorem nd_not {I : AH} {d a : Nat} {cs : List Nat} (h : ndT I d a cs) (nm : Nat → Int32) : zev nm (cs ++ [16]) = if zev nm cs = 0 then 1 else 0 := by
  show (zrun nm (cs ++ [16]) []).headD 0 = _
  rw [zrun_app, nd_st h, zrun_1, zstep_un (Or.inl rfl)]; rfl
theorem nd_bin {I : AH} {d a d' a' op : Nat} {cs cs' : List Nat} (h : ndT I d a cs) (h' : ndT I d' a' cs') (ho : 6 ≤ op ∧ op ≤ 15) (nm : Nat → Int32) : zev nm (cs ++ cs' ++ [op]) = zbin op (zev nm cs) (zev nm cs') := by
  show (zrun nm (cs ++ cs' ++ [op]) []).headD 0 = _
  rw [zrun_app, zrun_app, nd_st h, nd_st h', zrun_1, zstep_bin ho]; rfl
theorem ndT_mono {I I' : AH} (hI : ∀ a e, I a = some e → I' a = some e) : ∀ (d a : Nat) (cs : List Nat), ndT I d a cs → ndT I' d a cs
  | 0, _, _, h => h
  | d + 1, a, cs, h => by
    rcases h with ⟨n, hn, h1, h2⟩ | ⟨k, hk, h1, h2⟩ | ⟨b, cs1, h1, h2, h3⟩ | ⟨b, cs1, h1, h2, h3⟩ | ⟨b, b', cs1, cs2, op, o1, o2, h1, h2, h3, h4⟩
    · exact Or.inl ⟨n, hn, h1, hI _ _ h2⟩
    · exact Or.inr (Or.inl ⟨k, hk, h1, hI _ _ h2⟩)
    · exact Or.inr (Or.inr (Or.inl ⟨b, cs1, h1, hI _ _ h2, ndT_mono hI d b cs1 h3⟩))
    · exact Or.inr (Or.inr (Or.inr (Or.inl ⟨b, cs1, h1, hI _ _ h2, ndT_mono hI d b cs1 h3⟩)))
    · exact Or.inr (Or.inr (Or.inr (Or.inr ⟨b, b', cs1, cs2, op, o1, o2, h1, hI _ _ h2, ndT_mono hI d b cs1 h3, ndT_mono hI d b' cs2 h4⟩)))
theorem ndT_more {I : AH} : ∀ (d a : Nat) (cs : List Nat), ndT I d a cs → ndT I (d + 1) a cs
  | 0, _, _, h => h.elim
  | d + 1, a, cs, h => by
    rcases h with ⟨n, hn, h1, h2⟩ | ⟨k, hk, h1, h2⟩ | ⟨b, cs1, h1, h2, h3⟩ | ⟨b, cs1, h1, h2, h3⟩ | ⟨b, b', cs1, cs2, op, o1, o2, h1, h2, h3, h4⟩
    · exact Or.inl ⟨n, hn, h1, h2⟩
    · exact Or.inr (Or.inl ⟨k, hk, h1, h2⟩)
    · exact Or.inr (Or.inr (Or.inl ⟨b, cs1, h1, h2, ndT_more d b cs1 h3⟩))
    · exact Or.inr (Or.inr (Or.inr (Or.inl ⟨b, cs1, h1, h2, ndT_more d b cs1 h3⟩)))
    · exact Or.inr (Or.inr (Or.inr (Or.inr ⟨b, b', cs1, cs2, op, o1, o2, h1, h2, ndT_more d b cs1 h3, ndT_more d b' cs2 h4⟩)))
theorem ndT_le {I : AH} {d d' a : Nat} {cs : List Nat} (hd : d ≤ d') (h : ndT I d a cs) : ndT I d' a cs := by
  induction hd with
  | refl => exact h
  | step _ ih => exact ndT_more _ _ _ ih
theorem lnT_mono {I I' : AH} (hI : ∀ a e, I a = some e → I' a = some e) : ∀ (ls : List (List Nat × List Nat)) (r : Option Nat), lnT I r ls → lnT I' r ls
  | [], _, h => h
  | (t, g) :: ls, r, h => by
    obtain ⟨a, tn, gn, nx, h1, h2, h3, h4, h5⟩ := h
    refine ⟨a, tn, gn, nx, h1, hI _ _ h2, ?_, ndT_mono hI _ _ _ h4, lnT_mono hI ls nx h5⟩
    rcases h3 with q | ⟨q1, b, q2, q3⟩
    · exact Or.inl q
    · exact Or.inr ⟨q1, b, q2, ndT_mono hI _ _ _ q3⟩
theorem div_m1 (x : Int32) : x / (-1) = -x := by
  apply Int32.toBitVec_inj.mp
  rw [Int32.toBitVec_div]
  show x.toBitVec.sdiv (-1#32) = _
  rw [BitVec.sdiv_neg (by decide), BitVec.sdiv_one]
  rfl
theorem rem_m1 (x : Int32) : x - x / (-1) * (-1) = 0 := by
  rw [div_m1, show (-x) * (-1 : Int32) = x by rw [Int32.mul_neg, Int32.mul_one, Int32.neg_neg], Int32.sub_self]
