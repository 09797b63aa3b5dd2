/-! ROWS: new arrays -/
set_option maxRecDepth 100000
section NewA
variable {p : Program} {l : Launch} {e : Env} {R : Room} {s : State} {m : MethodId} {args : Array Value} {below : List Frame} {meth : Method} {c : Code} {D : va_G} {E : State → Prop} {B nL : Nat} {Q : State → Prop}
variable {S S' : AH → Prop} {kc ns pc np : Nat} {lv lv' : List (Option Value)} {st st' rest : List Value} {own : String} {cc : ByteArray}
theorem va_SB {H0 H H1 : Heap} {locs : List Loc} (hV : va_S (zA B) H0 H locs) (hz : H1.size = H.size + 1) (oq : ∀ q : Nat, q < H.size → H1[q]? = H[q]?) : va_S (zA B) H0 H1 locs := ⟨Nat.le_trans hV.1 (by omega), fun x h1 h2 => (oq x (Nat.lt_of_lt_of_le h1 hV.1)).trans (hV.2.1 x h1 h2), hV.2.2⟩
theorem g_newa (F : FX p s m args meth c D E B nL own cc) {aty : ArrayType} {k N : Nat} {cA : ClassId} {a0 : vp_A} {n : Int32} (harr : Cond.arrayClass (newarray.typeOf aty) ∈ lw_all) (hk : (zTy D)[k]? = some (cA, newarray.typeOf aty)) (ha : ∀ x : ClassId, vp_cell x a0 = arrV x N (fun _ => defaultValue (newarray.typeOf aty))) (hn : ¬ n < 0) (hN : n.toNatClampNeg = N) (hbytes : N * componentBytes (newarray.typeOf aty) ≤ 536870912) (hcells : kc + 1 ≤ R.cells) (hslots : ns + N ≤ R.slots) (d : decode cc pc = .ok (.newarray aty, 2)) (hp : pc + 2 = np)
    (kk : ∀ a, WG p l e R s m args below meth c D B nL Q (fun h' => ∃ h, S h ∧ h a = none ∧ B ≤ a ∧ h' = hup h a (.inl (cA, a0))) (kc + 1) (ns + N) np lv (.ref a :: st)) : WG p l e R s m args below meth c D B nL Q S kc ns pc lv (.int n :: st) := by
  subst hp
  intro h H locs ls hs hR hV hL
  have hK := F.2.2.2.2.2.1.1
  refine va_newaK F.1 F.2.1 (F.2.2.2.2.1 _ harr) rfl d rfl hn hN hbytes hcells hslots rfl fun H1 cA1 e1 z1 o1 hAr hNm => ?_
  have hc : cA1 = cA := by
    have h2 := (hK.2 k _ hk).2
    have h3 : s.vm.findClass ("[" ++ (newarray.typeOf aty).toString) = some cA := by
      cases aty <;> exact h2
    exact Option.some.inj (hNm.symm.trans h3)
  subst hc
  exact kk H.size (hup h H.size (.inl (cA1, a0))) H1 locs ls ⟨h, hs, hR.fresh, hR.1, rfl⟩ (hR.push (by show H1[H.size]? = some (vp_cell _ _); rw [ha]; exact e1) z1 o1) (va_SB hV z1 o1) hL
theorem g_new (F : FX p s m args meth c D E B nL own cc) {C : String} {T : u_T} {N ci index : Nat} (hin : ∀ w ∈ u_ws C T N, w ∈ lw_all) (ty : Nat → FieldType) (hty : ∀ k, k < N → parseFieldDescriptor (T k).2.2.1 = some (ty k)) (hcl : Cond.classLink own index C ∈ lw_all) (hinst : Cond.instantiable C N ∈ lw_all) (hini : Cond.initialized C ∈ lw_all) (hc : zCl[ci]? = some (C, T, N)) {fs : List Value} (hfs : ∀ j, j < N → defaultValue (ty j) = vp_V fs j) (hcells : kc + 1 ≤ R.cells) (hslots : ns + N ≤ R.slots) (d : decode cc pc = .ok (.new index, 3)) (hp : pc + 3 = np)
    (kk : ∀ a, WG p l e R s m args below meth c D B nL Q (fun h' => ∃ h, S h ∧ h a = none ∧ B ≤ a ∧ h' = hup h a (.inr (ci, fs))) (kc + 1) (ns + N) np lv (.ref a :: st)) : WG p l e R s m args below meth c D B nL Q S kc ns pc lv st := by
  subst hp
  intro h H locs ls hs hR hV hL
  have hKn := F.2.2.2.2.2.1.1.1 ci _ hc
  refine W.newcK F.1 F.2.1 F.2.2.2.1 (F.2.2.2.2.1 _ hcl) (F.2.2.2.2.1 _ hinst) (F.2.2.2.2.1 _ hini) rfl d hcells hslots hKn.2.1 rfl fun H1 kC hkC e1 z1 o1 => ?_
  exact kk H.size (hup h H.size (.inr (ci, fs))) H1 locs ls ⟨h, hs, hR.fresh, hR.1, rfl⟩ (hR.push ⟨_, hc, (u_born ty F.2.2.2.2.1 hin hKn hkC e1 hty).to hfs⟩ z1 o1) (zS.push hV z1 o1) hL
theorem g_newq (F : FX p s m args meth c D E B nL own cc) {C : String} {index k N : Nat} {cA : ClassId} {n : Int32} (hclink : Cond.classLink own index C ∈ lw_all) (hover : va_AO C s) (hk : (zTy D)[k]? = some (cA, .object C)) (hn : ¬ n < 0) (hN : n.toNatClampNeg = N) (hbytes : N * 4 ≤ 536870912) (hcells : kc + 1 ≤ R.cells) (hslots : ns + N ≤ R.slots) (d : decode cc pc = .ok (.anewarray index, 3)) (hp : pc + 3 = np)
    (kk : ∀ a, WG p l e R s m args below meth c D B nL Q (fun h' => ∃ h, S h ∧ h a = none ∧ B ≤ a ∧ h' = hup h a (.inl (cA, N, .inr (.inr (.inr (.inr (fun _ => none))))))) (kc + 1) (ns + N) np lv (.ref a :: st)) : WG p l e R s m args below meth c D B nL Q S kc ns pc lv (.int n :: st) := by
  subst hp
  subst hN
  intro h H locs ls hs hR hV hL
  have hK := F.2.2.2.2.2.1.1
  refine W.anew F.1 F.2.1 F.2.2.2.1 (F.2.2.2.2.1 _ hclink) (va_AO.use hover) rfl d rfl hn hbytes hcells hslots fun cA1 kA comp f1 f2 f3 f4 => ?_
  generalize hH1 : H.push ({ cls := cA1, slots := Array.replicate n.toNatClampNeg .null, vm := .none } : Cell) = H1
  have z1 : H1.size = H.size + 1 := by rw [← hH1, Array.size_push]
  have e1 : H1[H.size]? = some (arrV cA1 n.toNatClampNeg (fun _ => .null)) := by rw [← hH1, Array.getElem?_push_size, ← arrV_new]
  have o1 : ∀ q : Nat, q < H.size → H1[q]? = H[q]? := fun q hq => by rw [← hH1, Array.getElem?_push, if_neg (Nat.ne_of_lt hq)]
  have hc : cA1 = cA := by
    obtain ⟨kA2, comp2, g1, g2, g3, g4⟩ := (hK.2 k _ hk).2
    exact Option.some.inj (f1.symm.trans g4)
  subst hc
  exact kk H.size (hup h H.size _) H1 locs ls ⟨h, hs, hR.fresh, hR.1, rfl⟩ (hR.push (by show H1[H.size]? = some (vp_cell _ _); exact e1) z1 o1) (zS.push hV z1 o1) hL
end NewA
