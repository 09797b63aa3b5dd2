/-! BASE: the heap as a function, the judgement WG over it, contracts Ct, rows -/
set_option maxRecDepth 100000
abbrev AH : Type := Nat → Option va_E
def hup (h : AH) (a : Nat) (e : va_E) : AH := fun b => if b = a then some e else h b
theorem hup_self (h : AH) (a : Nat) (e : va_E) : hup h a e a = some e := if_pos rfl
theorem hup_ne {h : AH} {a b : Nat} {e : va_E} (n : b ≠ a) : hup h a e b = h b := if_neg n
/-- the classes, at place k the class Xk (places 8, 14, 23: no fields, the first again) -/
def zCl : List vw_C := [(RX0, TX0, 38), (RX1, TX1, 1), (RX2, TX2, 42), (RX3, TX3, 1), (RX4, TX4, 7), (RX5, TX5, 4), (RX6, TX6, 4), (RX7, TX7, 3), (RX1, TX1, 1), (RX9, TX9, 1), (RX10, TX10, 1), (RX11, TX11, 1), (RX12, TX12, 1), (RX13, TX13, 3), (RX1, TX1, 1), (RX15, TX15, 2), (RX16, TX16, 3), (RX17, TX17, 3), (RX18, TX18, 4), (RX19, TX19, 4), (RX20, TX20, 5), (RX21, TX21, 3), (RX22, TX22, 5), (RX1, TX1, 1), (RX24, TX24, 1), (RX25, TX25, 1), (RX26, TX26, 1), (RX27, TX27, 1), (RX28, TX28, 1)]
/-- the arrays' classes: D.1 100 .. 109 -/
def zTy (D : va_G) : List (ClassId × FieldType) := [(D.1 100, .int), (D.1 101, .byte), (D.1 102, .long), (D.1 103, .boolean), (D.1 104, .short), (D.1 105, .object RX3), (D.1 106, .object RX4), (D.1 107, .object RX5), (D.1 108, .object RX15), (D.1 109, .object RX14)]
def RepH (D : va_G) (B : Nat) (h : AH) (H : Heap) : Prop := B ≤ H.size ∧ ∀ (a : Nat) (e : va_E), h a = some e → B ≤ a ∧ va_at D zCl (a, e) H
def zA (B : Nat) : Nat → Prop := fun q => B ≤ q
/-- what else is known of the tables: a predicate that stays true -/
def Stab (E : State → Prop) : Prop := (∀ s U : State, s.WarmedH U.vm → E s → E U) ∧ ∀ (U : State) (g : JFrame) (mk : MethodId) (a : Array Value), E U → E (U.calling g mk a)
def KX (D : va_G) (E : State → Prop) (U : State) : Prop := va_K D zCl (zTy D) U ∧ E U
theorem KX.warm {D : va_G} {E : State → Prop} (hE : Stab E) {s U : State} (hW : s.WarmedH U.vm) (h : KX D E s) : KX D E U := ⟨va_K.moved hW.alike h.1, hE.1 s U hW h.2⟩
theorem KX.blind {D : va_G} {E : State → Prop} (hE : Stab E) {U : State} (g : JFrame) (mk : MethodId) (a : Array Value) (h : KX D E U) : KX D E (U.calling g mk a) := ⟨va_K.moved (u := U) (U := U.calling g mk a) (Vm.Alike.refl U.vm) h.1, hE.2 U g mk a h.2⟩
/-- locals by their places -/
def lvh (ls : Array Slot) (nL : Nat) (lv : List (Option Value)) : Prop := ls.size = nL ∧ lv_wf ls ∧ ∀ (i : Nat) (v : Value), lv[i]? = some (some v) → ls[i]? = some (.val v)
def lvl : Nat → List (Option Value) → List (Nat × Value)
  | _, [] => []
  | i, none :: t => lvl (i + 1) t
  | i, some v :: t => (i, v) :: lvl (i + 1) t
theorem lvl_mem : ∀ (lv : List (Option Value)) (i : Nat) (q : Nat × Value), q ∈ lvl i lv → ∃ j, q.1 = i + j ∧ lv[j]? = some (some q.2)
  | [], i, q, h => by simp [lvl] at h
  | none :: t, i, q, h => by
    obtain ⟨j, h1, h2⟩ := lvl_mem t (i + 1) q h
    exact ⟨j + 1, by omega, by simpa using h2⟩
  | some v :: t, i, q, h => by
    rcases List.mem_cons.mp h with e | h
    · exact ⟨0, by rw [e]; rfl, by rw [e]; rfl⟩
    · obtain ⟨j, h1, h2⟩ := lvl_mem t (i + 1) q h
      exact ⟨j + 1, by omega, by simpa using h2⟩
theorem lvl_in : ∀ (lv : List (Option Value)) (i j : Nat) (v : Value), lv[j]? = some (some v) → (i + j, v) ∈ lvl i lv
  | [], i, j, v, h => by simp at h
  | none :: t, i, j, v, h => by
    cases j with
    | zero => simp at h
    | succ j =>
      have := lvl_in t (i + 1) j v (by simpa using h)
      rw [show i + 1 + j = i + (j + 1) by omega] at this
      exact this
  | some w :: t, i, j, v, h => by
    cases j with
    | zero =>
      simp at h
      rw [h]
      exact List.mem_cons_self
    | succ j =>
      have := lvl_in t (i + 1) j v (by simpa using h)
      rw [show i + 1 + j = i + (j + 1) by omega] at this
      exact List.mem_cons_of_mem _ this
theorem lvh_has {ls : Array Slot} {nL : Nat} {lv : List (Option Value)} (h : lvh ls nL lv) : lv_has ls nL (lvl 0 lv) := by
  refine ⟨h.1, h.2.1, fun q hq => ?_⟩
  obtain ⟨j, h1, h2⟩ := lvl_mem lv 0 q hq
  rw [show q.1 = j by omega]
  exact h.2.2 j q.2 h2
/-- no long stands just before place i -/
def okst (lv : List (Option Value)) : Nat → Bool
  | 0 => true
  | i + 1 => match lv[i]? with
    | some (some (.long _)) => false
    | some (some (.double _)) => false
    | _ => true
theorem okst_cat {lv : List (Option Value)} {i j : Nat} {v : Value} (h : okst lv i = true) (hj : lv[j]? = some (some v)) (e : j + 1 = i) : v.category ≠ 2 := by
  subst e
  simp only [okst, hj] at h
  cases v <;> simp_all [Value.category]
theorem lvh_set1 {ls ls' : Array Slot} {nL i : Nat} {lv : List (Option Value)} {v : Value} (ho : okst lv i = true) (h : lv_has ls' nL ((i, v) :: (lvl 0 lv).filter (fun q => !(q.1 == i) && !(q.1 + 1 == i && q.2.category == 2)))) : lvh ls' nL (lv.set i (some v)) := by
  refine ⟨h.1, h.2.1, fun j w hj => ?_⟩
  by_cases e : j = i
  · subst e
    have hw : w = v := by
      rw [List.getElem?_set] at hj
      simp at hj
      exact hj.2.symm
    rw [hw]
    exact h.2.2 (j, v) List.mem_cons_self
  · rw [List.getElem?_set_ne (fun q => e q.symm)] at hj
    refine h.2.2 (j, w) (List.mem_cons_of_mem _ (List.mem_filter.mpr ⟨by simpa using lvl_in lv 0 j w hj, ?_⟩))
    have hc : ¬ (j + 1 = i ∧ w.category = 2) := fun q => okst_cat ho hj q.1 q.2
    simp only [Bool.and_eq_true, Bool.not_eq_true', beq_eq_false_iff_ne, ne_eq, Bool.and_eq_false_iff]
    refine ⟨e, ?_⟩
    by_cases g : j + 1 = i
    · exact Or.inr fun q => hc ⟨g, q⟩
    · exact Or.inl g
theorem lvh_set2 {ls ls' : Array Slot} {nL i : Nat} {lv : List (Option Value)} {v : Value} (ho : okst lv i = true) (h : lv_has ls' nL ((i, v) :: (lvl 0 lv).filter (fun q => !(q.1 == i) && (!(q.1 == i + 1) && !(q.1 + 1 == i && q.2.category == 2))))) : lvh ls' nL ((lv.set i (some v)).set (i + 1) none) := by
  refine ⟨h.1, h.2.1, fun j w hj => ?_⟩
  by_cases e1 : j = i + 1
  · subst e1
    rw [List.getElem?_set] at hj
    simp at hj
  rw [List.getElem?_set_ne (fun q => e1 q.symm)] at hj
  by_cases e : j = i
  · subst e
    have hw : w = v := by
      rw [List.getElem?_set] at hj
      simp at hj
      exact hj.2.symm
    rw [hw]
    exact h.2.2 (j, v) List.mem_cons_self
  · rw [List.getElem?_set_ne (fun q => e q.symm)] at hj
    refine h.2.2 (j, w) (List.mem_cons_of_mem _ (List.mem_filter.mpr ⟨by simpa using lvl_in lv 0 j w hj, ?_⟩))
    have hc : ¬ (j + 1 = i ∧ w.category = 2) := fun q => okst_cat ho hj q.1 q.2
    simp only [Bool.and_eq_true, Bool.not_eq_true', beq_eq_false_iff_ne, ne_eq, Bool.and_eq_false_iff]
    refine ⟨e, e1, ?_⟩
    by_cases g : j + 1 = i
    · exact Or.inr fun q => hc ⟨g, q⟩
    · exact Or.inl g
/-- the locals at a method's entry -/
def lve : List Value → List (Option Value)
  | [] => []
  | v :: t => if v.category = 2 then some v :: none :: lve t else some v :: lve t
theorem lve_args : ∀ (vs : List Value) (i j : Nat) (w : Value), (lve vs)[j]? = some (some w) → (i + j, w) ∈ lv_args i vs
  | [], i, j, w, h => by simp [lve] at h
  | v :: t, i, j, w, h => by
    unfold lve at h
    unfold lv_args
    by_cases c : v.category = 2
    · rw [if_pos c] at h
      rw [if_pos c]
      match j, h with
      | 0, h => simp at h; rw [h]; exact List.mem_cons_self
      | 1, h => simp at h
      | j + 2, h =>
        have := lve_args t (i + 2) j w (by simpa using h)
        rw [show i + 2 + j = i + (j + 2) by omega] at this
        exact List.mem_cons_of_mem _ this
    · rw [if_neg c] at h
      rw [if_neg c]
      match j, h with
      | 0, h => simp at h; rw [h]; exact List.mem_cons_self
      | j + 1, h =>
        have := lve_args t (i + 1) j w (by simpa using h)
        rw [show i + 1 + j = i + (j + 1) by omega] at this
        exact List.mem_cons_of_mem _ this
theorem lvh_entry (vs : List Value) {n : Nat} (h : (lg_sl vs).length ≤ n) (k : Nat) : lvh ((lg_sl vs ++ List.replicate (n - (lg_sl vs).length) Slot.unset).toArray) n (lve vs ++ List.replicate k none) := by
  obtain ⟨h1, h2, h3⟩ := lv_entry vs h
  refine ⟨h1, h2, fun j w hj => ?_⟩
  by_cases hl : j < (lve vs).length
  · rw [List.getElem?_append_left hl] at hj
    have := lve_args vs 0 j w hj
    rw [Nat.zero_add] at this
    exact h3 (j, w) this
  · rw [List.getElem?_append_right (by omega), List.getElem?_replicate] at hj
    split at hj
    · simp at hj
    · simp at hj
section WGS
variable {p : Program} {l : Launch} {e : Env} {R : Room} {s : State} {m : MethodId} {args : Array Value} {below : List Frame} {meth : Method} {c : Code} {D : va_G} {E : State → Prop} {B nL : Nat} {Q : State → Prop}
/-- what holds all through a method's run -/
def FX (p : Program) (s : State) (m : MethodId) (args : Array Value) (meth : Method) (c : Code) (D : va_G) (E : State → Prop) (B nL : Nat) (own : String) (cc : ByteArray) : Prop :=
  p.tables.exec = Jvm.exec ∧ c.code = cc ∧ c.maxLocals = nL ∧ s.vm.findClass own = some m.cls ∧ (∀ w ∈ lw_all, w.before args s = true) ∧ KX D E s ∧ Stab E ∧ meth.locks = false ∧ B ≤ s.heap.size
/-- from every heap that the assertion S allows, with the locals lv and the stack st at pc, the run comes to Q -/
def WG (p : Program) (l : Launch) (e : Env) (R : Room) (s : State) (m : MethodId) (args : Array Value) (below : List Frame) (meth : Method) (c : Code) (D : va_G) (B nL : Nat) (Q : State → Prop) (S : AH → Prop) (kc ns pc : Nat) (lv : List (Option Value)) (st : List Value) : Prop :=
  ∀ (h : AH) (H : Heap) (locs : List Loc) (ls : Array Slot), S h → RepH D B h H → va_S (zA B) s.heap H locs → lvh ls nL lv → W p l e R s m args below meth c H locs kc ns Q (F0 m pc ls st)
variable {S S' : AH → Prop} {kc ns pc np : Nat} {lv lv' : List (Option Value)} {st st' rest : List Value} {own : String} {cc : ByteArray}
theorem WG.weak (hS : ∀ h, S h → S' h) (kk : WG p l e R s m args below meth c D B nL Q S' kc ns pc lv st) : WG p l e R s m args below meth c D B nL Q S kc ns pc lv st := fun h H locs ls a => kk h H locs ls (hS h a)
theorem WG.eqv (hst : st = st') (hlv : lv = lv') (kk : WG p l e R s m args below meth c D B nL Q S kc ns pc lv' st') : WG p l e R s m args below meth c D B nL Q S kc ns pc lv st := hst ▸ hlv ▸ kk
theorem WG.dropL {i : Nat} (hs : lv.set i none = lv') (kk : WG p l e R s m args below meth c D B nL Q S kc ns pc lv' st) : WG p l e R s m args below meth c D B nL Q S kc ns pc lv st := by
  subst hs
  intro h H locs ls a b0 c0 d
  refine kk h H locs ls a b0 c0 ⟨d.1, d.2.1, fun j v hj => d.2.2 j v ?_⟩
  by_cases q : j = i
  · subst q
    rw [List.getElem?_set] at hj
    simp at hj
  · rw [List.getElem?_set_ne (fun z => q z.symm)] at hj
    exact hj
theorem WG.ex {α : Sort _} {T : α → AH → Prop} (kk : ∀ x, WG p l e R s m args below meth c D B nL Q (T x) kc ns pc lv st) : WG p l e R s m args below meth c D B nL Q (fun h => ∃ x, T x h) kc ns pc lv st := fun h H locs ls ⟨x, a⟩ => kk x h H locs ls a
theorem WG.pr {P : Prop} (kk : P → WG p l e R s m args below meth c D B nL Q S kc ns pc lv st) : WG p l e R s m args below meth c D B nL Q (fun h => P ∧ S h) kc ns pc lv st := fun h H locs ls a => kk a.1 h H locs ls a.2
theorem WG.obt {P : Prop} (hS : ∀ h, S h → P) (kk : P → WG p l e R s m args below meth c D B nL Q S kc ns pc lv st) : WG p l e R s m args below meth c D B nL Q S kc ns pc lv st := fun h H locs ls a => kk (hS h a) h H locs ls a
theorem WG.widen {k n : Nat} (h1 : kc ≤ k) (h2 : ns ≤ n) (kk : WG p l e R s m args below meth c D B nL Q S k n pc lv st) : WG p l e R s m args below meth c D B nL Q S kc ns pc lv st := fun h H locs ls a b c d => W.widen h1 h2 (kk h H locs ls a b c d)
theorem WG.lift (hrow : ∀ H locs ls, lvh ls nL lv → W p l e R s m args below meth c H locs kc ns Q (F0 m np ls st') → W p l e R s m args below meth c H locs kc ns Q (F0 m pc ls st)) (kk : WG p l e R s m args below meth c D B nL Q S kc ns np lv st') : WG p l e R s m args below meth c D B nL Q S kc ns pc lv st := fun h H locs ls a b c d => hrow H locs ls d (kk h H locs ls a b c d)
theorem WG.liftL (hrow : ∀ H locs ls, lvh ls nL lv → (∀ ls', lvh ls' nL lv' → W p l e R s m args below meth c H locs kc ns Q (F0 m np ls' st')) → W p l e R s m args below meth c H locs kc ns Q (F0 m pc ls st)) (kk : WG p l e R s m args below meth c D B nL Q S kc ns np lv' st') : WG p l e R s m args below meth c D B nL Q S kc ns pc lv st := fun h H locs ls a b c d => hrow H locs ls d (fun ls' d' => kk h H locs ls' a b c d')
end WGS
section WGR
variable {p : Program} {l : Launch} {e : Env} {R : Room} {s : State} {m : MethodId} {args : Array Value} {below : List Frame} {meth : Method} {c : Code} {D : va_G} {E : State → Prop} {B nL : Nat} {Q : State → Prop}
variable {S S' : AH → Prop} {kc ns pc np : Nat} {lv lv' : List (Option Value)} {st st' rest : List Value} {own : String} {cc : ByteArray}
theorem g_iconst (F : FX p s m args meth c D E B nL own cc) {n : Int} {v : Int32} (d : decode cc pc = .ok (.iconst n, 1)) (hv : Int32.ofInt n = v) (hp : pc + 1 = np)  (kk : WG p l e R s m args below meth c D B nL Q S kc ns np lv (.int v :: st)) : WG p l e R s m args below meth c D B nL Q S kc ns pc lv st := by subst hp; exact WG.lift (fun H locs ls hl k => lv_iconst F.1 F.2.1 d hv k) kk
theorem g_bipush (F : FX p s m args meth c D E B nL own cc) {n : Int} {v : Int32} (d : decode cc pc = .ok (.bipush n, 2)) (hv : (Int8.ofInt n).toInt32 = v) (hp : pc + 2 = np)  (kk : WG p l e R s m args below meth c D B nL Q S kc ns np lv (.int v :: st)) : WG p l e R s m args below meth c D B nL Q S kc ns pc lv st := by subst hp; exact WG.lift (fun H locs ls hl k => lv_bipush F.1 F.2.1 d hv k) kk
theorem g_sipush (F : FX p s m args meth c D E B nL own cc) {n : Int} {v : Int32} (d : decode cc pc = .ok (.sipush n, 3)) (hv : (Int16.ofInt n).toInt32 = v) (hp : pc + 3 = np)  (kk : WG p l e R s m args below meth c D B nL Q S kc ns np lv (.int v :: st)) : WG p l e R s m args below meth c D B nL Q S kc ns pc lv st := by subst hp; exact WG.lift (fun H locs ls hl k => lv_sipush F.1 F.2.1 d hv k) kk
theorem g_lconst (F : FX p s m args meth c D E B nL own cc) {n : Fin 2} {v : Int64} (d : decode cc pc = .ok (.lconst n, 1)) (hv : Int64.ofNat (n : Nat) = v) (hp : pc + 1 = np)  (kk : WG p l e R s m args below meth c D B nL Q S kc ns np lv (.long v :: st)) : WG p l e R s m args below meth c D B nL Q S kc ns pc lv st := by subst hp; exact WG.lift (fun H locs ls hl k => lv_lconst F.1 F.2.1 d hv k) kk
theorem g_ldc (F : FX p s m args meth c D E B nL own cc) {index : Nat} {v : Int32} (hc : Cond.constant own index v ∈ lw_all) (d : decode cc pc = .ok (.ldc index, 2)) (hp : pc + 2 = np)  (kk : WG p l e R s m args below meth c D B nL Q S kc ns np lv (.int v :: st)) : WG p l e R s m args below meth c D B nL Q S kc ns pc lv st := by subst hp; exact WG.lift (fun H locs ls hl k => lv_ldc F.1 F.2.1 F.2.2.2.1 (F.2.2.2.2.1 _ hc) d k) kk
theorem g_ldc2 (F : FX p s m args meth c D E B nL own cc) {index : Nat} {v : Int64} (hc : Cond.constantLong own index v ∈ lw_all) (d : decode cc pc = .ok (.ldc2_w index, 3)) (hp : pc + 3 = np)  (kk : WG p l e R s m args below meth c D B nL Q S kc ns np lv (.long v :: st)) : WG p l e R s m args below meth c D B nL Q S kc ns pc lv st := by subst hp; exact WG.lift (fun H locs ls hl k => lv_ldc2 F.1 F.2.1 F.2.2.2.1 (F.2.2.2.2.1 _ hc) d k) kk
theorem g_ldcw (F : FX p s m args meth c D E B nL own cc) {index : Nat} {v : Int32} (hc : Cond.constant own index v ∈ lw_all) (d : decode cc pc = .ok (.ldc_w index, 3)) (hp : pc + 3 = np)  (kk : WG p l e R s m args below meth c D B nL Q S kc ns np lv (.int v :: st)) : WG p l e R s m args below meth c D B nL Q S kc ns pc lv st := by subst hp; exact WG.lift (fun H locs ls hl k => lv_ldcw F.1 F.2.1 F.2.2.2.1 (F.2.2.2.2.1 _ hc) d k) kk
theorem g_iload_n (F : FX p s m args meth c D E B nL own cc) {kf : Fin 4} {i : Nat} {x : Int32} (d : decode cc pc = .ok (.iload_n kf, 1)) (hi : (kf : Nat) = i) (hl : lv[i]? = some (some (.int x))) (hp : pc + 1 = np)  (kk : WG p l e R s m args below meth c D B nL Q S kc ns np lv (.int x :: st)) : WG p l e R s m args below meth c D B nL Q S kc ns pc lv st := by subst hp; exact WG.lift (fun H locs ls hq k => lv_iload_n F.1 F.2.1 d hi (hq.2.2 _ _ hl) k) kk
theorem g_iload (F : FX p s m args meth c D E B nL own cc) {i : Nat} {x : Int32} (d : decode cc pc = .ok (.iload i, 2)) (hl : lv[i]? = some (some (.int x))) (hp : pc + 2 = np)  (kk : WG p l e R s m args below meth c D B nL Q S kc ns np lv (.int x :: st)) : WG p l e R s m args below meth c D B nL Q S kc ns pc lv st := by subst hp; exact WG.lift (fun H locs ls hq k => lv_iload F.1 F.2.1 d (hq.2.2 _ _ hl) k) kk
theorem g_lload_n (F : FX p s m args meth c D E B nL own cc) {kf : Fin 4} {i : Nat} {x : Int64} (d : decode cc pc = .ok (.lload_n kf, 1)) (hi : (kf : Nat) = i) (hl : lv[i]? = some (some (.long x))) (hp : pc + 1 = np)  (kk : WG p l e R s m args below meth c D B nL Q S kc ns np lv (.long x :: st)) : WG p l e R s m args below meth c D B nL Q S kc ns pc lv st := by subst hp; exact WG.lift (fun H locs ls hq k => lv_lload_n F.1 F.2.1 d hi (hq.2.2 _ _ hl) k) kk
theorem g_lload (F : FX p s m args meth c D E B nL own cc) {i : Nat} {x : Int64} (d : decode cc pc = .ok (.lload i, 2)) (hl : lv[i]? = some (some (.long x))) (hp : pc + 2 = np)  (kk : WG p l e R s m args below meth c D B nL Q S kc ns np lv (.long x :: st)) : WG p l e R s m args below meth c D B nL Q S kc ns pc lv st := by subst hp; exact WG.lift (fun H locs ls hq k => lv_lload F.1 F.2.1 d (hq.2.2 _ _ hl) k) kk
theorem g_aload_n (F : FX p s m args meth c D E B nL own cc) {kf : Fin 4} {i : Nat} {x : Nat} (d : decode cc pc = .ok (.aload_n kf, 1)) (hi : (kf : Nat) = i) (hl : lv[i]? = some (some (.ref x))) (hp : pc + 1 = np)  (kk : WG p l e R s m args below meth c D B nL Q S kc ns np lv (.ref x :: st)) : WG p l e R s m args below meth c D B nL Q S kc ns pc lv st := by subst hp; exact WG.lift (fun H locs ls hq k => lv_aload_n F.1 F.2.1 d hi (hq.2.2 _ _ hl) k) kk
theorem g_aload (F : FX p s m args meth c D E B nL own cc) {i : Nat} {x : Nat} (d : decode cc pc = .ok (.aload i, 2)) (hl : lv[i]? = some (some (.ref x))) (hp : pc + 2 = np)  (kk : WG p l e R s m args below meth c D B nL Q S kc ns np lv (.ref x :: st)) : WG p l e R s m args below meth c D B nL Q S kc ns pc lv st := by subst hp; exact WG.lift (fun H locs ls hq k => lv_aload F.1 F.2.1 d (hq.2.2 _ _ hl) k) kk
theorem g_aload_nN (F : FX p s m args meth c D E B nL own cc) {kf : Fin 4} {i : Nat} (d : decode cc pc = .ok (.aload_n kf, 1)) (hi : (kf : Nat) = i) (hl : lv[i]? = some (some .null)) (hp : pc + 1 = np)  (kk : WG p l e R s m args below meth c D B nL Q S kc ns np lv (.null :: st)) : WG p l e R s m args below meth c D B nL Q S kc ns pc lv st := by subst hp; exact WG.lift (fun H locs ls hq k => lv_aload_nN F.1 F.2.1 d hi (hq.2.2 _ _ hl) k) kk
theorem g_aloadN (F : FX p s m args meth c D E B nL own cc) {i : Nat} (d : decode cc pc = .ok (.aload i, 2)) (hl : lv[i]? = some (some .null)) (hp : pc + 2 = np)  (kk : WG p l e R s m args below meth c D B nL Q S kc ns np lv (.null :: st)) : WG p l e R s m args below meth c D B nL Q S kc ns pc lv st := by subst hp; exact WG.lift (fun H locs ls hq k => lv_aloadN F.1 F.2.1 d (hq.2.2 _ _ hl) k) kk
theorem g_istore_n (F : FX p s m args meth c D E B nL own cc) {kf : Fin 4} {i : Nat} {x : Int32} (d : decode cc pc = .ok (.istore_n kf, 1)) (hi : (kf : Nat) = i) (hn : i < nL) (ho : okst lv i = true) (hs : lv.set i (some (.int x)) = lv') (hp : pc + 1 = np) (kk : WG p l e R s m args below meth c D B nL Q S kc ns np lv' st) : WG p l e R s m args below meth c D B nL Q S kc ns pc lv (.int x :: st) := by subst hp; subst hs; exact WG.liftL (fun H locs ls hl k => lv_istore_n F.1 F.2.1 d hi (lvh_has hl) hn rfl (fun ls' h' => k ls' (lvh_set1 (ls := ls) ho h'))) kk
theorem g_lstore_n (F : FX p s m args meth c D E B nL own cc) {kf : Fin 4} {i : Nat} {x : Int64} (d : decode cc pc = .ok (.lstore_n kf, 1)) (hi : (kf : Nat) = i) (hn : i + 1 < nL) (ho : okst lv i = true) (hs : (lv.set i (some (.long x))).set (i + 1) none = lv') (hp : pc + 1 = np) (kk : WG p l e R s m args below meth c D B nL Q S kc ns np lv' st) : WG p l e R s m args below meth c D B nL Q S kc ns pc lv (.long x :: st) := by subst hp; subst hs; exact WG.liftL (fun H locs ls hl k => lv_lstore_n F.1 F.2.1 d hi (lvh_has hl) hn rfl (fun ls' h' => k ls' (lvh_set2 (ls := ls) ho h'))) kk
theorem g_astore_n (F : FX p s m args meth c D E B nL own cc) {kf : Fin 4} {i : Nat} {x : Nat} (d : decode cc pc = .ok (.astore_n kf, 1)) (hi : (kf : Nat) = i) (hn : i < nL) (ho : okst lv i = true) (hs : lv.set i (some (.ref x)) = lv') (hp : pc + 1 = np) (kk : WG p l e R s m args below meth c D B nL Q S kc ns np lv' st) : WG p l e R s m args below meth c D B nL Q S kc ns pc lv (.ref x :: st) := by subst hp; subst hs; exact WG.liftL (fun H locs ls hl k => lv_astore_n F.1 F.2.1 d hi (lvh_has hl) hn rfl (fun ls' h' => k ls' (lvh_set1 (ls := ls) ho h'))) kk
theorem g_astore_nN (F : FX p s m args meth c D E B nL own cc) {kf : Fin 4} {i : Nat} (d : decode cc pc = .ok (.astore_n kf, 1)) (hi : (kf : Nat) = i) (hn : i < nL) (ho : okst lv i = true) (hs : lv.set i (some (.null)) = lv') (hp : pc + 1 = np) (kk : WG p l e R s m args below meth c D B nL Q S kc ns np lv' st) : WG p l e R s m args below meth c D B nL Q S kc ns pc lv (.null :: st) := by subst hp; subst hs; exact WG.liftL (fun H locs ls hl k => lv_astore_nN F.1 F.2.1 d hi (lvh_has hl) hn rfl (fun ls' h' => k ls' (lvh_set1 (ls := ls) ho h'))) kk
theorem g_istore (F : FX p s m args meth c D E B nL own cc) {i : Nat} {x : Int32} (d : decode cc pc = .ok (.istore i, 2)) (hn : i < nL) (ho : okst lv i = true) (hs : lv.set i (some (.int x)) = lv') (hp : pc + 2 = np) (kk : WG p l e R s m args below meth c D B nL Q S kc ns np lv' st) : WG p l e R s m args below meth c D B nL Q S kc ns pc lv (.int x :: st) := by subst hp; subst hs; exact WG.liftL (fun H locs ls hl k => lv_istore F.1 F.2.1 d (lvh_has hl) hn rfl (fun ls' h' => k ls' (lvh_set1 (ls := ls) ho h'))) kk
theorem g_lstore (F : FX p s m args meth c D E B nL own cc) {i : Nat} {x : Int64} (d : decode cc pc = .ok (.lstore i, 2)) (hn : i + 1 < nL) (ho : okst lv i = true) (hs : (lv.set i (some (.long x))).set (i + 1) none = lv') (hp : pc + 2 = np) (kk : WG p l e R s m args below meth c D B nL Q S kc ns np lv' st) : WG p l e R s m args below meth c D B nL Q S kc ns pc lv (.long x :: st) := by subst hp; subst hs; exact WG.liftL (fun H locs ls hl k => lv_lstore F.1 F.2.1 d (lvh_has hl) hn rfl (fun ls' h' => k ls' (lvh_set2 (ls := ls) ho h'))) kk
theorem g_astore (F : FX p s m args meth c D E B nL own cc) {i : Nat} {x : Nat} (d : decode cc pc = .ok (.astore i, 2)) (hn : i < nL) (ho : okst lv i = true) (hs : lv.set i (some (.ref x)) = lv') (hp : pc + 2 = np) (kk : WG p l e R s m args below meth c D B nL Q S kc ns np lv' st) : WG p l e R s m args below meth c D B nL Q S kc ns pc lv (.ref x :: st) := by subst hp; subst hs; exact WG.liftL (fun H locs ls hl k => lv_astore F.1 F.2.1 d (lvh_has hl) hn rfl (fun ls' h' => k ls' (lvh_set1 (ls := ls) ho h'))) kk
theorem g_astoreN (F : FX p s m args meth c D E B nL own cc) {i : Nat} (d : decode cc pc = .ok (.astore i, 2)) (hn : i < nL) (ho : okst lv i = true) (hs : lv.set i (some (.null)) = lv') (hp : pc + 2 = np) (kk : WG p l e R s m args below meth c D B nL Q S kc ns np lv' st) : WG p l e R s m args below meth c D B nL Q S kc ns pc lv (.null :: st) := by subst hp; subst hs; exact WG.liftL (fun H locs ls hl k => lv_astoreN F.1 F.2.1 d (lvh_has hl) hn rfl (fun ls' h' => k ls' (lvh_set1 (ls := ls) ho h'))) kk
theorem g_iinc (F : FX p s m args meth c D E B nL own cc) {i : Nat} {n : Int} {x v : Int32} (d : decode cc pc = .ok (.iinc i n, 3)) (hl : lv[i]? = some (some (.int x))) (hv : x + Int32.ofInt n = v) (hn : i < nL) (ho : okst lv i = true) (hs : lv.set i (some (.int v)) = lv') (hp : pc + 3 = np) (kk : WG p l e R s m args below meth c D B nL Q S kc ns np lv' st) : WG p l e R s m args below meth c D B nL Q S kc ns pc lv st := by
  subst hp; subst hs
  obtain ⟨k0, hk0⟩ := List.getElem?_of_mem (lvl_in lv 0 i _ hl)
  rw [Nat.zero_add] at hk0
  exact WG.liftL (fun H locs ls hq k => lv_iinc F.1 F.2.1 d (lvh_has hq) hk0 hv hn rfl (fun ls' h' => k ls' (lvh_set1 (ls := ls) ho h'))) kk
theorem g_iadd (F : FX p s m args meth c D E B nL own cc) {x y : Int32} (d : decode cc pc = .ok (.iadd, 1)) (hp : pc + 1 = np)  (kk : WG p l e R s m args below meth c D B nL Q S kc ns np lv (.int (x + y) :: st)) : WG p l e R s m args below meth c D B nL Q S kc ns pc lv (.int y :: .int x :: st) := by subst hp; exact WG.lift (fun H locs ls hl k => lv_iadd F.1 F.2.1 d k) kk
theorem g_isub (F : FX p s m args meth c D E B nL own cc) {x y : Int32} (d : decode cc pc = .ok (.isub, 1)) (hp : pc + 1 = np)  (kk : WG p l e R s m args below meth c D B nL Q S kc ns np lv (.int (x - y) :: st)) : WG p l e R s m args below meth c D B nL Q S kc ns pc lv (.int y :: .int x :: st) := by subst hp; exact WG.lift (fun H locs ls hl k => lv_isub F.1 F.2.1 d k) kk
theorem g_imul (F : FX p s m args meth c D E B nL own cc) {x y : Int32} (d : decode cc pc = .ok (.imul, 1)) (hp : pc + 1 = np)  (kk : WG p l e R s m args below meth c D B nL Q S kc ns np lv (.int (x * y) :: st)) : WG p l e R s m args below meth c D B nL Q S kc ns pc lv (.int y :: .int x :: st) := by subst hp; exact WG.lift (fun H locs ls hl k => lv_imul F.1 F.2.1 d k) kk
theorem g_iand (F : FX p s m args meth c D E B nL own cc) {x y : Int32} (d : decode cc pc = .ok (.iand, 1)) (hp : pc + 1 = np)  (kk : WG p l e R s m args below meth c D B nL Q S kc ns np lv (.int (x &&& y) :: st)) : WG p l e R s m args below meth c D B nL Q S kc ns pc lv (.int y :: .int x :: st) := by subst hp; exact WG.lift (fun H locs ls hl k => lv_iand F.1 F.2.1 d k) kk
theorem g_ior (F : FX p s m args meth c D E B nL own cc) {x y : Int32} (d : decode cc pc = .ok (.ior, 1)) (hp : pc + 1 = np)  (kk : WG p l e R s m args below meth c D B nL Q S kc ns np lv (.int (x ||| y) :: st)) : WG p l e R s m args below meth c D B nL Q S kc ns pc lv (.int y :: .int x :: st) := by subst hp; exact WG.lift (fun H locs ls hl k => lv_ior F.1 F.2.1 d k) kk
theorem g_ixor (F : FX p s m args meth c D E B nL own cc) {x y : Int32} (d : decode cc pc = .ok (.ixor, 1)) (hp : pc + 1 = np)  (kk : WG p l e R s m args below meth c D B nL Q S kc ns np lv (.int (x ^^^ y) :: st)) : WG p l e R s m args below meth c D B nL Q S kc ns pc lv (.int y :: .int x :: st) := by subst hp; exact WG.lift (fun H locs ls hl k => lv_ixor F.1 F.2.1 d k) kk
theorem g_ishl (F : FX p s m args meth c D E B nL own cc) {x y : Int32} (d : decode cc pc = .ok (.ishl, 1)) (hp : pc + 1 = np)  (kk : WG p l e R s m args below meth c D B nL Q S kc ns np lv (.int (x <<< (y &&& 31)) :: st)) : WG p l e R s m args below meth c D B nL Q S kc ns pc lv (.int y :: .int x :: st) := by subst hp; exact WG.lift (fun H locs ls hl k => lv_ishl F.1 F.2.1 d k) kk
theorem g_ishr (F : FX p s m args meth c D E B nL own cc) {x y : Int32} (d : decode cc pc = .ok (.ishr, 1)) (hp : pc + 1 = np)  (kk : WG p l e R s m args below meth c D B nL Q S kc ns np lv (.int (x >>> (y &&& 31)) :: st)) : WG p l e R s m args below meth c D B nL Q S kc ns pc lv (.int y :: .int x :: st) := by subst hp; exact WG.lift (fun H locs ls hl k => lv_ishr F.1 F.2.1 d k) kk
theorem g_idiv (F : FX p s m args meth c D E B nL own cc) {x y : Int32} (d : decode cc pc = .ok (.idiv, 1)) (hne : ¬ y = 0) (hp : pc + 1 = np)  (kk : WG p l e R s m args below meth c D B nL Q S kc ns np lv (.int (x / y) :: st)) : WG p l e R s m args below meth c D B nL Q S kc ns pc lv (.int y :: .int x :: st) := by subst hp; exact WG.lift (fun H locs ls hl k => lv_idiv F.1 F.2.1 d hne k) kk
theorem g_irem (F : FX p s m args meth c D E B nL own cc) {x y : Int32} (d : decode cc pc = .ok (.irem, 1)) (hne : ¬ y = 0) (hp : pc + 1 = np)  (kk : WG p l e R s m args below meth c D B nL Q S kc ns np lv (.int (x - x / y * y) :: st)) : WG p l e R s m args below meth c D B nL Q S kc ns pc lv (.int y :: .int x :: st) := by subst hp; exact WG.lift (fun H locs ls hl k => lv_irem F.1 F.2.1 d hne k) kk
theorem g_iushr (F : FX p s m args meth c D E B nL own cc) {x y : Int32} (d : decode cc pc = .ok (.iushr, 1)) (hp : pc + 1 = np)  (kk : WG p l e R s m args below meth c D B nL Q S kc ns np lv (.int (x.toUInt32 >>> (y.toUInt32 &&& Int32.toUInt32 31)).toInt32 :: st)) : WG p l e R s m args below meth c D B nL Q S kc ns pc lv (.int y :: .int x :: st) := by subst hp; exact WG.lift (fun H locs ls hl k => lv_iushr F.1 F.2.1 d rfl k) kk
theorem g_ineg (F : FX p s m args meth c D E B nL own cc) {x : Int32} (d : decode cc pc = .ok (.ineg, 1)) (hp : pc + 1 = np)  (kk : WG p l e R s m args below meth c D B nL Q S kc ns np lv (.int (-x) :: st)) : WG p l e R s m args below meth c D B nL Q S kc ns pc lv (.int x :: st) := by subst hp; exact WG.lift (fun H locs ls hl k => lv_ineg F.1 F.2.1 d k) kk
theorem g_ladd (F : FX p s m args meth c D E B nL own cc) {x y : Int64} (d : decode cc pc = .ok (.ladd, 1)) (hp : pc + 1 = np)  (kk : WG p l e R s m args below meth c D B nL Q S kc ns np lv (.long (x + y) :: st)) : WG p l e R s m args below meth c D B nL Q S kc ns pc lv (.long y :: .long x :: st) := by subst hp; exact WG.lift (fun H locs ls hl k => lv_ladd F.1 F.2.1 d k) kk
theorem g_lsub (F : FX p s m args meth c D E B nL own cc) {x y : Int64} (d : decode cc pc = .ok (.lsub, 1)) (hp : pc + 1 = np)  (kk : WG p l e R s m args below meth c D B nL Q S kc ns np lv (.long (x - y) :: st)) : WG p l e R s m args below meth c D B nL Q S kc ns pc lv (.long y :: .long x :: st) := by subst hp; exact WG.lift (fun H locs ls hl k => lv_lsub F.1 F.2.1 d k) kk
theorem g_lmul (F : FX p s m args meth c D E B nL own cc) {x y : Int64} (d : decode cc pc = .ok (.lmul, 1)) (hp : pc + 1 = np)  (kk : WG p l e R s m args below meth c D B nL Q S kc ns np lv (.long (x * y) :: st)) : WG p l e R s m args below meth c D B nL Q S kc ns pc lv (.long y :: .long x :: st) := by subst hp; exact WG.lift (fun H locs ls hl k => lv_lmul F.1 F.2.1 d k) kk
theorem g_land (F : FX p s m args meth c D E B nL own cc) {x y : Int64} (d : decode cc pc = .ok (.land, 1)) (hp : pc + 1 = np)  (kk : WG p l e R s m args below meth c D B nL Q S kc ns np lv (.long (x &&& y) :: st)) : WG p l e R s m args below meth c D B nL Q S kc ns pc lv (.long y :: .long x :: st) := by subst hp; exact WG.lift (fun H locs ls hl k => lv_land F.1 F.2.1 d k) kk
theorem g_lor (F : FX p s m args meth c D E B nL own cc) {x y : Int64} (d : decode cc pc = .ok (.lor, 1)) (hp : pc + 1 = np)  (kk : WG p l e R s m args below meth c D B nL Q S kc ns np lv (.long (x ||| y) :: st)) : WG p l e R s m args below meth c D B nL Q S kc ns pc lv (.long y :: .long x :: st) := by subst hp; exact WG.lift (fun H locs ls hl k => lv_lor F.1 F.2.1 d k) kk
theorem g_lshl (F : FX p s m args meth c D E B nL own cc) {x : Int64} {y : Int32} (d : decode cc pc = .ok (.lshl, 1)) (hp : pc + 1 = np)  (kk : WG p l e R s m args below meth c D B nL Q S kc ns np lv (.long (x <<< (y.toInt64 &&& 63)) :: st)) : WG p l e R s m args below meth c D B nL Q S kc ns pc lv (.int y :: .long x :: st) := by subst hp; exact WG.lift (fun H locs ls hl k => lv_lshl F.1 F.2.1 d rfl k) kk
theorem g_i2l (F : FX p s m args meth c D E B nL own cc) {x : Int32} (d : decode cc pc = .ok (.i2l, 1)) (hp : pc + 1 = np)  (kk : WG p l e R s m args below meth c D B nL Q S kc ns np lv (.long x.toInt64 :: st)) : WG p l e R s m args below meth c D B nL Q S kc ns pc lv (.int x :: st) := by subst hp; exact WG.lift (fun H locs ls hl k => lv_i2l F.1 F.2.1 d rfl k) kk
theorem g_l2i (F : FX p s m args meth c D E B nL own cc) {x : Int64} (d : decode cc pc = .ok (.l2i, 1)) (hp : pc + 1 = np)  (kk : WG p l e R s m args below meth c D B nL Q S kc ns np lv (.int x.toInt32 :: st)) : WG p l e R s m args below meth c D B nL Q S kc ns pc lv (.long x :: st) := by subst hp; exact WG.lift (fun H locs ls hl k => lv_l2i F.1 F.2.1 d rfl k) kk
theorem g_i2b (F : FX p s m args meth c D E B nL own cc) {x : Int32} (d : decode cc pc = .ok (.i2b, 1)) (hp : pc + 1 = np)  (kk : WG p l e R s m args below meth c D B nL Q S kc ns np lv (.int x.toInt8.toInt32 :: st)) : WG p l e R s m args below meth c D B nL Q S kc ns pc lv (.int x :: st) := by subst hp; exact WG.lift (fun H locs ls hl k => lv_i2b F.1 F.2.1 d rfl k) kk
theorem g_i2s (F : FX p s m args meth c D E B nL own cc) {x : Int32} (d : decode cc pc = .ok (.i2s, 1)) (hp : pc + 1 = np)  (kk : WG p l e R s m args below meth c D B nL Q S kc ns np lv (.int x.toInt16.toInt32 :: st)) : WG p l e R s m args below meth c D B nL Q S kc ns pc lv (.int x :: st) := by subst hp; exact WG.lift (fun H locs ls hl k => lv_i2s F.1 F.2.1 d rfl k) kk
theorem g_dup (F : FX p s m args meth c D E B nL own cc) {va : Value} (d : decode cc pc = .ok (.dup, 1)) (hva : va.category = 1) (hp : pc + 1 = np)  (kk : WG p l e R s m args below meth c D B nL Q S kc ns np lv (va :: va :: st)) : WG p l e R s m args below meth c D B nL Q S kc ns pc lv (va :: st) := by subst hp; exact WG.lift (fun H locs ls hl k => lv_dup F.1 F.2.1 d hva k) kk
theorem g_pop (F : FX p s m args meth c D E B nL own cc) {va : Value} (d : decode cc pc = .ok (.pop, 1)) (hva : va.category = 1) (hp : pc + 1 = np)  (kk : WG p l e R s m args below meth c D B nL Q S kc ns np lv st) : WG p l e R s m args below meth c D B nL Q S kc ns pc lv (va :: st) := by subst hp; exact WG.lift (fun H locs ls hl k => lv_pop F.1 F.2.1 d hva k) kk
theorem g_dup_x1 (F : FX p s m args meth c D E B nL own cc) {va vb : Value} (d : decode cc pc = .ok (.dup_x1, 1)) (hva : va.category = 1) (hvb : vb.category = 1) (hp : pc + 1 = np)  (kk : WG p l e R s m args below meth c D B nL Q S kc ns np lv (va :: vb :: va :: st)) : WG p l e R s m args below meth c D B nL Q S kc ns pc lv (va :: vb :: st) := by subst hp; exact WG.lift (fun H locs ls hl k => lv_dup_x1 F.1 F.2.1 d hva hvb k) kk
theorem g_dup2 (F : FX p s m args meth c D E B nL own cc) {va vb : Value} (d : decode cc pc = .ok (.dup2, 1)) (hva : va.category = 1) (hvb : vb.category = 1) (hp : pc + 1 = np)  (kk : WG p l e R s m args below meth c D B nL Q S kc ns np lv (va :: vb :: va :: vb :: st)) : WG p l e R s m args below meth c D B nL Q S kc ns pc lv (va :: vb :: st) := by subst hp; exact WG.lift (fun H locs ls hl k => lv_dup2_11 F.1 F.2.1 d hva hvb k) kk
theorem g_goto (F : FX p s m args meth c D E B nL own cc) {off : Int} (d : decode cc pc = .ok (.goto off, 3)) (ht : (pc : Int) + off = (np : Int)) (kk : WG p l e R s m args below meth c D B nL Q S kc ns np lv st) : WG p l e R s m args below meth c D B nL Q S kc ns pc lv st := WG.lift (fun H locs ls hl k => lv_goto F.1 F.2.1 d ht k) kk
theorem g_null (F : FX p s m args meth c D E B nL own cc) (d : decode cc pc = .ok (.aconst_null, 1)) (hp : pc + 1 = np)  (kk : WG p l e R s m args below meth c D B nL Q S kc ns np lv (.null :: st)) : WG p l e R s m args below meth c D B nL Q S kc ns pc lv st := by subst hp; exact WG.lift (fun H locs ls hl k => lv_null F.1 F.2.1 d k) kk
theorem g_ifnull (F : FX p s m args meth c D E B nL own cc) {x : Nat} {off : Int} (d : decode cc pc = .ok (.ifnull off, 3)) (hp : pc + 3 = np) (kk : WG p l e R s m args below meth c D B nL Q S kc ns np lv st) : WG p l e R s m args below meth c D B nL Q S kc ns pc lv (.ref x :: st) := by subst hp; exact WG.lift (fun H locs ls hl k => lv_ifnull F.1 F.2.1 d k) kk
theorem g_ifnullN (F : FX p s m args meth c D E B nL own cc) {off : Int} (d : decode cc pc = .ok (.ifnull off, 3)) (ht : (pc : Int) + off = (np : Int)) (kk : WG p l e R s m args below meth c D B nL Q S kc ns np lv st) : WG p l e R s m args below meth c D B nL Q S kc ns pc lv (.null :: st) := WG.lift (fun H locs ls hl k => lv_ifnullN F.1 F.2.1 d ht k) kk
theorem g_ifnonnull (F : FX p s m args meth c D E B nL own cc) {x : Nat} {off : Int} (d : decode cc pc = .ok (.ifnonnull off, 3)) (ht : (pc : Int) + off = (np : Int)) (kk : WG p l e R s m args below meth c D B nL Q S kc ns np lv st) : WG p l e R s m args below meth c D B nL Q S kc ns pc lv (.ref x :: st) := WG.lift (fun H locs ls hl k => lv_ifnonnull F.1 F.2.1 d ht k) kk
theorem g_ifnonnullN (F : FX p s m args meth c D E B nL own cc) {off : Int} (d : decode cc pc = .ok (.ifnonnull off, 3)) (hp : pc + 3 = np) (kk : WG p l e R s m args below meth c D B nL Q S kc ns np lv st) : WG p l e R s m args below meth c D B nL Q S kc ns pc lv (.null :: st) := by subst hp; exact WG.lift (fun H locs ls hl k => lv_ifnonnullN F.1 F.2.1 d k) kk
theorem g_icmp_eq (F : FX p s m args meth c D E B nL own cc) {x y : Int32} {off : Int} {tp : Nat} (d : decode cc pc = .ok (.if_icmp .eq off, 3)) (ht : (pc : Int) + off = (tp : Int)) (hp : pc + 3 = np) (kt : x = y → WG p l e R s m args below meth c D B nL Q S kc ns tp lv st) (kf : ¬ x = y → WG p l e R s m args below meth c D B nL Q S kc ns np lv st) : WG p l e R s m args below meth c D B nL Q S kc ns pc lv (.int y :: .int x :: st) := by
  subst hp
  intro h H locs ls a b cc0 d0
  exact lv_icmp_eq F.1 F.2.1 d ht (fun q => kt q h H locs ls a b cc0 d0) (fun q => kf q h H locs ls a b cc0 d0)
theorem g_if_eq (F : FX p s m args meth c D E B nL own cc) {x : Int32} {off : Int} {tp : Nat} (d : decode cc pc = .ok (.ifCond .eq off, 3)) (ht : (pc : Int) + off = (tp : Int)) (hp : pc + 3 = np) (kt : x = 0 → WG p l e R s m args below meth c D B nL Q S kc ns tp lv st) (kf : ¬ x = 0 → WG p l e R s m args below meth c D B nL Q S kc ns np lv st) : WG p l e R s m args below meth c D B nL Q S kc ns pc lv (.int x :: st) := by
  subst hp
  intro h H locs ls a b cc0 d0
  exact lv_if_eq F.1 F.2.1 d ht (fun q => kt q h H locs ls a b cc0 d0) (fun q => kf q h H locs ls a b cc0 d0)
theorem g_icmp_ne (F : FX p s m args meth c D E B nL own cc) {x y : Int32} {off : Int} {tp : Nat} (d : decode cc pc = .ok (.if_icmp .ne off, 3)) (ht : (pc : Int) + off = (tp : Int)) (hp : pc + 3 = np) (kt : ¬ x = y → WG p l e R s m args below meth c D B nL Q S kc ns tp lv st) (kf : x = y → WG p l e R s m args below meth c D B nL Q S kc ns np lv st) : WG p l e R s m args below meth c D B nL Q S kc ns pc lv (.int y :: .int x :: st) := by
  subst hp
  intro h H locs ls a b cc0 d0
  exact lv_icmp_ne F.1 F.2.1 d ht (fun q => kt q h H locs ls a b cc0 d0) (fun q => kf q h H locs ls a b cc0 d0)
theorem g_if_ne (F : FX p s m args meth c D E B nL own cc) {x : Int32} {off : Int} {tp : Nat} (d : decode cc pc = .ok (.ifCond .ne off, 3)) (ht : (pc : Int) + off = (tp : Int)) (hp : pc + 3 = np) (kt : ¬ x = 0 → WG p l e R s m args below meth c D B nL Q S kc ns tp lv st) (kf : x = 0 → WG p l e R s m args below meth c D B nL Q S kc ns np lv st) : WG p l e R s m args below meth c D B nL Q S kc ns pc lv (.int x :: st) := by
  subst hp
  intro h H locs ls a b cc0 d0
  exact lv_if_ne F.1 F.2.1 d ht (fun q => kt q h H locs ls a b cc0 d0) (fun q => kf q h H locs ls a b cc0 d0)
theorem g_icmp_lt (F : FX p s m args meth c D E B nL own cc) {x y : Int32} {off : Int} {tp : Nat} (d : decode cc pc = .ok (.if_icmp .lt off, 3)) (ht : (pc : Int) + off = (tp : Int)) (hp : pc + 3 = np) (kt : x < y → WG p l e R s m args below meth c D B nL Q S kc ns tp lv st) (kf : ¬ x < y → WG p l e R s m args below meth c D B nL Q S kc ns np lv st) : WG p l e R s m args below meth c D B nL Q S kc ns pc lv (.int y :: .int x :: st) := by
  subst hp
  intro h H locs ls a b cc0 d0
  exact lv_icmp_lt F.1 F.2.1 d ht (fun q => kt q h H locs ls a b cc0 d0) (fun q => kf q h H locs ls a b cc0 d0)
theorem g_if_lt (F : FX p s m args meth c D E B nL own cc) {x : Int32} {off : Int} {tp : Nat} (d : decode cc pc = .ok (.ifCond .lt off, 3)) (ht : (pc : Int) + off = (tp : Int)) (hp : pc + 3 = np) (kt : x < 0 → WG p l e R s m args below meth c D B nL Q S kc ns tp lv st) (kf : ¬ x < 0 → WG p l e R s m args below meth c D B nL Q S kc ns np lv st) : WG p l e R s m args below meth c D B nL Q S kc ns pc lv (.int x :: st) := by
  subst hp
  intro h H locs ls a b cc0 d0
  exact lv_if_lt F.1 F.2.1 d ht (fun q => kt q h H locs ls a b cc0 d0) (fun q => kf q h H locs ls a b cc0 d0)
theorem g_icmp_ge (F : FX p s m args meth c D E B nL own cc) {x y : Int32} {off : Int} {tp : Nat} (d : decode cc pc = .ok (.if_icmp .ge off, 3)) (ht : (pc : Int) + off = (tp : Int)) (hp : pc + 3 = np) (kt : y ≤ x → WG p l e R s m args below meth c D B nL Q S kc ns tp lv st) (kf : ¬ y ≤ x → WG p l e R s m args below meth c D B nL Q S kc ns np lv st) : WG p l e R s m args below meth c D B nL Q S kc ns pc lv (.int y :: .int x :: st) := by
  subst hp
  intro h H locs ls a b cc0 d0
  exact lv_icmp_ge F.1 F.2.1 d ht (fun q => kt q h H locs ls a b cc0 d0) (fun q => kf q h H locs ls a b cc0 d0)
theorem g_if_ge (F : FX p s m args meth c D E B nL own cc) {x : Int32} {off : Int} {tp : Nat} (d : decode cc pc = .ok (.ifCond .ge off, 3)) (ht : (pc : Int) + off = (tp : Int)) (hp : pc + 3 = np) (kt : 0 ≤ x → WG p l e R s m args below meth c D B nL Q S kc ns tp lv st) (kf : ¬ 0 ≤ x → WG p l e R s m args below meth c D B nL Q S kc ns np lv st) : WG p l e R s m args below meth c D B nL Q S kc ns pc lv (.int x :: st) := by
  subst hp
  intro h H locs ls a b cc0 d0
  exact lv_if_ge F.1 F.2.1 d ht (fun q => kt q h H locs ls a b cc0 d0) (fun q => kf q h H locs ls a b cc0 d0)
theorem g_icmp_gt (F : FX p s m args meth c D E B nL own cc) {x y : Int32} {off : Int} {tp : Nat} (d : decode cc pc = .ok (.if_icmp .gt off, 3)) (ht : (pc : Int) + off = (tp : Int)) (hp : pc + 3 = np) (kt : y < x → WG p l e R s m args below meth c D B nL Q S kc ns tp lv st) (kf : ¬ y < x → WG p l e R s m args below meth c D B nL Q S kc ns np lv st) : WG p l e R s m args below meth c D B nL Q S kc ns pc lv (.int y :: .int x :: st) := by
  subst hp
  intro h H locs ls a b cc0 d0
  exact lv_icmp_gt F.1 F.2.1 d ht (fun q => kt q h H locs ls a b cc0 d0) (fun q => kf q h H locs ls a b cc0 d0)
theorem g_if_gt (F : FX p s m args meth c D E B nL own cc) {x : Int32} {off : Int} {tp : Nat} (d : decode cc pc = .ok (.ifCond .gt off, 3)) (ht : (pc : Int) + off = (tp : Int)) (hp : pc + 3 = np) (kt : 0 < x → WG p l e R s m args below meth c D B nL Q S kc ns tp lv st) (kf : ¬ 0 < x → WG p l e R s m args below meth c D B nL Q S kc ns np lv st) : WG p l e R s m args below meth c D B nL Q S kc ns pc lv (.int x :: st) := by
  subst hp
  intro h H locs ls a b cc0 d0
  exact lv_if_gt F.1 F.2.1 d ht (fun q => kt q h H locs ls a b cc0 d0) (fun q => kf q h H locs ls a b cc0 d0)
theorem g_icmp_le (F : FX p s m args meth c D E B nL own cc) {x y : Int32} {off : Int} {tp : Nat} (d : decode cc pc = .ok (.if_icmp .le off, 3)) (ht : (pc : Int) + off = (tp : Int)) (hp : pc + 3 = np) (kt : x ≤ y → WG p l e R s m args below meth c D B nL Q S kc ns tp lv st) (kf : ¬ x ≤ y → WG p l e R s m args below meth c D B nL Q S kc ns np lv st) : WG p l e R s m args below meth c D B nL Q S kc ns pc lv (.int y :: .int x :: st) := by
  subst hp
  intro h H locs ls a b cc0 d0
  exact lv_icmp_le F.1 F.2.1 d ht (fun q => kt q h H locs ls a b cc0 d0) (fun q => kf q h H locs ls a b cc0 d0)
theorem g_if_le (F : FX p s m args meth c D E B nL own cc) {x : Int32} {off : Int} {tp : Nat} (d : decode cc pc = .ok (.ifCond .le off, 3)) (ht : (pc : Int) + off = (tp : Int)) (hp : pc + 3 = np) (kt : x ≤ 0 → WG p l e R s m args below meth c D B nL Q S kc ns tp lv st) (kf : ¬ x ≤ 0 → WG p l e R s m args below meth c D B nL Q S kc ns np lv st) : WG p l e R s m args below meth c D B nL Q S kc ns pc lv (.int x :: st) := by
  subst hp
  intro h H locs ls a b cc0 d0
  exact lv_if_le F.1 F.2.1 d ht (fun q => kt q h H locs ls a b cc0 d0) (fun q => kf q h H locs ls a b cc0 d0)
end WGR
section WGC
variable {p : Program} {l : Launch} {e : Env} {R : Room} {s : State} {m : MethodId} {args : Array Value} {below : List Frame} {meth : Method} {c : Code} {D : va_G} {E : State → Prop} {B nL : Nat} {Q : State → Prop}
variable {S S' : AH → Prop} {kc ns pc np : Nat} {lv lv' : List (Option Value)} {st st' rest : List Value} {own : String} {cc : ByteArray}
theorem RepH.one {h : AH} {H : Heap} (hR : RepH D B h H) {a : Nat} {x : va_E} (hx : h a = some x) : va_P D zCl [(a, x)] H := by
  intro k q hk
  have hz : k < 1 := (List.getElem?_eq_some_iff.mp hk).1
  rw [show k = 0 by omega] at hk
  cases hk
  exact (hR.2 a x hx).2
theorem RepH.lt {h : AH} {H : Heap} (hR : RepH D B h H) {a : Nat} {x : va_E} (hx : h a = some x) : a < H.size := va_at.lt (hR.2 a x hx).2
theorem RepH.set {h : AH} {H H1 : Heap} (hR : RepH D B h H) {a : Nat} {x : va_E} (ha : B ≤ a) (hat : va_at D zCl (a, x) H1) (hz : H1.size = H.size) (oq : ∀ q : Nat, q ≠ a → H1[q]? = H[q]?) : RepH D B (hup h a x) H1 := by
  refine ⟨by rw [hz]; exact hR.1, fun b y hb => ?_⟩
  by_cases e : b = a
  · subst e
    rw [hup_self] at hb
    cases hb
    exact ⟨ha, hat⟩
  · rw [hup_ne e] at hb
    exact ⟨(hR.2 b y hb).1, (hR.2 b y hb).2.kept (oq b e)⟩
theorem RepH.push {h : AH} {H H1 : Heap} (hR : RepH D B h H) {x : va_E} (hat : va_at D zCl (H.size, x) H1) (hz : H1.size = H.size + 1) (oq : ∀ q : Nat, q < H.size → H1[q]? = H[q]?) : RepH D B (hup h H.size x) H1 := by
  refine ⟨by rw [hz]; exact Nat.le_trans hR.1 (Nat.le_succ _), fun b y hb => ?_⟩
  by_cases e : b = H.size
  · subst e
    rw [hup_self] at hb
    cases hb
    exact ⟨hR.1, hat⟩
  · rw [hup_ne e] at hb
    exact ⟨(hR.2 b y hb).1, (hR.2 b y hb).2.kept (oq b (hR.lt hb))⟩
theorem RepH.fresh {h : AH} {H : Heap} (hR : RepH D B h H) : h H.size = none := by
  cases hx : h H.size with
  | none => rfl
  | some x => exact absurd (hR.lt hx) (Nat.lt_irrefl _)
theorem zS.push {H0 H H1 : Heap} {locs : List Loc} (hV : va_S (zA B) H0 H locs) (hz : H1.size = H.size + 1) (oq : ∀ q : Nat, q < H.size → H1[q]? = H[q]?) : va_S (zA B) H0 H1 locs :=
  ⟨Nat.le_trans hV.1 (by omega), fun x h1 h2 => (oq x (Nat.lt_of_lt_of_le h1 hV.1)).trans (hV.2.1 x h1 h2), hV.2.2⟩
/-! fields -/
theorem g_get (F : FX p s m args meth c D E B nL own cc) {ref C : String} {T : u_T} {N ci index a : Nat} (hin : ∀ w ∈ u_ws C T N, w ∈ lw_all) (hc : zCl[ci]? = some (C, T, N)) (k : Nat) (hk : k < N) (hlink : Cond.fieldLink own index ref (T k).2.1 (T k).2.2.1 ∈ lw_all) (hsame : ∀ x, s.fieldFound? (T k).1 (T k).2.1 (T k).2.2.1 = some x → s.fieldFound? ref (T k).2.1 (T k).2.2.1 = some x) {v : Value} (hS : ∀ h, S h → ∃ fs, h a = some (.inr (ci, fs)) ∧ fs[k]? = some v) (d : decode cc pc = .ok (.getfield index, 3)) (hp : pc + 3 = np) (kk : WG p l e R s m args below meth c D B nL Q S kc ns np lv (v :: st)) : WG p l e R s m args below meth c D B nL Q S kc ns pc lv (.ref a :: st) := by
  subst hp
  intro h H locs ls hs hR hV hL
  obtain ⟨fs, h1, h2⟩ := hS h hs
  exact va_get F.1 F.2.1 F.2.2.2.2.1 hin F.2.2.2.1 F.2.2.2.2.2.1.1 (hR.one h1) 0 rfl hc k hk (F.2.2.2.2.1 _ hlink) hsame h2 d (kk h H locs ls hs hR hV hL)
theorem g_put (F : FX p s m args meth c D E B nL own cc) {ref C : String} {T : u_T} {N ci index a : Nat} (hin : ∀ w ∈ u_ws C T N, w ∈ lw_all) (ty0 : Nat → FieldType) (hty : ∀ k, k < N → parseFieldDescriptor (T k).2.2.1 = some (ty0 k)) (hnm : ∀ a, a < N → ∀ b, b < N → a ≠ b → (T a).2.1 ≠ (T b).2.1) (hc : zCl[ci]? = some (C, T, N)) (k : Nat) (hk : k < N) (hlink : Cond.fieldLink own index ref (T k).2.1 (T k).2.2.1 ∈ lw_all) (hsame : ∀ x, s.fieldFound? (T k).1 (T k).2.1 (T k).2.2.1 = some x → s.fieldFound? ref (T k).2.1 (T k).2.2.1 = some x) (hfin : (T k).2.2.2 = false) {ty : FieldType} {v : Value} (hd : parseFieldDescriptor (T k).2.2.1 = some ty) (hn : narrow ty v = v) (hfit : fits ty v = true) (hS : ∀ h, S h → ∃ fs, h a = some (.inr (ci, fs)) ∧ k < fs.length ∧ S' (hup h a (.inr (ci, fs.set k v)))) (d : decode cc pc = .ok (.putfield index, 3)) (hp : pc + 3 = np) (kk : WG p l e R s m args below meth c D B nL Q S' kc ns np lv st) : WG p l e R s m args below meth c D B nL Q S kc ns pc lv (v :: .ref a :: st) := by
  subst hp
  intro h H locs ls hs hR hV hL
  obtain ⟨fs, he, hl, hs'⟩ := hS h hs
  have hts := F.2.2.2.2.1
  have hK := F.2.2.2.2.2.1.1
  have hap := va_apart (own := own) hts hin ty0 hty hnm hK hc
  obtain ⟨r, h1, cell, q1, q2, q3, q4⟩ := (hR.2 _ _ he).2
  have hr : r = (C, T, N) := Option.some.inj (h1.symm.trans hc)
  subst hr
  obtain ⟨hSl, hfc, kC, hkC, hkind⟩ := hK.1 ci _ hc
  obtain ⟨cf, kf, fi, f, hi, hsl⟩ := hSl k hk
  have hlay := hts _ (hin _ (u_in_lay hk))
  unfold u_lay at hlay
  rw [if_neg (by rw [hfin]; decide)] at hlay
  have hst := (u_facts hfc hkC (u_lays hts hin hk) hi).1
  have h6 := u_store hfc hkC hkind hlay hi hd hn hfit
  refine W.putK F.1 F.2.1 (f := f) ⟨F.2.2.2.1, hts _ hlink, ⟨_, _, _, hsame _ hi⟩, hst⟩ (by rw [q2]; exact h6) q1 q3 (by rw [hsl]; exact k2_hasslot (q4 k hk)) rfl rfl d fun H' e1 e2 e3 => ?_
  rw [hsl] at e1 ⊢
  exact kk _ H' _ ls hs' (hR.set (hR.2 _ _ he).1 ⟨_, hc, t_OB.to (V := updV (vp_V fs) k v) ⟨_, e1, q2, q3, t_set q4 hap hk v⟩ (fun j _ => vp_updV_set hl v j)⟩ e2 e3) (hV.put e2 e3 (hR.2 _ _ he).1) hL
theorem g_putF (F : FX p s m args meth c D E B nL own cc) (hin2 : meth.name = "<init>") {ref C : String} {T : u_T} {N ci index a : Nat} (hin : ∀ w ∈ u_ws C T N, w ∈ lw_all) (ty0 : Nat → FieldType) (hty : ∀ k, k < N → parseFieldDescriptor (T k).2.2.1 = some (ty0 k)) (hnm : ∀ a, a < N → ∀ b, b < N → a ≠ b → (T a).2.1 ≠ (T b).2.1) (hc : zCl[ci]? = some (C, T, N)) (k : Nat) (hk : k < N) (hlink : Cond.fieldLink own index ref (T k).2.1 (T k).2.2.1 ∈ lw_all) (hsame : ∀ x, s.fieldFound? (T k).1 (T k).2.1 (T k).2.2.1 = some x → s.fieldFound? ref (T k).2.1 (T k).2.2.1 = some x) (hfin : (T k).2.2.2 = true) (hdecl : (T k).1 = own) {ty : FieldType} {v : Value} (hd : parseFieldDescriptor (T k).2.2.1 = some ty) (hn : narrow ty v = v) (hfit : fits ty v = true) (hS : ∀ h, S h → ∃ fs, h a = some (.inr (ci, fs)) ∧ k < fs.length ∧ S' (hup h a (.inr (ci, fs.set k v)))) (d : decode cc pc = .ok (.putfield index, 3)) (hp : pc + 3 = np) (kk : WG p l e R s m args below meth c D B nL Q S' kc ns np lv st) : WG p l e R s m args below meth c D B nL Q S kc ns pc lv (v :: .ref a :: st) := by
  subst hp
  intro h H locs ls hs hR hV hL
  obtain ⟨fs, he, hl, hs'⟩ := hS h hs
  have hts := F.2.2.2.2.1
  have hK := F.2.2.2.2.2.1.1
  have hown := F.2.2.2.1
  have hap := va_apart (own := own) hts hin ty0 hty hnm hK hc
  obtain ⟨r, h1, cell, q1, q2, q3, q4⟩ := (hR.2 _ _ he).2
  have hr : r = (C, T, N) := Option.some.inj (h1.symm.trans hc)
  subst hr
  obtain ⟨hSl, hfc, kC, hkC, hkind⟩ := hK.1 ci _ hc
  obtain ⟨cf, kf, fi, f, hi, hsl⟩ := hSl k hk
  have hlay := hts _ (hin _ (u_in_lay hk))
  unfold u_lay at hlay
  rw [if_pos hfin] at hlay
  have hst := (u_facts hfc hkC (u_lays hts hin hk) hi).1
  have hcf : m.cls = cf := by
    obtain ⟨_, _, c', _, _, _, -, -, hf', -, -, -, hown2, -⟩ := Cond.laysFinal_spec hlay
    have e1 : c' = cf := by have := hi.symm.trans hf'; simp at this; exact this.1.symm
    rw [hdecl] at hown2
    rw [← e1]; exact Option.some.inj (hown.symm.trans hown2)
  have h6 := u_fits hfc hkC hkind (Or.inr hlay) hi hd hn hfit
  refine W.putFinK F.1 F.2.1 hown (hts _ hlink) (hsame _ hi) hst hcf hin2 (by rw [q2]; exact h6) q1 q3 (by rw [hsl]; exact k2_hasslot (q4 k hk)) rfl rfl d fun H' e1 e2 e3 => ?_
  rw [hsl] at e1 ⊢
  exact kk _ H' _ ls hs' (hR.set (hR.2 _ _ he).1 ⟨_, hc, t_OB.to (V := updV (vp_V fs) k v) ⟨_, e1, q2, q3, t_set q4 hap hk v⟩ (fun j _ => vp_updV_set hl v j)⟩ e2 e3) (hV.put e2 e3 (hR.2 _ _ he).1) hL
/-! arrays of numbers -/
theorem g_alen (F : FX p s m args meth c D E B nL own cc) {a t0 : Nat} {ty : FieldType} {v : Int32} (hS : ∀ h, S h → ∃ (n : Nat) (x : (Nat → Int32) ⊕ (Nat → Int64) ⊕ (Nat → UInt32) ⊕ (Nat → UInt64) ⊕ (Nat → Option Nat)), h a = some (.inl (D.1 (100 + t0), n, x)) ∧ Int32.ofNat n = v) (ht : (zTy D)[t0]? = some (D.1 (100 + t0), ty)) (d : decode cc pc = .ok (.arraylength, 1)) (hp : pc + 1 = np) (kk : WG p l e R s m args below meth c D B nL Q S kc ns np lv (.int v :: st)) : WG p l e R s m args below meth c D B nL Q S kc ns pc lv (.ref a :: st) := by
  subst hp
  intro h H locs ls hs hR hV hL
  obtain ⟨n, x, h1, h2⟩ := hS h hs
  exact va_alen F.1 F.2.1 F.2.2.2.2.2.1.1 (hR.one h1) 0 t0 rfl ht h2 d (kk h H locs ls hs hR hV hL)
theorem g_iald (F : FX p s m args meth c D E B nL own cc) {a : Nat} {i v : Int32} (hS : ∀ h, S h → ∃ (n : Nat) (f : Nat → Int32), h a = some (.inl (D.1 100, n, .inl f)) ∧ vp_in i n ∧ f i.toNatClampNeg = v) (d : decode cc pc = .ok (.iaload, 1)) (hp : pc + 1 = np) (kk : WG p l e R s m args below meth c D B nL Q S kc ns np lv (.int v :: st)) : WG p l e R s m args below meth c D B nL Q S kc ns pc lv (.int i :: .ref a :: st) := by
  subst hp
  intro h H locs ls hs hR hV hL
  obtain ⟨n, f, h1, h2, h3⟩ := hS h hs
  subst h3
  exact va_iald F.1 F.2.1 F.2.2.2.2.2.1.1 (hR.one h1) 0 0 rfl rfl h2 d (kk h H locs ls hs hR hV hL)
theorem g_bald (F : FX p s m args meth c D E B nL own cc) {a : Nat} {i v : Int32} (hS : ∀ h, S h → ∃ (n : Nat) (f : Nat → Int32), h a = some (.inl (D.1 101, n, .inl f)) ∧ vp_in i n ∧ f i.toNatClampNeg = v) (d : decode cc pc = .ok (.baload, 1)) (hp : pc + 1 = np) (kk : WG p l e R s m args below meth c D B nL Q S kc ns np lv (.int v :: st)) : WG p l e R s m args below meth c D B nL Q S kc ns pc lv (.int i :: .ref a :: st) := by
  subst hp
  intro h H locs ls hs hR hV hL
  obtain ⟨n, f, h1, h2, h3⟩ := hS h hs
  subst h3
  exact va_bald F.1 F.2.1 F.2.2.2.2.2.1.1 (hR.one h1) 0 1 rfl rfl h2 d (kk h H locs ls hs hR hV hL)
theorem g_lald (F : FX p s m args meth c D E B nL own cc) {a : Nat} {i : Int32} {v : Int64} (hS : ∀ h, S h → ∃ (n : Nat) (f : Nat → Int64), h a = some (.inl (D.1 102, n, .inr (.inl f))) ∧ vp_in i n ∧ f i.toNatClampNeg = v) (d : decode cc pc = .ok (.laload, 1)) (hp : pc + 1 = np) (kk : WG p l e R s m args below meth c D B nL Q S kc ns np lv (.long v :: st)) : WG p l e R s m args below meth c D B nL Q S kc ns pc lv (.int i :: .ref a :: st) := by
  subst hp
  intro h H locs ls hs hR hV hL
  obtain ⟨n, f, h1, h2, h3⟩ := hS h hs
  subst h3
  exact va_lald F.1 F.2.1 F.2.2.2.2.2.1.1 (hR.one h1) 0 2 rfl rfl h2 d (kk h H locs ls hs hR hV hL)
theorem zcell_i {cA : ClassId} {n k : Nat} {f : Nat → Int32} {x y : Int32} (hy : x = y) : (vp_cell cA (n, .inl f)).setSlot k (.int x) = vp_cell cA (n, .inl (va_up f k y)) := by
  subst hy
  rw [vp_cell_i, vp_cell_i, arrV_store]
  congr 1
  funext q
  by_cases hq : q = k
  · simp [updV, va_up, hq]
  · simp [updV, va_up, hq]
theorem g_iast (F : FX p s m args meth c D E B nL own cc) {a : Nat} {i x : Int32} (hS : ∀ h, S h → ∃ (n : Nat) (f : Nat → Int32), h a = some (.inl (D.1 100, n, .inl f)) ∧ vp_in i n ∧ S' (hup h a (.inl (D.1 100, n, .inl (va_up f i.toNatClampNeg x))))) (d : decode cc pc = .ok (.iastore, 1)) (hp : pc + 1 = np) (kk : WG p l e R s m args below meth c D B nL Q S' kc ns np lv st) : WG p l e R s m args below meth c D B nL Q S kc ns pc lv (.int x :: .int i :: .ref a :: st) := by
  subst hp
  intro h H locs ls hs hR hV hL
  obtain ⟨n, f, h1, h2, h3⟩ := hS h hs
  have hK := F.2.2.2.2.2.1.1
  refine W.iast F.1 F.2.1 (hR.2 _ _ h1).2 ((hK.2 0 _ rfl).1 n (fun j => .int (f j))) (fun q => by cases q) (by show ¬ (i < 0 ∨ (arrV _ _ _).slots.size ≤ _); rw [arrV_size]; exact h2) rfl rfl d fun H1 e1 z oq => ?_
  exact kk _ H1 _ ls h3 (hR.set (hR.2 _ _ h1).1 (e1.trans (congrArg some (zcell_i rfl))) z oq) (hV.put z oq (hR.2 _ _ h1).1) hL
theorem g_bast (F : FX p s m args meth c D E B nL own cc) {a : Nat} {i x : Int32} (hS : ∀ h, S h → ∃ (n : Nat) (f : Nat → Int32), h a = some (.inl (D.1 101, n, .inl f)) ∧ vp_in i n ∧ S' (hup h a (.inl (D.1 101, n, .inl (va_up f i.toNatClampNeg (vp_nar .byte x)))))) (d : decode cc pc = .ok (.bastore, 1)) (hp : pc + 1 = np) (kk : WG p l e R s m args below meth c D B nL Q S' kc ns np lv st) : WG p l e R s m args below meth c D B nL Q S kc ns pc lv (.int x :: .int i :: .ref a :: st) := by
  subst hp
  intro h H locs ls hs hR hV hL
  obtain ⟨n, f, h1, h2, h3⟩ := hS h hs
  have hK := F.2.2.2.2.2.1.1
  refine W.bast F.1 F.2.1 (hR.2 _ _ h1).2 ((hK.2 1 _ rfl).1 n (fun j => .int (f j))) (fun q => by cases q) (by show ¬ (i < 0 ∨ (arrV _ _ _).slots.size ≤ _); rw [arrV_size]; exact h2) rfl rfl d fun H1 e1 z oq => ?_
  exact kk _ H1 _ ls h3 (hR.set (hR.2 _ _ h1).1 (e1.trans (congrArg some (zcell_i rfl))) z oq) (hV.put z oq (hR.2 _ _ h1).1) hL
theorem zcell_l {cA : ClassId} {n k : Nat} {f : Nat → Int64} {x : Int64} : (vp_cell cA (n, .inr (.inl f))).setSlot k (.long x) = vp_cell cA (n, .inr (.inl (va_up f k x))) := by
  rw [vp_cell_l, vp_cell_l, arrV_store]
  congr 1
  funext q
  by_cases hq : q = k
  · simp [updV, va_up, hq]
  · simp [updV, va_up, hq]
theorem g_last (F : FX p s m args meth c D E B nL own cc) {a : Nat} {i : Int32} {x : Int64} (hS : ∀ h, S h → ∃ (n : Nat) (f : Nat → Int64), h a = some (.inl (D.1 102, n, .inr (.inl f))) ∧ vp_in i n ∧ S' (hup h a (.inl (D.1 102, n, .inr (.inl (va_up f i.toNatClampNeg x)))))) (d : decode cc pc = .ok (.lastore, 1)) (hp : pc + 1 = np) (kk : WG p l e R s m args below meth c D B nL Q S' kc ns np lv st) : WG p l e R s m args below meth c D B nL Q S kc ns pc lv (.long x :: .int i :: .ref a :: st) := by
  subst hp
  intro h H locs ls hs hR hV hL
  obtain ⟨n, f, h1, h2, h3⟩ := hS h hs
  have hK := F.2.2.2.2.2.1.1
  refine W.last F.1 F.2.1 (hR.2 _ _ h1).2 ((hK.2 2 _ rfl).1 n (fun j => .long (f j))) (fun q => by cases q) (by show ¬ (i < 0 ∨ (arrV _ _ _).slots.size ≤ _); rw [arrV_size]; exact h2) rfl rfl d fun H1 e1 z oq => ?_
  exact kk _ H1 _ ls h3 (hR.set (hR.2 _ _ h1).1 (e1.trans (congrArg some zcell_l)) z oq) (hV.put z oq (hR.2 _ _ h1).1) hL
/-! contracts -/
/-- what stands behind a method: it returned v, and T v holds of the heap -/
def QT (D : va_G) (B : Nat) (T : Option Value → AH → Prop) : Array Value → State → Outcome → State → Prop := fun _ u oc t => (∃ (v : Option Value) (h : AH), oc = .returned v ∧ T v h ∧ RepH D B h t.heap) ∧ va_F (zA B) u t
/-- the contract of y: from the assertion S, with the arguments As, to T -/
def Ct (l : Launch) (D : va_G) (E : State → Prop) (B : Nat) (y : MethodName) (cc : ByteArray) (nL : Nat) (ret : Option FieldType) (fr lo mc ms : Nat) (As : List Value) (S : AH → Prop) (T : Option Value → AH → Prop) : Prop :=
  Met l y (ws_ y cc nL ret) { frames := fr, cells := mc, slots := ms, locals := lo } (va_Pc As (fun U => (∃ h, S h ∧ RepH D B h U.heap) ∧ KX D E U)) (QT D B T) mc ms (zA B)
def RI (r : Int32) (S : AH → Prop) : Option Value → AH → Prop := fun v h => v = some (.int r) ∧ S h
def RL (r : Int64) (S : AH → Prop) : Option Value → AH → Prop := fun v h => v = some (.long r) ∧ S h
def RV (S : AH → Prop) : Option Value → AH → Prop := fun v h => v = none ∧ S h
/-- a number of which 'post' is said, and a world -/
def RE {U : Type} (post : Int32 → U → Prop) (S : Int32 → U → AH → Prop) : Option Value → AH → Prop := fun v h => ∃ (r : Int32) (u : U), post r u ∧ v = some (.int r) ∧ S r u h
def RVE {U : Type} (post : U → Prop) (S : U → AH → Prop) : Option Value → AH → Prop := fun v h => ∃ u : U, post u ∧ v = none ∧ S u h
/-- a reference or null -/
def RQ {U : Type} (post : Option Nat → U → Prop) (S : Option Nat → U → AH → Prop) : Option Value → AH → Prop := fun v h => ∃ (r : Option Nat) (u : U), post r u ∧ v = some (va_rf r) ∧ S r u h
theorem Ct.weak {y : MethodName} {nL : Nat} {ret : Option FieldType} {fr lo mc ms : Nat} {As : List Value} {T T' : Option Value → AH → Prop} (hS : ∀ h, S h → S' h) (hT : ∀ v h, T v h → T' v h) (hC : Ct l D E B y cc nL ret fr lo mc ms As S' T) : Ct l D E B y cc nL ret fr lo mc ms As S T' := by
  intro p e ha hc hk s m args below hf hap hP hK
  obtain ⟨k, o, h1, h2, h3, hQ⟩ := hC p e ha hc hk s m args below hf hap (by
    obtain ⟨g1, ⟨h, g2, g3⟩, g4⟩ := hP
    exact ⟨g1, ⟨h, hS h g2, g3⟩, g4⟩) hK
  refine ⟨k, o, h1, h2, h3, ⟨?_, hQ.2⟩⟩
  obtain ⟨⟨v, h, q1, q2, q3⟩, q4⟩ := hQ.1
  exact ⟨⟨v, h, q1, hT v h q2, q3⟩, q4⟩
end WGC
section WGD
variable {p : Program} {l : Launch} {e : Env} {R : Room} {s : State} {m : MethodId} {args : Array Value} {below : List Frame} {meth : Method} {c : Code} {D : va_G} {E : State → Prop} {B nL : Nat} {Q : State → Prop}
variable {S S' : AH → Prop} {kc ns pc np : Nat} {lv lv' : List (Option Value)} {st st' rest : List Value} {own : String} {cc : ByteArray}
/-- a contract out of a walk of the body -/
theorem Ct.of {y : MethodName} {ret : Option FieldType} {fr lo mc ms : Nat} {As : List Value} {T : Option Value → AH → Prop} (hy : plainName y.cls = true) (hlen : (lg_sl As).length ≤ nL) (hE : Stab E) (k0 : Nat) (hlv : lve As ++ List.replicate k0 none = lv)
    (body : ∀ (p : Program) (e : Env) (s : State) (m : MethodId) (below : List Frame) (meth : Method) (c : Code), FX p s m As.toArray meth c D E B nL y.cls cc → meth.sig.returnType = ret → meth.name = y.name → WG p l e { frames := fr, cells := mc, slots := ms, locals := lo } s m As.toArray below meth c D B nL (MQ below (QT D B T) As.toArray s mc ms (zA B)) S 0 0 0 lv []) : Ct l D E B y cc nL ret fr lo mc ms As S T := by
  refine Met.ofW (cc := cc) (maxL := nL) (ret := ret) hy rfl ?_
  intro p e s m args below meth c s₁ B0 hml hv
  obtain ⟨rfl, ⟨h, hS, hR⟩, hK⟩ := hv
  have hts := atoms_spec (ws := ws_ y cc nL ret) B0.pre
  have hts : ∀ w ∈ lw_all, w.before _ s = true := fun w h => hts w (List.mem_cons_of_mem _ h)
  have F : FX p s m As.toArray meth c D E B nL y.cls cc := ⟨B0.exec, B0.bytes, hml, findClass_of_methodNamed B0.named, hts, hK, hE, B0.notSynchronized, hR.1⟩
  have hl := lvh_entry As hlen k0
  rw [lg_entry_eq]
  rw [hlv] at hl
  exact body p e s m below meth c F B0.returns (name_of_methodNamed B0.named B0.method).1 h s.heap [] _ hS hR va_S.rf hl
/-- behind a call -/
theorem g_call {As : List Value} {a : Array Value} {T : Option Value → AH → Prop} {mc ms dp : Nat} (st0 : List Value)
    (hrun : ∀ (h : AH) (H : Heap) (locs : List Loc) (ls : Array Slot), S h → RepH D B h H → lvh ls nL lv → ∀ T0 : State, T0.heap = H → Stand p l e R s m args below meth c T0 locs kc ns → ∃ (v : Option Value) (st₀ t T' : State) (L : List Loc), st₀.heap = H ∧ Stand p l e R s m args below meth c T' (locs ++ L) (kc + mc) (ns + ms) ∧ (∀ q ∈ L, zA B q.base) ∧ T'.heap = t.heap ∧ T'.vm = t.vm ∧ QT D B T a st₀ (.returned v) t ∧ Goes p e below T0 (F0 m pc ls st0) T' (F0 m (pc + dp) ls (v.toList ++ rest)))
    (hp : pc + dp = np) (kk : ∀ v, WG p l e R s m args below meth c D B nL Q (T v) (kc + mc) (ns + ms) np lv (v.toList ++ rest)) : WG p l e R s m args below meth c D B nL Q S kc ns pc lv st0 := by
  subst hp
  intro h H locs ls hs hR hV hL T0 hT X
  obtain ⟨v, st₀, t, T', L, h0, X', hLf, e1, e2, ⟨⟨v', h', hv, hT', hR'⟩, hz, hk⟩, st⟩ := hrun h H locs ls hs hR hL T0 hT X
  cases hv
  rw [h0] at hz hk
  obtain ⟨t2, a1, b1⟩ := kk v h' T'.heap (locs ++ L) ls hT' (by rw [e1]; exact hR') ⟨Nat.le_trans hV.1 (by rw [e1]; exact hz), fun q h1 h2 => by rw [e1, hk q (Nat.lt_of_lt_of_le h1 hV.1) h2]; exact hV.2.1 q h1 h2, fun q hq => by
      rcases List.mem_append.mp hq with z | z
      · exact hV.2.2 q z
      · exact hLf q z⟩ hL T' rfl X'
  exact ⟨t2, st t2 a1, b1⟩
theorem pre_blind {As : List Value} (hE : Stab E) : FrameBlind (va_Pc As (fun U => (∃ h, S h ∧ RepH D B h U.heap) ∧ KX D E U)) := by
  intro a U g mk q
  obtain ⟨q0, q1, q2⟩ := q
  exact ⟨q0, q1, q2.blind hE g mk a⟩
theorem pre_at {As : List Value} (hE : Stab E) (hK : KX D E s) {h : AH} {H : Heap} (hs : S h) (hR : RepH D B h H) : ∀ U : State, U.heap = H → s.WarmedH U.vm → va_Pc As (fun U => (∃ h, S h ∧ RepH D B h U.heap) ∧ KX D E U) As.toArray U := fun U hU hW => ⟨rfl, ⟨h, hs, by rw [hU]; exact hR⟩, hK.warm hE hW⟩
theorem g_recv {h : AH} {H : Heap} (hK : KX D E s) (hR : RepH D B h H) {b ci : Nat} {C : String} {T : u_T} {N : Nat} {fs : List Value} (hc : zCl[ci]? = some (C, T, N)) (hb : h b = some (.inr (ci, fs))) : ∃ cell : Cell, H[b]? = some cell ∧ cell.vm.isStatics = false ∧ s.vm.findClass C = some cell.cls := va_recv hK.1 (hR.one hb) (q0 := 0) hc rfl
/-- invokevirtual of the receiver's own method -/
theorem g_runV (F : FX p s m args meth c D E B nL own cc) {C : String} {index b ci n nLy fr lo mc ms N : Nat} {T0 : u_T} {y : MethodName} {bytes : ByteArray} {ret : Option FieldType} {As : List Value} {T : Option Value → AH → Prop}
    (hC : Ct l D E B y bytes nLy ret fr lo mc ms (.ref b :: As) S T) (hw : GoodIn lw_all (wsV own index C y (ws_ y bytes nLy ret))) (hcl : y.cls = C ∧ y.cls ≠ "java/lang/invoke/MethodHandle" ∧ y.cls ≠ "java/lang/invoke/VarHandle" ∧ (parseMethodDescriptor y.desc).map (fun d => d.parameters.length) = some n) (hroom : fr + 1 ≤ R.frames ∧ 8 + (nLy + 11) + lo ≤ R.locals) (hc : zCl[ci]? = some (C, T0, N)) (hb : ∀ h, S h → ∃ fs, h b = some (.inr (ci, fs))) (hn : As.length = n) (hst : st = As.reverse ++ .ref b :: rest) (hW : (rest.map fun v => v.category).sum ≤ 8) (d : decode cc pc = .ok (.invokevirtual index, 3)) (hf : kc + mc ≤ R.cells ∧ ns + ms ≤ R.slots) (hp : pc + 3 = np)
    (kk : ∀ v, WG p l e R s m args below meth c D B nL Q (T v) (kc + mc) (ns + ms) np lv (v.toList ++ rest)) : WG p l e R s m args below meth c D B nL Q S kc ns pc lv st := by
  refine g_call (a := (Value.ref b :: As).toArray) (As := As) (dp := 3) st (fun h H locs ls hs hR hL => ?_) hp kk
  obtain ⟨fs, hbf⟩ := hb h hs
  exact va_runV (g := F0 m pc ls st) ⟨F.1, F.2.1, F.2.2.1, F.2.2.2.1, F.2.2.2.2.1⟩ hC (cwV n F.2.2.2.2.1 hw rfl rfl rfl hcl hroom) ⟨pre_blind F.2.2.2.2.2.2.1, g_recv F.2.2.2.2.2.1 hR hc hbf, pre_at F.2.2.2.2.2.2.1 F.2.2.2.2.2.1 hs hR⟩ rfl hn hL.1 hst (lv_room hW) d hf
/-- invokestatic -/
theorem g_runS (F : FX p s m args meth c D E B nL own cc) {index n nLy fr lo mc ms : Nat} {y : MethodName} {bytes : ByteArray} {ret : Option FieldType} {As : List Value} {T : Option Value → AH → Prop}
    (hC : Ct l D E B y bytes nLy ret fr lo mc ms As S T) (hw : GoodIn lw_all (va_wsS own index y (ws_ y bytes nLy ret))) (hcl : y.cls ≠ "java/lang/invoke/MethodHandle" ∧ y.cls ≠ "java/lang/invoke/VarHandle" ∧ (parseMethodDescriptor y.desc).map (fun d => d.parameters.length) = some n) (hroom : fr + 1 ≤ R.frames ∧ 8 + (nLy + 11) + lo ≤ R.locals) (hn : As.length = n) (hst : st = As.reverse ++ rest) (hW : (rest.map fun v => v.category).sum ≤ 8) (d : decode cc pc = .ok (.invokestatic index, 3)) (hf : kc + mc ≤ R.cells ∧ ns + ms ≤ R.slots) (hp : pc + 3 = np)
    (kk : ∀ v, WG p l e R s m args below meth c D B nL Q (T v) (kc + mc) (ns + ms) np lv (v.toList ++ rest)) : WG p l e R s m args below meth c D B nL Q S kc ns pc lv st := by
  refine g_call (a := As.toArray) (As := As) (dp := 3) st (fun h H locs ls hs hR hL => ?_) hp kk
  exact va_runS (g := F0 m pc ls st) ⟨F.1, F.2.1, F.2.2.1, F.2.2.2.1, F.2.2.2.2.1⟩ hC (va_cwS n F.2.2.2.2.1 hw rfl rfl rfl hcl hroom) ⟨pre_blind F.2.2.2.2.2.2.1, pre_at F.2.2.2.2.2.2.1 F.2.2.2.2.2.1 hs hR⟩ rfl hn hL.1 hst (lv_room hW) d hf
/-- invokespecial of a constructor -/
theorem g_runI (F : FX p s m args meth c D E B nL own cc) {index b n nLy fr lo mc ms : Nat} {y : MethodName} {bytes : ByteArray} {As : List Value} {T : Option Value → AH → Prop}
    (hC : Ct l D E B y bytes nLy none fr lo mc ms (.ref b :: As) S T) (hw : Cond.code y bytes nLy none ∈ lw_all) (hini : Cond.initialized y.cls ∈ lw_all) (hlk : Cond.methodLink own index y ∈ lw_all) (him : Cond.instanceMethod y ∈ lw_all) (hy1 : y.name = "<init>") (hcl : y.cls ≠ "java/lang/invoke/MethodHandle" ∧ y.cls ≠ "java/lang/invoke/VarHandle" ∧ (parseMethodDescriptor y.desc).map (fun d => d.parameters.length) = some n) (hroom : fr + 1 ≤ R.frames ∧ 8 + (nLy + 11) + lo ≤ R.locals) (hn : As.length = n) (hst : st = As.reverse ++ .ref b :: rest) (hW : (rest.map fun v => v.category).sum ≤ 8) (d : decode cc pc = .ok (.invokespecial index, 3)) (hf : kc + mc ≤ R.cells ∧ ns + ms ≤ R.slots) (hp : pc + 3 = np)
    (kk : ∀ v, WG p l e R s m args below meth c D B nL Q (T v) (kc + mc) (ns + ms) np lv (v.toList ++ rest)) : WG p l e R s m args below meth c D B nL Q S kc ns pc lv st := by
  have hts := F.2.2.2.2.1
  refine g_call (a := (Value.ref b :: As).toArray) (As := As) (dp := 3) st (fun h H locs ls hs hR hL => ?_) hp kk
  exact va_runI (g := F0 m pc ls st) ⟨F.1, F.2.1, F.2.2.1, F.2.2.2.1, F.2.2.2.2.1⟩ hC (cwI n F.2.2.2.2.1 (lw_meth hw) rfl rfl rfl (hts _ hini) (hts _ hlk) (hts _ him) hy1 hcl hroom) ⟨pre_blind F.2.2.2.2.2.2.1, pre_at F.2.2.2.2.2.2.1 F.2.2.2.2.2.1 hs hR⟩ rfl hn hL.1 hst (lv_room hW) d hf
/-- the constructor of java.lang.Object -/
theorem g_objInit (F : FX p s m args meth c D E B nL own cc) {idx a : Nat} (hlk : Cond.methodLink own idx Lib.objectInit ∈ lw_all) (him : Cond.instanceMethod Lib.objectInit ∈ lw_all) (hco : Cond.code Lib.objectInit ⟨#[0xb1]⟩ 1 none ∈ lw_all) (hfr : 1 ≤ R.frames) (hlo : (st.map fun v => v.category).sum + 12 ≤ R.locals) (d : decode cc pc = .ok (.invokespecial idx, 3)) (hp : pc + 3 = np) (kk : WG p l e R s m args below meth c D B nL Q S kc ns np lv st) : WG p l e R s m args below meth c D B nL Q S kc ns pc lv (.ref a :: st) := by
  subst hp
  have hts := F.2.2.2.2.1
  intro h H locs ls hs hR hV hL
  exact W.objInit F.1 F.2.1 F.2.2.2.1 (hts _ hlk) (hts _ him) (hts _ hco) rfl (by rw [F.2.2.1]; exact hL.1) rfl d hfr (by show 2 * 0 + _ + 12 ≤ _; omega) (kk h H locs ls hs hR hV hL)
/-! the ends of a call, by what the contract says -/
theorem k_RI {r : Int32} (kk : WG p l e R s m args below meth c D B nL Q S' kc ns np lv (.int r :: rest)) : ∀ v, WG p l e R s m args below meth c D B nL Q (RI r S' v) kc ns np lv (v.toList ++ rest) := by
  intro v h H locs ls hs
  obtain ⟨rfl, hs⟩ := hs
  exact kk h H locs ls hs
theorem k_RL {r : Int64} (kk : WG p l e R s m args below meth c D B nL Q S' kc ns np lv (.long r :: rest)) : ∀ v, WG p l e R s m args below meth c D B nL Q (RL r S' v) kc ns np lv (v.toList ++ rest) := by
  intro v h H locs ls hs
  obtain ⟨rfl, hs⟩ := hs
  exact kk h H locs ls hs
theorem k_RV (kk : WG p l e R s m args below meth c D B nL Q S' kc ns np lv rest) : ∀ v, WG p l e R s m args below meth c D B nL Q (RV S' v) kc ns np lv (v.toList ++ rest) := by
  intro v h H locs ls hs
  obtain ⟨rfl, hs⟩ := hs
  exact kk h H locs ls hs
theorem k_RE {U : Type} {post : Int32 → U → Prop} {S1 : Int32 → U → AH → Prop} (kk : ∀ r u, post r u → WG p l e R s m args below meth c D B nL Q (S1 r u) kc ns np lv (.int r :: rest)) : ∀ v, WG p l e R s m args below meth c D B nL Q (RE post S1 v) kc ns np lv (v.toList ++ rest) := by
  intro v h H locs ls hs
  obtain ⟨r, u, hp, rfl, hs⟩ := hs
  exact kk r u hp h H locs ls hs
theorem k_RVE {U : Type} {post : U → Prop} {S1 : U → AH → Prop} (kk : ∀ u, post u → WG p l e R s m args below meth c D B nL Q (S1 u) kc ns np lv rest) : ∀ v, WG p l e R s m args below meth c D B nL Q (RVE post S1 v) kc ns np lv (v.toList ++ rest) := by
  intro v h H locs ls hs
  obtain ⟨u, hp, rfl, hs⟩ := hs
  exact kk u hp h H locs ls hs
theorem k_RQ {U : Type} {post : Option Nat → U → Prop} {S1 : Option Nat → U → AH → Prop} (kk : ∀ r u, post r u → WG p l e R s m args below meth c D B nL Q (S1 r u) kc ns np lv (va_rf r :: rest)) : ∀ v, WG p l e R s m args below meth c D B nL Q (RQ post S1 v) kc ns np lv (v.toList ++ rest) := by
  intro v h H locs ls hs
  obtain ⟨r, u, hp, rfl, hs⟩ := hs
  exact kk r u hp h H locs ls hs
/-! returns -/
variable {T : Option Value → AH → Prop} {mc ms : Nat}
theorem g_iret (F : FX p s m args meth c D E B nL own cc) {v : Int32} {ty : FieldType} (hr : meth.sig.returnType = some ty) (hn : narrow ty (.int v) = .int v) (hk : kc ≤ mc) (hs : ns ≤ ms) (d : decode cc pc = .ok (.ireturn, 1)) (hT : ∀ h, S h → T (some (.int v)) h) : WG p l e R s m args below meth c D B nL (MQ below (QT D B T) args s mc ms (zA B)) S kc ns pc lv [.int v] := by
  intro h H locs ls hS hR hV hL
  refine W.widen hk hs ?_
  exact W.zret F.1 F.2.1 hr hn (fun t ht hW => ⟨⟨_, h, rfl, hT h hS, by rw [ht]; exact hR⟩, hV.F ht⟩) hV.2.2 d F.2.2.2.2.2.2.2.1
theorem g_lret (F : FX p s m args meth c D E B nL own cc) {v : Int64} (hr : meth.sig.returnType = some .long) (hk : kc ≤ mc) (hs : ns ≤ ms) (d : decode cc pc = .ok (.lreturn, 1)) (hT : ∀ h, S h → T (some (.long v)) h) : WG p l e R s m args below meth c D B nL (MQ below (QT D B T) args s mc ms (zA B)) S kc ns pc lv [.long v] := by
  intro h H locs ls hS hR hV hL
  refine W.widen hk hs ?_
  exact W.lret F.1 F.2.1 hr (fun t ht hW => ⟨⟨_, h, rfl, hT h hS, by rw [ht]; exact hR⟩, hV.F ht⟩) hV.2.2 d F.2.2.2.2.2.2.2.1
theorem g_vret (F : FX p s m args meth c D E B nL own cc) (hr : meth.sig.returnType = none) (hk : kc ≤ mc) (hs : ns ≤ ms) (d : decode cc pc = .ok (.return_, 1)) (hT : ∀ h, S h → T none h) : WG p l e R s m args below meth c D B nL (MQ below (QT D B T) args s mc ms (zA B)) S kc ns pc lv [] := by
  intro h H locs ls hS hR hV hL
  refine W.widen hk hs ?_
  exact W.vret F.1 F.2.1 hr (fun t ht hW => ⟨⟨_, h, rfl, hT h hS, by rw [ht]; exact hR⟩, hV.F ht⟩) hV.2.2 d F.2.2.2.2.2.2.2.1
theorem g_aret (F : FX p s m args meth c D E B nL own cc) {r : Option Nat} {rt : FieldType} (hr : meth.sig.returnType = some rt) (hrt : (∃ n, rt = .object n) ∨ ∃ t, rt = .array t) (hk : kc ≤ mc) (hs : ns ≤ ms) (d : decode cc pc = .ok (.areturn, 1)) (hT : ∀ h, S h → T (some (va_rf r)) h) : WG p l e R s m args below meth c D B nL (MQ below (QT D B T) args s mc ms (zA B)) S kc ns pc lv [va_rf r] := by
  intro h H locs ls hS hR hV hL
  refine W.widen hk hs ?_
  refine W.aret F.1 F.2.1 hr hrt ?_ (fun t ht hW => ⟨⟨_, h, rfl, hT h hS, by rw [ht]; exact hR⟩, hV.F ht⟩) hV.2.2 d F.2.2.2.2.2.2.2.1
  cases r with
  | none => exact Or.inl rfl
  | some a => exact Or.inr ⟨a, rfl⟩
end WGD
/-! truth values and natural numbers -/
noncomputable def bI (P : Prop) : Int32 := @ite Int32 P (Classical.propDecidable P) 1 0
theorem bI_t {P : Prop} (h : P) : bI P = 1 := by unfold bI; exact if_pos h
theorem bI_f {P : Prop} (h : ¬ P) : bI P = 0 := by unfold bI; exact if_neg h
theorem bI_c {P P' : Prop} (h : P ↔ P') : bI P = bI P' := by rw [propext h]
theorem bI_nar {P : Prop} : narrow .boolean (.int (bI P)) = .int (bI P) := by
  by_cases h : P
  · rw [bI_t h]; rfl
  · rw [bI_f h]; rfl
section WGN
variable {p : Program} {l : Launch} {e : Env} {R : Room} {s : State} {m : MethodId} {args : Array Value} {below : List Frame} {meth : Method} {c : Code} {D : va_G} {E : State → Prop} {B nL : Nat} {Q : State → Prop}
variable {S S' : AH → Prop} {kc ns pc np : Nat} {lv lv' : List (Option Value)} {st st' rest : List Value} {own : String} {cc : ByteArray}
theorem g_iaddN (F : FX p s m args meth c D E B nL own cc) {a b : Nat} (d : decode cc pc = .ok (.iadd, 1)) (hp : pc + 1 = np) (kk : WG p l e R s m args below meth c D B nL Q S kc ns np lv (.int (nI (a + b)) :: st)) : WG p l e R s m args below meth c D B nL Q S kc ns pc lv (.int (nI b) :: .int (nI a) :: st) := g_iadd F d hp (by rw [nI_add]; exact kk)
theorem g_isubN (F : FX p s m args meth c D E B nL own cc) {a b : Nat} (hle : b ≤ a) (d : decode cc pc = .ok (.isub, 1)) (hp : pc + 1 = np) (kk : WG p l e R s m args below meth c D B nL Q S kc ns np lv (.int (nI (a - b)) :: st)) : WG p l e R s m args below meth c D B nL Q S kc ns pc lv (.int (nI b) :: .int (nI a) :: st) := g_isub F d hp (by rw [pk_sub hle]; exact kk)
theorem g_imulN (F : FX p s m args meth c D E B nL own cc) {a b : Nat} (d : decode cc pc = .ok (.imul, 1)) (hp : pc + 1 = np) (kk : WG p l e R s m args below meth c D B nL Q S kc ns np lv (.int (nI (a * b)) :: st)) : WG p l e R s m args below meth c D B nL Q S kc ns pc lv (.int (nI b) :: .int (nI a) :: st) := g_imul F d hp (by rw [pk_mul]; exact kk)
theorem g_idivN (F : FX p s m args meth c D E B nL own cc) {a b : Nat} (ha : a < 2 ^ 31) (h0 : 0 < b) (hb : b < 2 ^ 31) (d : decode cc pc = .ok (.idiv, 1)) (hp : pc + 1 = np) (kk : WG p l e R s m args below meth c D B nL Q S kc ns np lv (.int (nI (a / b)) :: st)) : WG p l e R s m args below meth c D B nL Q S kc ns pc lv (.int (nI b) :: .int (nI a) :: st) := g_idiv F d (nI_ne0 h0 hb) hp (by rw [pk_div ha h0 hb]; exact kk)
theorem g_iremN (F : FX p s m args meth c D E B nL own cc) {a b : Nat} (ha : a < 2 ^ 31) (h0 : 0 < b) (hb : b < 2 ^ 31) (d : decode cc pc = .ok (.irem, 1)) (hp : pc + 1 = np) (kk : WG p l e R s m args below meth c D B nL Q S kc ns np lv (.int (nI (a % b)) :: st)) : WG p l e R s m args below meth c D B nL Q S kc ns pc lv (.int (nI b) :: .int (nI a) :: st) := g_irem F d (nI_ne0 h0 hb) hp (by rw [pk_rem ha h0 hb]; exact kk)
theorem g_icmp_eqN (F : FX p s m args meth c D E B nL own cc) {a b : Nat} {off : Int} {tp : Nat} (ha : a < 2 ^ 31) (hb : b < 2 ^ 31) (d : decode cc pc = .ok (.if_icmp .eq off, 3)) (ht : (pc : Int) + off = (tp : Int)) (hp : pc + 3 = np) (kt : a = b → WG p l e R s m args below meth c D B nL Q S kc ns tp lv st) (kf : ¬ a = b → WG p l e R s m args below meth c D B nL Q S kc ns np lv st) : WG p l e R s m args below meth c D B nL Q S kc ns pc lv (.int (nI b) :: .int (nI a) :: st) := g_icmp_eq F d ht hp (fun q => kt ((nI_eq ha hb).mp q)) (fun q => kf (fun z => q ((nI_eq ha hb).mpr z)))
theorem g_icmp_neN (F : FX p s m args meth c D E B nL own cc) {a b : Nat} {off : Int} {tp : Nat} (ha : a < 2 ^ 31) (hb : b < 2 ^ 31) (d : decode cc pc = .ok (.if_icmp .ne off, 3)) (ht : (pc : Int) + off = (tp : Int)) (hp : pc + 3 = np) (kt : ¬ a = b → WG p l e R s m args below meth c D B nL Q S kc ns tp lv st) (kf : a = b → WG p l e R s m args below meth c D B nL Q S kc ns np lv st) : WG p l e R s m args below meth c D B nL Q S kc ns pc lv (.int (nI b) :: .int (nI a) :: st) := g_icmp_ne F d ht hp (fun q => kt (fun z => q ((nI_eq ha hb).mpr z))) (fun q => kf ((nI_eq ha hb).mp q))
theorem g_icmp_ltN (F : FX p s m args meth c D E B nL own cc) {a b : Nat} {off : Int} {tp : Nat} (ha : a < 2 ^ 31) (hb : b < 2 ^ 31) (d : decode cc pc = .ok (.if_icmp .lt off, 3)) (ht : (pc : Int) + off = (tp : Int)) (hp : pc + 3 = np) (kt : a < b → WG p l e R s m args below meth c D B nL Q S kc ns tp lv st) (kf : ¬ a < b → WG p l e R s m args below meth c D B nL Q S kc ns np lv st) : WG p l e R s m args below meth c D B nL Q S kc ns pc lv (.int (nI b) :: .int (nI a) :: st) := g_icmp_lt F d ht hp (fun q => kt ((nI_ltI ha hb).mp q)) (fun q => kf (fun z => q ((nI_ltI ha hb).mpr z)))
theorem g_icmp_geN (F : FX p s m args meth c D E B nL own cc) {a b : Nat} {off : Int} {tp : Nat} (ha : a < 2 ^ 31) (hb : b < 2 ^ 31) (d : decode cc pc = .ok (.if_icmp .ge off, 3)) (ht : (pc : Int) + off = (tp : Int)) (hp : pc + 3 = np) (kt : b ≤ a → WG p l e R s m args below meth c D B nL Q S kc ns tp lv st) (kf : ¬ b ≤ a → WG p l e R s m args below meth c D B nL Q S kc ns np lv st) : WG p l e R s m args below meth c D B nL Q S kc ns pc lv (.int (nI b) :: .int (nI a) :: st) := g_icmp_ge F d ht hp (fun q => kt ((nI_leI hb ha).mp q)) (fun q => kf (fun z => q ((nI_leI hb ha).mpr z)))
theorem g_icmp_gtN (F : FX p s m args meth c D E B nL own cc) {a b : Nat} {off : Int} {tp : Nat} (ha : a < 2 ^ 31) (hb : b < 2 ^ 31) (d : decode cc pc = .ok (.if_icmp .gt off, 3)) (ht : (pc : Int) + off = (tp : Int)) (hp : pc + 3 = np) (kt : b < a → WG p l e R s m args below meth c D B nL Q S kc ns tp lv st) (kf : ¬ b < a → WG p l e R s m args below meth c D B nL Q S kc ns np lv st) : WG p l e R s m args below meth c D B nL Q S kc ns pc lv (.int (nI b) :: .int (nI a) :: st) := g_icmp_gt F d ht hp (fun q => kt ((nI_ltI hb ha).mp q)) (fun q => kf (fun z => q ((nI_ltI hb ha).mpr z)))
theorem g_icmp_leN (F : FX p s m args meth c D E B nL own cc) {a b : Nat} {off : Int} {tp : Nat} (ha : a < 2 ^ 31) (hb : b < 2 ^ 31) (d : decode cc pc = .ok (.if_icmp .le off, 3)) (ht : (pc : Int) + off = (tp : Int)) (hp : pc + 3 = np) (kt : a ≤ b → WG p l e R s m args below meth c D B nL Q S kc ns tp lv st) (kf : ¬ a ≤ b → WG p l e R s m args below meth c D B nL Q S kc ns np lv st) : WG p l e R s m args below meth c D B nL Q S kc ns pc lv (.int (nI b) :: .int (nI a) :: st) := g_icmp_le F d ht hp (fun q => kt ((nI_leI ha hb).mp q)) (fun q => kf (fun z => q ((nI_leI ha hb).mpr z)))
theorem g_if_eqN (F : FX p s m args meth c D E B nL own cc) {a : Nat} {off : Int} {tp : Nat} (ha : a < 2 ^ 31) (d : decode cc pc = .ok (.ifCond .eq off, 3)) (ht : (pc : Int) + off = (tp : Int)) (hp : pc + 3 = np) (kt : a = 0 → WG p l e R s m args below meth c D B nL Q S kc ns tp lv st) (kf : ¬ a = 0 → WG p l e R s m args below meth c D B nL Q S kc ns np lv st) : WG p l e R s m args below meth c D B nL Q S kc ns pc lv (.int (nI a) :: st) := g_if_eq F d ht hp (fun q => kt ((nI_eq ha (by decide)).mp (q.trans nI_0.symm))) (fun q => kf (fun z => q (by rw [z]; exact nI_0)))
theorem g_if_neN (F : FX p s m args meth c D E B nL own cc) {a : Nat} {off : Int} {tp : Nat} (ha : a < 2 ^ 31) (d : decode cc pc = .ok (.ifCond .ne off, 3)) (ht : (pc : Int) + off = (tp : Int)) (hp : pc + 3 = np) (kt : ¬ a = 0 → WG p l e R s m args below meth c D B nL Q S kc ns tp lv st) (kf : a = 0 → WG p l e R s m args below meth c D B nL Q S kc ns np lv st) : WG p l e R s m args below meth c D B nL Q S kc ns pc lv (.int (nI a) :: st) := g_if_ne F d ht hp (fun q => kt (fun z => q (by rw [z]; exact nI_0))) (fun q => kf ((nI_eq ha (by decide)).mp (q.trans nI_0.symm)))
theorem g_if_eqB (F : FX p s m args meth c D E B nL own cc) {P : Prop} {off : Int} {tp : Nat} (d : decode cc pc = .ok (.ifCond .eq off, 3)) (ht : (pc : Int) + off = (tp : Int)) (hp : pc + 3 = np) (kt : ¬ P → WG p l e R s m args below meth c D B nL Q S kc ns tp lv st) (kf : P → WG p l e R s m args below meth c D B nL Q S kc ns np lv st) : WG p l e R s m args below meth c D B nL Q S kc ns pc lv (.int (bI P) :: st) := g_if_eq F d ht hp (fun q => kt (fun z => absurd ((bI_t z).symm.trans q) (by decide))) (fun q => kf (Classical.byContradiction fun z => q (bI_f z)))
theorem g_if_neB (F : FX p s m args meth c D E B nL own cc) {P : Prop} {off : Int} {tp : Nat} (d : decode cc pc = .ok (.ifCond .ne off, 3)) (ht : (pc : Int) + off = (tp : Int)) (hp : pc + 3 = np) (kt : P → WG p l e R s m args below meth c D B nL Q S kc ns tp lv st) (kf : ¬ P → WG p l e R s m args below meth c D B nL Q S kc ns np lv st) : WG p l e R s m args below meth c D B nL Q S kc ns pc lv (.int (bI P) :: st) := g_if_ne F d ht hp (fun q => kt (Classical.byContradiction fun z => q (bI_f z))) (fun q => kf (fun z => absurd ((bI_t z).symm.trans q) (by decide)))
theorem g_if_ltN (F : FX p s m args meth c D E B nL own cc) {a : Nat} {off : Int} (ha : a < 2 ^ 31) (d : decode cc pc = .ok (.ifCond .lt off, 3)) {tp : Nat} (ht : (pc : Int) + off = (tp : Int)) (hp : pc + 3 = np) (kk : WG p l e R s m args below meth c D B nL Q S kc ns np lv st) : WG p l e R s m args below meth c D B nL Q S kc ns pc lv (.int (nI a) :: st) := g_if_lt F d ht hp (fun q => absurd q (nI_pos ha)) (fun _ => kk)
theorem g_if_geN (F : FX p s m args meth c D E B nL own cc) {a : Nat} {off : Int} (ha : a < 2 ^ 31) (d : decode cc pc = .ok (.ifCond .ge off, 3)) {tp : Nat} (ht : (pc : Int) + off = (tp : Int)) (hp : pc + 3 = np) (kk : WG p l e R s m args below meth c D B nL Q S kc ns tp lv st) : WG p l e R s m args below meth c D B nL Q S kc ns pc lv (.int (nI a) :: st) := g_if_ge F d ht hp (fun _ => kk) (fun q => absurd (nI_pos' ha) q)
end WGN
