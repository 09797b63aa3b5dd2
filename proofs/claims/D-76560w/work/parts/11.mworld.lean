/-! M: the reference's object, its numbers and its arrays -/
set_option maxRecDepth 100000
/-- numbers by their fields' places, arrays of ints by theirs, the rows' longs -/
abbrev MSt : Type := (Nat → Nat) × (Nat → Nat → Int32) × (Nat → Int64)
def mIA : Nat → Bool := fun k => match k with
  | 1 => true
  | 3 => true
  | 4 => true
  | 5 => true
  | 8 => true
  | 11 => true
  | 12 => true
  | 13 => true
  | 14 => true
  | 19 => true
  | 20 => true
  | 21 => true
  | 22 => true
  | 23 => true
  | 24 => true
  | 25 => true
  | 29 => true
  | 30 => true
  | 33 => true
  | 35 => true
  | 37 => true
  | 38 => true
  | 39 => true
  | 41 => true
  | _ => false
def mlen : Nat → Nat := fun k => match k with
  | 1 => 8
  | 3 => 75
  | 4 => 15
  | 5 => 15
  | 8 => 120
  | 11 => 60
  | 12 => 60
  | 13 => 60
  | 14 => 200
  | 19 => 61
  | 20 => 61
  | 21 => 61
  | 22 => 200
  | 23 => 200
  | 24 => 6
  | 25 => 5
  | 29 => 23
  | 30 => 5
  | 33 => 160
  | 35 => 50
  | 37 => 24
  | 38 => 6
  | 39 => 6
  | 40 => 360
  | 41 => 15
  | _ => 0
def mfs (ad : Nat → Nat) (N : Nat → Nat) : List Value := [.int (nI (N 0)), .ref (ad 1), .int (nI (N 2)), .ref (ad 3), .ref (ad 4), .ref (ad 5), .int (nI (N 6)), .int (nI (N 7)), .ref (ad 8), .int (nI (N 9)), .int (nI (N 10)), .ref (ad 11), .ref (ad 12), .ref (ad 13), .ref (ad 14), .int (nI (N 15)), .int (nI (N 16)), .int (nI (N 17)), .int (nI (N 18)), .ref (ad 19), .ref (ad 20), .ref (ad 21), .ref (ad 22), .ref (ad 23), .ref (ad 24), .ref (ad 25), .int (nI (N 26)), .int (nI (N 27)), .int (nI (N 28)), .ref (ad 29), .ref (ad 30), .int (nI (N 31)), .int (nI (N 32)), .ref (ad 33), .int (nI (N 34)), .ref (ad 35), .int (nI (N 36)), .ref (ad 37), .ref (ad 38), .ref (ad 39), .ref (ad 40), .ref (ad 41)]
def MW (D : va_G) (ad : Nat → Nat) (σ : MSt) (h : AH) : Prop := h (ad 0) = some (.inr (2, mfs ad σ.1)) ∧ (∀ k, mIA k = true → h (ad k) = some (.inl (D.1 100, mlen k, .inl (σ.2.1 k)))) ∧ h (ad 40) = some (.inl (D.1 102, 360, .inr (.inl σ.2.2)))
/-- the reference's world: its object and arrays at ad 0 .. ad 41, all else as in h0 -/
def MS (D : va_G) (ad : Nat → Nat) (h0 : AH) (σ : MSt) (h : AH) : Prop := MW D ad σ h ∧ (∀ i j, i < 42 → j < 42 → ad i = ad j → i = j) ∧ ∀ a, (∀ k, k < 42 → a ≠ ad k) → h a = h0 a
def sN (σ : MSt) (k n : Nat) : MSt := (va_up σ.1 k n, σ.2)
def up2 (A : Nat → Nat → Int32) (k i : Nat) (v : Int32) : Nat → Nat → Int32 := va_up A k (va_up (A k) i v)
def sA (σ : MSt) (k i : Nat) (v : Int32) : MSt := (σ.1, up2 σ.2.1 k i v, σ.2.2)
def sR (σ : MSt) (i : Nat) (v : Int64) : MSt := (σ.1, σ.2.1, va_up σ.2.2 i v)
theorem up2_at (A : Nat → Nat → Int32) (k i : Nat) (v : Int32) (k' i' : Nat) : up2 A k i v k' i' = if k' = k ∧ i' = i then v else A k' i' := by
  unfold up2 va_up
  by_cases h1 : k' = k
  · subst h1
    by_cases h2 : i' = i
    · simp [h2]
    · simp [h2]
  · simp [h1]
theorem up2_k (A : Nat → Nat → Int32) (k i : Nat) (v : Int32) : up2 A k i v k = va_up (A k) i v := va_up_self _ _ _
theorem up2_n (A : Nat → Nat → Int32) {k k' : Nat} (i : Nat) (v : Int32) (z : k' ≠ k) : up2 A k i v k' = A k' := va_up_ne _ _ z
theorem sN_1 (σ : MSt) (k n k' : Nat) : (sN σ k n).1 k' = if k' = k then n else σ.1 k' := rfl
theorem sN_2 (σ : MSt) (k n : Nat) : (sN σ k n).2 = σ.2 := rfl
theorem sA_1 (σ : MSt) (k i : Nat) (v : Int32) : (sA σ k i v).1 = σ.1 := rfl
theorem sA_2 (σ : MSt) (k i : Nat) (v : Int32) (k' i' : Nat) : (sA σ k i v).2.1 k' i' = if k' = k ∧ i' = i then v else σ.2.1 k' i' := up2_at _ _ _ _ _ _
theorem sA_3 (σ : MSt) (k i : Nat) (v : Int32) : (sA σ k i v).2.2 = σ.2.2 := rfl
theorem sR_1 (σ : MSt) (i : Nat) (v : Int64) : (sR σ i v).1 = σ.1 := rfl
theorem sR_2 (σ : MSt) (i : Nat) (v : Int64) : (sR σ i v).2.1 = σ.2.1 := rfl
theorem sR_3 (σ : MSt) (i : Nat) (v : Int64) (i' : Nat) : (sR σ i v).2.2 i' = if i' = i then v else σ.2.2 i' := rfl
theorem TX2_c (k : Nat) : (TX2 k).1 = RX2 := by unfold TX2; split <;> rfl
theorem mIA_lt {k : Nat} (h : mIA k = true) : k < 42 := by
  rcases Nat.lt_or_ge k 42 with q | q
  · exact q
  · exfalso
    unfold mIA at h
    split at h <;> first | omega | cases h
theorem mIA_0 {k : Nat} (h : mIA k = true) : k ≠ 0 ∧ k ≠ 40 := by
  constructor
  · rintro rfl; cases h
  · rintro rfl; cases h
/-- the arrays' scratch: the stack (23) and the names (24) -/
def scr (σ : MSt) (nm sk : Nat → Int32) : MSt := (σ.1, va_up (va_up σ.2.1 24 nm) 23 sk, σ.2.2)
def MH (D : va_G) (ad : Nat → Nat) (h0 : AH) (σ : MSt) (h : AH) : Prop := ∃ nm sk : Nat → Int32, MS D ad h0 (scr σ nm sk) h
theorem MS.set {D : va_G} {ad : Nat → Nat} {h0 h : AH} {σ : MSt} (hs : MS D ad h0 σ h) {k : Nat} (hk : k < 42) {e : va_E} {σ' : MSt} (hW : MW D ad σ' (hup h (ad k) e)) : MS D ad h0 σ' (hup h (ad k) e) := ⟨hW, hs.2.1, fun a ha => by rw [hup_ne (ha k hk)]; exact hs.2.2 a ha⟩
theorem mset_0 (ad : Nat → Nat) (N : Nat → Nat) (n : Nat) : (mfs ad N).set 0 (.int (nI n)) = mfs ad (va_up N 0 n) := rfl
theorem mset_2 (ad : Nat → Nat) (N : Nat → Nat) (n : Nat) : (mfs ad N).set 2 (.int (nI n)) = mfs ad (va_up N 2 n) := rfl
theorem mset_6 (ad : Nat → Nat) (N : Nat → Nat) (n : Nat) : (mfs ad N).set 6 (.int (nI n)) = mfs ad (va_up N 6 n) := rfl
theorem mset_7 (ad : Nat → Nat) (N : Nat → Nat) (n : Nat) : (mfs ad N).set 7 (.int (nI n)) = mfs ad (va_up N 7 n) := rfl
theorem mset_9 (ad : Nat → Nat) (N : Nat → Nat) (n : Nat) : (mfs ad N).set 9 (.int (nI n)) = mfs ad (va_up N 9 n) := rfl
theorem mset_10 (ad : Nat → Nat) (N : Nat → Nat) (n : Nat) : (mfs ad N).set 10 (.int (nI n)) = mfs ad (va_up N 10 n) := rfl
theorem mset_15 (ad : Nat → Nat) (N : Nat → Nat) (n : Nat) : (mfs ad N).set 15 (.int (nI n)) = mfs ad (va_up N 15 n) := rfl
theorem mset_16 (ad : Nat → Nat) (N : Nat → Nat) (n : Nat) : (mfs ad N).set 16 (.int (nI n)) = mfs ad (va_up N 16 n) := rfl
theorem mset_17 (ad : Nat → Nat) (N : Nat → Nat) (n : Nat) : (mfs ad N).set 17 (.int (nI n)) = mfs ad (va_up N 17 n) := rfl
theorem mset_18 (ad : Nat → Nat) (N : Nat → Nat) (n : Nat) : (mfs ad N).set 18 (.int (nI n)) = mfs ad (va_up N 18 n) := rfl
theorem mset_26 (ad : Nat → Nat) (N : Nat → Nat) (n : Nat) : (mfs ad N).set 26 (.int (nI n)) = mfs ad (va_up N 26 n) := rfl
theorem mset_27 (ad : Nat → Nat) (N : Nat → Nat) (n : Nat) : (mfs ad N).set 27 (.int (nI n)) = mfs ad (va_up N 27 n) := rfl
theorem mset_28 (ad : Nat → Nat) (N : Nat → Nat) (n : Nat) : (mfs ad N).set 28 (.int (nI n)) = mfs ad (va_up N 28 n) := rfl
theorem mset_31 (ad : Nat → Nat) (N : Nat → Nat) (n : Nat) : (mfs ad N).set 31 (.int (nI n)) = mfs ad (va_up N 31 n) := rfl
theorem mset_32 (ad : Nat → Nat) (N : Nat → Nat) (n : Nat) : (mfs ad N).set 32 (.int (nI n)) = mfs ad (va_up N 32 n) := rfl
theorem mset_34 (ad : Nat → Nat) (N : Nat → Nat) (n : Nat) : (mfs ad N).set 34 (.int (nI n)) = mfs ad (va_up N 34 n) := rfl
theorem mset_36 (ad : Nat → Nat) (N : Nat → Nat) (n : Nat) : (mfs ad N).set 36 (.int (nI n)) = mfs ad (va_up N 36 n) := rfl
section MWG
variable {p : Program} {l : Launch} {e : Env} {R : Room} {s : State} {m : MethodId} {args : Array Value} {below : List Frame} {meth : Method} {c : Code} {D : va_G} {E : State → Prop} {B nL : Nat} {Q : State → Prop}
variable {kc ns pc np : Nat} {lv : List (Option Value)} {st : List Value} {cc : ByteArray} {ad : Nat → Nat} {h0 : AH} {σ : MSt}
theorem m_get (F : FX p s m args meth c D E B nL RX2 cc) {index k : Nat} {v : Value} (hk : k < 42) (hv : (mfs ad σ.1)[k]? = some v) (hlink : Cond.fieldLink RX2 index RX2 (TX2 k).2.1 (TX2 k).2.2.1 ∈ lw_all) (d : decode cc pc = .ok (.getfield index, 3)) (hp : pc + 3 = np) (kk : WG p l e R s m args below meth c D B nL Q (MS D ad h0 σ) kc ns np lv (v :: st)) : WG p l e R s m args below meth c D B nL Q (MS D ad h0 σ) kc ns pc lv (.ref (ad 0) :: st) := g_get F in_X2 rfl k hk hlink (fun x hx => by rw [TX2_c] at hx; exact hx) (fun h hs => ⟨_, hs.1.1, hv⟩) d hp kk
theorem h_get (F : FX p s m args meth c D E B nL RX2 cc) {index k : Nat} {v : Value} (hk : k < 42) (hv : (mfs ad σ.1)[k]? = some v) (hlink : Cond.fieldLink RX2 index RX2 (TX2 k).2.1 (TX2 k).2.2.1 ∈ lw_all) (d : decode cc pc = .ok (.getfield index, 3)) (hp : pc + 3 = np) (kk : WG p l e R s m args below meth c D B nL Q (MH D ad h0 σ) kc ns np lv (v :: st)) : WG p l e R s m args below meth c D B nL Q (MH D ad h0 σ) kc ns pc lv (.ref (ad 0) :: st) := g_get F in_X2 rfl k hk hlink (fun x hx => by rw [TX2_c] at hx; exact hx) (fun h hs => by obtain ⟨nm, sk, hs⟩ := hs; exact ⟨_, hs.1.1, hv⟩) d hp kk
theorem m_put (F : FX p s m args meth c D E B nL RX2 cc) {index k n : Nat} {x : Int32} {ty : FieldType} (e0 : x = nI n) (hk : k < 42) (hset : (mfs ad σ.1).set k (.int (nI n)) = mfs ad (va_up σ.1 k n)) (hfin : (TX2 k).2.2.2 = false) (hd : parseFieldDescriptor (TX2 k).2.2.1 = some ty) (hn : narrow ty (.int (nI n)) = .int (nI n)) (hfit : fits ty (.int (nI n)) = true) (hlink : Cond.fieldLink RX2 index RX2 (TX2 k).2.1 (TX2 k).2.2.1 ∈ lw_all) (d : decode cc pc = .ok (.putfield index, 3)) (hp : pc + 3 = np) (kk : WG p l e R s m args below meth c D B nL Q (MS D ad h0 (sN σ k n)) kc ns np lv st) : WG p l e R s m args below meth c D B nL Q (MS D ad h0 σ) kc ns pc lv (.int x :: .ref (ad 0) :: st) := by
  subst e0
  exact g_put F in_X2 tyX2 tyX2_ok nmX2 rfl k hk hlink (fun x hx => by rw [TX2_c] at hx; exact hx) hfin hd hn hfit (fun h hs => ⟨_, hs.1.1, hk, (by rw [hset]; exact hs.set (k := 0) (by decide) ⟨hup_self _ _ _, fun k' q => by rw [hup_ne (fun z => (mIA_0 q).1 (hs.2.1 k' 0 (mIA_lt q) (by decide) z))]; exact hs.1.2.1 k' q, by rw [hup_ne (fun z => absurd (hs.2.1 40 0 (by decide) (by decide) z) (by decide))]; exact hs.1.2.2⟩)⟩) d hp kk
theorem h_put (F : FX p s m args meth c D E B nL RX2 cc) {index k n : Nat} {x : Int32} {ty : FieldType} (e0 : x = nI n) (hk : k < 42) (hset : (mfs ad σ.1).set k (.int (nI n)) = mfs ad (va_up σ.1 k n)) (hfin : (TX2 k).2.2.2 = false) (hd : parseFieldDescriptor (TX2 k).2.2.1 = some ty) (hn : narrow ty (.int (nI n)) = .int (nI n)) (hfit : fits ty (.int (nI n)) = true) (hlink : Cond.fieldLink RX2 index RX2 (TX2 k).2.1 (TX2 k).2.2.1 ∈ lw_all) (d : decode cc pc = .ok (.putfield index, 3)) (hp : pc + 3 = np) (kk : WG p l e R s m args below meth c D B nL Q (MH D ad h0 (sN σ k n)) kc ns np lv st) : WG p l e R s m args below meth c D B nL Q (MH D ad h0 σ) kc ns pc lv (.int x :: .ref (ad 0) :: st) := by
  subst e0
  exact g_put F in_X2 tyX2 tyX2_ok nmX2 rfl k hk hlink (fun x hx => by rw [TX2_c] at hx; exact hx) hfin hd hn hfit (fun h hs => by
    obtain ⟨nm, sk, hs⟩ := hs
    have hset : (mfs ad (scr σ nm sk).1).set k (.int (nI n)) = mfs ad (va_up σ.1 k n) := hset
    refine ⟨_, hs.1.1, hk, nm, sk, ?_⟩
    rw [hset]
    exact hs.set (k := 0) (σ' := scr (sN σ k n) nm sk) (by decide) ⟨hup_self _ _ _, fun k' q => by rw [hup_ne (fun z => (mIA_0 q).1 (hs.2.1 k' 0 (mIA_lt q) (by decide) z))]; exact hs.1.2.1 k' q, by rw [hup_ne (fun z => absurd (hs.2.1 40 0 (by decide) (by decide) z) (by decide))]; exact hs.1.2.2⟩) d hp kk
theorem m_in {x : Int32} {i L : Nat} (hLb : L < 2 ^ 31) (hi : i < L) (e0 : x = nI i) : vp_in x L ∧ x.toNatClampNeg = i := by
  subst e0
  exact ⟨vp_in_nI hi hLb, nI_clamp (Nat.lt_trans hi hLb)⟩
theorem scr_ne {σ : MSt} {nm sk : Nat → Int32} {k : Nat} (h1 : k ≠ 23) (h2 : k ≠ 24) : (scr σ nm sk).2.1 k = σ.2.1 k := by
  show va_up (va_up σ.2.1 24 nm) 23 sk k = _
  rw [va_up_ne _ _ h1, va_up_ne _ _ h2]
theorem m_ald (F : FX p s m args meth c D E B nL RX2 cc) {k i L : Nat} {x : Int32} (hk : mIA k = true) (hL : mlen k = L) (hLb : L < 2 ^ 31) (hi : i < L) (e0 : x = nI i) {v : Int32} (hv : σ.2.1 k i = v) (d : decode cc pc = .ok (.iaload, 1)) (hp : pc + 1 = np) (kk : WG p l e R s m args below meth c D B nL Q (MS D ad h0 σ) kc ns np lv (.int v :: st)) : WG p l e R s m args below meth c D B nL Q (MS D ad h0 σ) kc ns pc lv (.int x :: .ref (ad k) :: st) := by
  subst hv
  exact g_iald F (fun h hs => ⟨_, _, hs.1.2.1 k hk, by rw [hL]; exact (m_in hLb hi e0).1, by rw [(m_in hLb hi e0).2]⟩) d hp kk
theorem h_ald (F : FX p s m args meth c D E B nL RX2 cc) {k i L : Nat} {x : Int32} (hk : mIA k = true) (hL : mlen k = L) (hLb : L < 2 ^ 31) (hi : i < L) (e0 : x = nI i) {v : Int32} (hv : σ.2.1 k i = v) (d : decode cc pc = .ok (.iaload, 1)) (h23 : k ≠ 23) (h24 : k ≠ 24) (hp : pc + 1 = np) (kk : WG p l e R s m args below meth c D B nL Q (MH D ad h0 σ) kc ns np lv (.int v :: st)) : WG p l e R s m args below meth c D B nL Q (MH D ad h0 σ) kc ns pc lv (.int x :: .ref (ad k) :: st) := by
  subst hv
  exact g_iald F (fun h hs => by obtain ⟨nm, sk, hs⟩ := hs; exact ⟨_, _, hs.1.2.1 k hk, by rw [hL]; exact (m_in hLb hi e0).1, by rw [(m_in hLb hi e0).2, scr_ne h23 h24]⟩) d hp kk
theorem m_ast (F : FX p s m args meth c D E B nL RX2 cc) {k i L : Nat} {x : Int32} (hk : mIA k = true) (hL : mlen k = L) (hLb : L < 2 ^ 31) (hi : i < L) (e0 : x = nI i) {v : Int32} (d : decode cc pc = .ok (.iastore, 1)) (hp : pc + 1 = np) (kk : WG p l e R s m args below meth c D B nL Q (MS D ad h0 (sA σ k i v)) kc ns np lv st) : WG p l e R s m args below meth c D B nL Q (MS D ad h0 σ) kc ns pc lv (.int v :: .int x :: .ref (ad k) :: st) := g_iast F (fun h hs => ⟨_, _, hs.1.2.1 k hk, by rw [hL]; exact (m_in hLb hi e0).1, by
    rw [(m_in hLb hi e0).2]
    exact hs.set (k := k) (mIA_lt hk) ⟨by rw [hup_ne (fun z => (mIA_0 hk).1 (hs.2.1 0 k (by decide) (mIA_lt hk) z).symm)]; exact hs.1.1, fun k' q => by
      by_cases z : k' = k
      · subst z
        rw [hup_self]
        rw [show (sA σ k' i v).2.1 k' = va_up (σ.2.1 k') i v from up2_k _ _ _ _]
      · rw [hup_ne (fun z2 => z (hs.2.1 k' k (mIA_lt q) (mIA_lt hk) z2)), hs.1.2.1 k' q]
        rw [show (sA σ k i v).2.1 k' = σ.2.1 k' from up2_n _ _ _ z], by rw [hup_ne (fun z => (mIA_0 hk).2 (hs.2.1 40 k (by decide) (mIA_lt hk) z).symm)]; exact hs.1.2.2⟩⟩) d hp kk
theorem h_ast (F : FX p s m args meth c D E B nL RX2 cc) {k i L : Nat} {x : Int32} (hk : mIA k = true) (hL : mlen k = L) (hLb : L < 2 ^ 31) (hi : i < L) (e0 : x = nI i) {v : Int32} (d : decode cc pc = .ok (.iastore, 1)) (h23 : k ≠ 23) (h24 : k ≠ 24) (hp : pc + 1 = np) (kk : WG p l e R s m args below meth c D B nL Q (MH D ad h0 (sA σ k i v)) kc ns np lv st) : WG p l e R s m args below meth c D B nL Q (MH D ad h0 σ) kc ns pc lv (.int v :: .int x :: .ref (ad k) :: st) := g_iast F (fun h hs => by
    obtain ⟨nm, sk, hs⟩ := hs
    refine ⟨_, _, hs.1.2.1 k hk, by rw [hL]; exact (m_in hLb hi e0).1, nm, sk, ?_⟩
    rw [(m_in hLb hi e0).2, scr_ne h23 h24]
    have key : (scr (sA σ k i v) nm sk).2.1 k = va_up (σ.2.1 k) i v := by rw [scr_ne h23 h24]; show up2 σ.2.1 k i v k = _; unfold up2; rw [va_up_self]
    have key2 : ∀ k', k' ≠ k → (scr (sA σ k i v) nm sk).2.1 k' = (scr σ nm sk).2.1 k' := by
      intro k' z
      show va_up (va_up (up2 σ.2.1 k i v) 24 nm) 23 sk k' = va_up (va_up σ.2.1 24 nm) 23 sk k'
      unfold va_up up2 va_up
      simp [z]
    exact hs.set (k := k) (mIA_lt hk) ⟨by rw [hup_ne (fun z => (mIA_0 hk).1 (hs.2.1 0 k (by decide) (mIA_lt hk) z).symm)]; exact hs.1.1, fun k' q => by
      by_cases z : k' = k
      · subst z
        rw [hup_self, key]
      · rw [hup_ne (fun z2 => z (hs.2.1 k' k (mIA_lt q) (mIA_lt hk) z2)), hs.1.2.1 k' q, key2 k' z], by rw [hup_ne (fun z => (mIA_0 hk).2 (hs.2.1 40 k (by decide) (mIA_lt hk) z).symm)]; exact hs.1.2.2⟩) d hp kk
theorem m_lald (F : FX p s m args meth c D E B nL RX2 cc) {i : Nat} {x : Int32} (hi : i < 360) (e0 : x = nI i) {v : Int64} (hv : σ.2.2 i = v) (d : decode cc pc = .ok (.laload, 1)) (hp : pc + 1 = np) (kk : WG p l e R s m args below meth c D B nL Q (MS D ad h0 σ) kc ns np lv (.long v :: st)) : WG p l e R s m args below meth c D B nL Q (MS D ad h0 σ) kc ns pc lv (.int x :: .ref (ad 40) :: st) := by
  subst hv
  exact g_lald F (fun h hs => ⟨_, _, hs.1.2.2, (m_in (by decide) hi e0).1, by rw [(m_in (by decide) hi e0).2]⟩) d hp kk
theorem h_lald (F : FX p s m args meth c D E B nL RX2 cc) {i : Nat} {x : Int32} (hi : i < 360) (e0 : x = nI i) {v : Int64} (hv : σ.2.2 i = v) (d : decode cc pc = .ok (.laload, 1)) (hp : pc + 1 = np) (kk : WG p l e R s m args below meth c D B nL Q (MH D ad h0 σ) kc ns np lv (.long v :: st)) : WG p l e R s m args below meth c D B nL Q (MH D ad h0 σ) kc ns pc lv (.int x :: .ref (ad 40) :: st) := by
  subst hv
  exact g_lald F (fun h hs => by obtain ⟨nm, sk, hs⟩ := hs; exact ⟨_, _, hs.1.2.2, (m_in (by decide) hi e0).1, by rw [(m_in (by decide) hi e0).2]; rfl⟩) d hp kk
theorem m_last (F : FX p s m args meth c D E B nL RX2 cc) {i : Nat} {x : Int32} (hi : i < 360) (e0 : x = nI i) {v : Int64} (d : decode cc pc = .ok (.lastore, 1)) (hp : pc + 1 = np) (kk : WG p l e R s m args below meth c D B nL Q (MS D ad h0 (sR σ i v)) kc ns np lv st) : WG p l e R s m args below meth c D B nL Q (MS D ad h0 σ) kc ns pc lv (.long v :: .int x :: .ref (ad 40) :: st) := g_last F (fun h hs => ⟨_, _, hs.1.2.2, (m_in (by decide) hi e0).1, by
    rw [(m_in (by decide) hi e0).2]
    exact hs.set (k := 40) (by decide) ⟨by rw [hup_ne (fun z => absurd (hs.2.1 0 40 (by decide) (by decide) z) (by decide))]; exact hs.1.1, fun k' q => by rw [hup_ne (fun z => (mIA_0 q).2 (hs.2.1 k' 40 (mIA_lt q) (by decide) z))]; exact hs.1.2.1 k' q, hup_self _ _ _⟩⟩) d hp kk
theorem h_last (F : FX p s m args meth c D E B nL RX2 cc) {i : Nat} {x : Int32} (hi : i < 360) (e0 : x = nI i) {v : Int64} (d : decode cc pc = .ok (.lastore, 1)) (hp : pc + 1 = np) (kk : WG p l e R s m args below meth c D B nL Q (MH D ad h0 (sR σ i v)) kc ns np lv st) : WG p l e R s m args below meth c D B nL Q (MH D ad h0 σ) kc ns pc lv (.long v :: .int x :: .ref (ad 40) :: st) := g_last F (fun h hs => by
    obtain ⟨nm, sk, hs⟩ := hs
    refine ⟨_, _, hs.1.2.2, (m_in (by decide) hi e0).1, nm, sk, ?_⟩
    rw [(m_in (by decide) hi e0).2]
    exact hs.set (k := 40) (σ' := scr (sR σ i v) nm sk) (by decide) ⟨by rw [hup_ne (fun z => absurd (hs.2.1 0 40 (by decide) (by decide) z) (by decide))]; exact hs.1.1, fun k' q => by rw [hup_ne (fun z => (mIA_0 q).2 (hs.2.1 k' 40 (mIA_lt q) (by decide) z))]; exact hs.1.2.1 k' q, hup_self _ _ _⟩) d hp kk
theorem MH.obj {h : AH} (hs : MH D ad h0 σ h) : ∃ fs, h (ad 0) = some (.inr (2, fs)) := by obtain ⟨nm, sk, hs⟩ := hs; exact ⟨_, hs.1.1⟩
theorem MS.obj {h : AH} (hs : MS D ad h0 σ h) : ∃ fs, h (ad 0) = some (.inr (2, fs)) := ⟨_, hs.1.1⟩
end MWG
