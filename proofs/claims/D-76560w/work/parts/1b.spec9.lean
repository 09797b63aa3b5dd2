/-! SPEC 9: what bodies do: numbers told and ways run -/
set_option maxRecDepth 100000
theorem hasRoom_mono {s : State} {pl : Platform} {r r' : Room} (h1 : r.frames ≤ r'.frames) (h2 : r.cells ≤ r'.cells) (h3 : r.slots ≤ r'.slots) (h4 : r.locals ≤ r'.locals) (h : s.hasRoom pl r' = true) : s.hasRoom pl r = true := by
  simp only [State.hasRoom, Bool.and_eq_true, decide_eq_true_eq] at h ⊢
  obtain ⟨⟨⟨⟨a1, a2, a3, a4, a5, a6⟩, a7⟩, a8⟩, a9⟩ := h
  exact ⟨⟨⟨⟨by omega, by omega, by omega, by omega, by omega, a6⟩, by omega⟩, by omega⟩, a9⟩
theorem appl_up {ws : List Cond} {y : MethodName} {pl : Platform} {s : State} {m : MethodId} {args : Array Value} {below : List Frame} {r r' : Room} (hf : s.frames = .invoking m args :: below) (h1 : r.frames ≤ r'.frames) (h2 : r.cells ≤ r'.cells) (h3 : r.slots ≤ r'.slots) (h4 : r.locals ≤ r'.locals) (h : (headSpec ws r').appliesLoose y pl s = true) : (headSpec ws r).appliesLoose y pl s = true := by
  rw [Spec.appliesLoose_iff hf] at h ⊢
  exact ⟨h.1, h.2.1, h.2.2.1, h.2.2.2.1, h.2.2.2.2.1, h.2.2.2.2.2.1, hasRoom_mono (r := r) (r' := r') h1 h2 h3 h4 h.2.2.2.2.2.2.1, h.2.2.2.2.2.2.2⟩
theorem Ct.up {l : Launch} {D : va_G} {E : State → Prop} {B : Nat} {y : MethodName} {cc : ByteArray} {nL : Nat} {ret : Option FieldType} {fr lo mc ms : Nat} {As : List Value} {S : AH → Prop} {T : Option Value → AH → Prop} {fr' lo' : Nat} (hC : Ct l D E B y cc nL ret fr lo mc ms As S T) (h1 : fr ≤ fr') (h2 : lo ≤ lo') : Ct l D E B y cc nL ret fr' lo' mc ms As S T := by
  intro p e ha hc hk s m args below hf hap hP hK
  exact hC p e ha hc hk s m args below hf (appl_up (r := ({ frames := fr, cells := mc, slots := ms, locals := lo } : Room)) (r' := ({ frames := fr', cells := mc, slots := ms, locals := lo' } : Room)) hf h1 (Nat.le_refl _) (Nat.le_refl _) h2 hap) hP hK
def logF : (Nat → Int32) → Nat → List Nat → (Nat → Int32)
  | f, _, [] => f
  | f, n, c :: L => logF (if n < 24 then va_up f n (nI c) else f) (n + 1) L
theorem logF_app : ∀ (L M : List Nat) (f : Nat → Int32) (n : Nat), logF f n (L ++ M) = logF (logF f n L) (n + L.length) M
  | [], M, f, n => rfl
  | c :: L, M, f, n => by
    show logF _ (n + 1) (L ++ M) = logF (logF _ (n + 1) L) (n + (L.length + 1)) M
    rw [logF_app L M, show n + (L.length + 1) = n + 1 + L.length by omega]
def logS (σ : MSt) (L : List Nat) : MSt := sN (cpS σ 37 (logF (σ.2.1 37) (σ.1 36) L)) 36 (σ.1 36 + L.length)
theorem logS_36 (σ : MSt) (L : List Nat) : (logS σ L).1 36 = σ.1 36 + L.length := by
  show va_up σ.1 36 _ 36 = _
  exact va_up_self _ _ _
theorem logS_37 (σ : MSt) (L : List Nat) : (logS σ L).2.1 37 = logF (σ.2.1 37) (σ.1 36) L := by
  show va_up σ.2.1 37 _ 37 = _
  exact va_up_self _ _ _
theorem up_up {α : Type} (f : Nat → α) (k : Nat) (x y : α) : va_up (va_up f k x) k y = va_up f k y := by
  funext j
  by_cases h : j = k
  · rw [h, va_up_self, va_up_self]
  · rw [va_up_ne _ _ h, va_up_ne _ _ h, va_up_ne _ _ h]
theorem logS_app (σ : MSt) (L M : List Nat) : logS (logS σ L) M = logS σ (L ++ M) := by
  have e : ∀ σ' : MSt, σ' = logS σ L → logS σ' M = logS σ (L ++ M) := by
    intro σ' h
    have h1 : σ'.1 = va_up σ.1 36 (σ.1 36 + L.length) := by rw [h]; rfl
    have h2 : σ'.2.1 = va_up σ.2.1 37 (logF (σ.2.1 37) (σ.1 36) L) := by rw [h]; rfl
    have h3 : σ'.2.2 = σ.2.2 := by rw [h]; rfl
    show (va_up σ'.1 36 (σ'.1 36 + M.length), va_up σ'.2.1 37 (logF (σ'.2.1 37) (σ'.1 36) M), σ'.2.2) = (va_up σ.1 36 (σ.1 36 + (L ++ M).length), va_up σ.2.1 37 (logF (σ.2.1 37) (σ.1 36) (L ++ M)), σ.2.2)
    rw [h1, h2, h3, up_up, up_up, va_up_self, va_up_self, List.length_append, logF_app, Nat.add_assoc]
  exact e _ rfl
theorem log1_t {σ : MSt} {c : Nat} (h : σ.1 36 < 24) : sN (sA σ 37 (σ.1 36) (nI c)) 36 (σ.1 36 + 1) = logS σ [c] := by
  show _ = sN (cpS σ 37 (if σ.1 36 < 24 then va_up (σ.2.1 37) (σ.1 36) (nI c) else σ.2.1 37)) 36 (σ.1 36 + 1)
  rw [if_pos h, cpS_sA, cpS_id]
theorem log1_f {σ : MSt} {c : Nat} (h : ¬ σ.1 36 < 24) : sN σ 36 (σ.1 36 + 1) = logS σ [c] := by
  show _ = sN (cpS σ 37 (if σ.1 36 < 24 then va_up (σ.2.1 37) (σ.1 36) (nI c) else σ.2.1 37)) 36 (σ.1 36 + 1)
  rw [if_neg h, cpS_id]
def swL : Nat → List Nat
  | 1 => [20, 1]
  | 4 => [20, 1]
  | 7 => [20, 1]
  | 6 => [70, 1]
  | _ => [1]
def swV : Nat → Nat → Int32 → Int32
  | 1, b, x => x + nI b + nI 3
  | 4, b, x => x + nI b + nI 3
  | 7, b, x => x + nI b + nI 3
  | 6, b, x => (x + nI b) * nI 2
  | _, b, x => x + nI b
def faL (kd : Nat) : Nat → List Nat
  | 3 => [40, 11]
  | 5 => [40, 11]
  | 4 => 50 :: 11 :: swL kd
  | 7 => 50 :: 11 :: swL kd
  | _ => [11]
def faV (kd : Nat) : Nat → Nat → Int32 → Int32
  | 3, b, x => (x ^^^ nI b) * nI 3
  | 5, b, x => (x ^^^ nI b) * nI 3
  | 4, b, x => (x ^^^ nI b) - swV kd b (nI 2)
  | 7, b, x => (x ^^^ nI b) - swV kd b (nI 2)
  | _, b, x => x ^^^ nI b
def buL (kd : Nat) : Nat → List Nat
  | 2 => 30 :: 10 :: swL kd
  | 3 => 41 :: 30 :: 10 :: swL kd
  | 5 => 41 :: 30 :: 10 :: swL kd
  | 7 => (80 :: 10 :: swL kd) ++ faL kd kd
  | _ => 10 :: swL kd
def buV (kd : Nat) : Nat → Nat → Int32 → Int32
  | 2, b, x => -(swV kd b x * nI 2)
  | 3, b, x => -(swV kd b (x + nI 1) * nI 2)
  | 5, b, x => -(swV kd b (x + nI 1) * nI 2)
  | 7, b, x => swV kd b x * nI 2 + faV kd kd b (nI 2)
  | _, b, x => swV kd b x * nI 2
def teL (kd : Nat) : Nat → List Nat
  | 5 => (60 :: 2 :: buL kd kd) ++ faL kd kd
  | 7 => (81 :: 2 :: buL kd kd) ++ faL kd kd
  | _ => (2 :: buL kd kd) ++ faL kd kd
def teV (kd : Nat) : Nat → Nat → Int32 → Int32
  | 5, b, x => (buV kd kd b x - faV kd kd b (nI 1)) ^^^ nI 5
  | 7, b, x => (buV kd kd b x - faV kd kd b (nI 1)) - nI 1
  | _, b, x => buV kd kd b x - faV kd kd b (nI 1)
theorem swL_len (k : Nat) : (swL k).length ≤ 2 := by unfold swL; split <;> simp
theorem faL_len (kd k : Nat) : (faL kd k).length ≤ 4 := by have := swL_len kd; unfold faL; split <;> simp <;> omega
theorem buL_len (kd k : Nat) : (buL kd k).length ≤ 8 := by
  have := swL_len kd
  have := faL_len kd kd
  unfold buL; split <;> simp <;> omega
theorem teL_len (kd k : Nat) : (teL kd k).length ≤ 14 := by
  have := faL_len kd kd
  have := buL_len kd kd
  unfold teL; split <;> simp <;> omega
theorem all8 {P : Nat → Prop} {k : Nat} (h : k ≤ 7) (h0 : P 0) (h1 : P 1) (h2 : P 2) (h3 : P 3) (h4 : P 4) (h5 : P 5) (h6 : P 6) (h7 : P 7) : P k := by
  rcases (show k = 0 ∨ k = 1 ∨ k = 2 ∨ k = 3 ∨ k = 4 ∨ k = 5 ∨ k = 6 ∨ k = 7 by omega) with rfl | rfl | rfl | rfl | rfl | rfl | rfl | rfl <;> assumption
def actL (kd : Nat) (a : Nat) : List Nat := if a = 0 then swL kd else if a = 1 then buL kd kd else if a = 2 then faL kd kd else teL kd kd
def actV (kd : Nat) (a b : Nat) (x : Int32) : Int32 := if a = 0 then swV kd b x else if a = 1 then buV kd kd b x else if a = 2 then faV kd kd b x else teV kd kd b x
def kdN (σ : MSt) (b : Nat) : Nat := (σ.2.1 35 b).toNatClampNeg
noncomputable def rAct (σ : MSt) (b a x : Int32) : Int32 := pif (inN b (σ.1 34) ∧ inN a 4) (actV (kdN σ b.toNatClampNeg) a.toNatClampNeg b.toNatClampNeg x) 0
noncomputable def gAct (σ : MSt) (b a : Int32) : MSt := pif (inN b (σ.1 34) ∧ inN a 4) (logS (sN σ 36 0) (actL (kdN σ b.toNatClampNeg) a.toNatClampNeg)) (sN σ 36 0)
