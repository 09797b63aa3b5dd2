/-! MORE ROWS: switches, comparisons of longs, and the pure words of the walks -/
set_option maxRecDepth 100000
def jmax (a b : Int32) : Int32 := if a < b then b else a
def jmin (a b : Int32) : Int32 := if b < a then b else a
section WGT
variable {p : Program} {l : Launch} {e : Env} {R : Room} {s : State} {m : MethodId} {args : Array Value} {below : List Frame} {meth : Method} {c : Code} {D : va_G} {E : State → Prop} {B nL : Nat} {Q : State → Prop}
variable {S : AH → Prop} {kc ns pc np : Nat} {lv : List (Option Value)} {st : List Value} {own : String} {cc : ByteArray}
theorem g_tabIn (F : FX p s m args meth c D E B nL own cc) {dflt lo hi : Int} {offs : Array Int} {len : Nat} {x v : Int32} (hx : x = v) {off : Int} (d : decode cc pc = .ok (.tableswitch dflt lo hi offs, len)) {j : Nat} (h1 : ¬ v.toInt < lo) (h2 : ¬ hi < v.toInt) (hj : (v.toInt - lo).toNat = j) (ho : offs[j]? = some off) (ht : (pc : Int) + off = (np : Int)) (kk : WG p l e R s m args below meth c D B nL Q S kc ns np lv st) : WG p l e R s m args below meth c D B nL Q S kc ns pc lv (.int x :: st) := by
  subst hx
  exact WG.lift (fun H locs ls _ k => lv_tableIn F.1 F.2.1 d h1 h2 (by rw [hj]; exact ho) ht k) kk
theorem g_tabOut (F : FX p s m args meth c D E B nL own cc) {dflt lo hi : Int} {offs : Array Int} {len : Nat} {x : Int32} (d : decode cc pc = .ok (.tableswitch dflt lo hi offs, len)) (h : x.toInt < lo ∨ hi < x.toInt) (ht : (pc : Int) + dflt = (np : Int)) (kk : WG p l e R s m args below meth c D B nL Q S kc ns np lv st) : WG p l e R s m args below meth c D B nL Q S kc ns pc lv (.int x :: st) :=
  WG.lift (fun H locs ls _ k => lv_tableOut F.1 F.2.1 d h ht k) kk
theorem g_lookup (F : FX p s m args meth c D E B nL own cc) {dflt : Int} {ps : Array (Int × Int)} {len : Nat} {x : Int32} {off : Int} (d : decode cc pc = .ok (.lookupswitch dflt ps, len)) (hp : (ps.toList.zip (ps.toList.drop 1)).all (fun (a, next) => a.1 < next.1) = true) (ho : Op.lookupswitch.offset ps.toList dflt x.toInt = off) (ht : (pc : Int) + off = (np : Int)) (kk : WG p l e R s m args below meth c D B nL Q S kc ns np lv st) : WG p l e R s m args below meth c D B nL Q S kc ns pc lv (.int x :: st) :=
  WG.lift (fun H locs ls _ k => lv_lookup F.1 F.2.1 d hp ho ht k) kk
theorem g_lcmp (F : FX p s m args meth c D E B nL own cc) {x y : Int64} (d : decode cc pc = .ok (.lcmp, 1)) (hp : pc + 1 = np) (kk : WG p l e R s m args below meth c D B nL Q S kc ns np lv (.int (lg_cmp x y) :: st)) : WG p l e R s m args below meth c D B nL Q S kc ns pc lv (.long y :: .long x :: st) := by
  subst hp
  exact WG.lift (fun H locs ls _ k => W.lcmp F.1 F.2.1 d k) kk
theorem g_max (F : FX p s m args meth c D E B nL own cc) {rest : List Value} {index : Nat} {x y : Int32} (hlk : Cond.methodLink own index yJ9_max ∈ lw_all) (hk : kc ≤ R.cells) (hn : ns ≤ R.slots) (hfr : 1 ≤ R.frames) (hlo : (rest.map fun v => v.category).sum + 13 ≤ R.locals) (d : decode cc pc = .ok (.invokestatic index, 3)) (hp : pc + 3 = np) (kk : WG p l e R s m args below meth c D B nL Q S kc ns np lv (.int (jmax x y) :: rest)) : WG p l e R s m args below meth c D B nL Q S kc ns pc lv (.int y :: .int x :: rest) := by
  subst hp
  have hts := F.2.2.2.2.1
  exact WG.lift (fun H locs ls hl k => va_mmax F.1 F.2.1 (F.2.2.1.trans hl.1.symm) F.2.2.2.1 (hts _ hlk) (hts _ q680) (hts _ q117) (hts _ q681) hfr hlo hk hn d k) kk
theorem g_min (F : FX p s m args meth c D E B nL own cc) {rest : List Value} {index : Nat} {x y : Int32} (hlk : Cond.methodLink own index yJ9_min ∈ lw_all) (hk : kc ≤ R.cells) (hn : ns ≤ R.slots) (hfr : 1 ≤ R.frames) (hlo : (rest.map fun v => v.category).sum + 13 ≤ R.locals) (d : decode cc pc = .ok (.invokestatic index, 3)) (hp : pc + 3 = np) (kk : WG p l e R s m args below meth c D B nL Q S kc ns np lv (.int (jmin x y) :: rest)) : WG p l e R s m args below meth c D B nL Q S kc ns pc lv (.int y :: .int x :: rest) := by
  subst hp
  have hts := F.2.2.2.2.1
  exact WG.lift (fun H locs ls hl k => va_mmin F.1 F.2.1 (F.2.2.1.trans hl.1.symm) F.2.2.2.1 (hts _ hlk) (hts _ q683) (hts _ q117) (hts _ q684) hfr hlo hk hn d k) kk
end WGT
theorem zn1 : nI 1 = 1 := rfl
theorem zi_dec {a : Nat} (h : 0 < a) : nI a + Int32.ofInt (-1) = nI (a - 1) := by
  obtain ⟨b, rfl⟩ : ∃ b, a = b + 1 := ⟨a - 1, by omega⟩
  exact pk_m1 b
/-- x is one of 0 .. n-1 -/
def inN (x : Int32) (n : Nat) : Prop := ∃ j : Nat, j < n ∧ x = nI j
theorem inN_iff {x : Int32} {n : Nat} (hn : n < 2 ^ 31) : (nI 0 ≤ x ∧ x ≤ nI n - nI 1) ↔ inN x n := by
  have e1 : (nI n - nI 1).toInt = (n : Int) - 1 := by
    rcases Nat.eq_zero_or_pos n with rfl | h
    · decide
    · rw [pk_sub h, nI_toInt (by omega)]; omega
  constructor
  · rintro ⟨h1, h2⟩
    rw [Int32.le_iff_toInt_le] at h1 h2
    rw [e1] at h2
    rw [nI_toInt (by decide)] at h1
    refine ⟨x.toInt.toNat, by omega, ?_⟩
    apply Int32.toInt_inj.mp
    rw [nI_toInt (by omega)]
    omega
  · rintro ⟨j, hj, rfl⟩
    rw [Int32.le_iff_toInt_le, Int32.le_iff_toInt_le, e1, nI_toInt (by decide), nI_toInt (by omega)]
    omega
theorem inN_nI {j n : Nat} (hj : j < 2 ^ 31) (hn : n < 2 ^ 31) : inN (nI j) n ↔ j < n := by
  constructor
  · rintro ⟨i, hi, e⟩
    rw [(nI_eq hj (by omega)).mp e]; exact hi
  · intro h; exact ⟨j, h, rfl⟩
/-- lo ≤ x ≤ hi, as numbers -/
def btw (x lo hi : Int32) : Prop := lo ≤ x ∧ x ≤ hi
theorem btw_iff {x : Int32} {a b : Nat} (ha : a < 2 ^ 31) (hb : b < 2 ^ 31) : btw x (nI a) (nI b) ↔ ∃ j : Nat, a ≤ j ∧ j ≤ b ∧ x = nI j := by
  unfold btw
  rw [Int32.le_iff_toInt_le, Int32.le_iff_toInt_le, nI_toInt ha, nI_toInt hb]
  constructor
  · rintro ⟨h1, h2⟩
    refine ⟨x.toInt.toNat, by omega, by omega, ?_⟩
    apply Int32.toInt_inj.mp
    rw [nI_toInt (by omega)]
    omega
  · rintro ⟨j, h1, h2, rfl⟩
    rw [nI_toInt (by omega)]
    omega
theorem btw_in {x : Int32} {n : Nat} (hn : n < 2 ^ 31) : btw x (nI 0) (nI n - nI 1) ↔ inN x n := inN_iff hn
