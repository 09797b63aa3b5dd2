/-! X: shelves: casts -/
set_option maxRecDepth 100000
theorem XH.shelf {D : va_G} {Λ : LT} {I : AH} {L : LawT} {σ : MSt} {h : AH} (hs : XH D Λ I L σ h) (hho : hoOK σ) (h34 : σ.1 34 ≤ 50) {i : Nat} (hi : i < 6) : (σ.2.1 38 i = -1 ∧ Λ.2 37 i = none) ∨ (∃ k, k < 5 ∧ rowK σ i = some k ∧ σ.2.1 38 i = nI k ∧ Λ.2 37 i = some (Λ.1 3 i)) ∨ (∃ b, b < σ.1 34 ∧ σ.2.1 38 i = nI (10 + b) ∧ ∃ ba, Λ.2 37 i = some ba ∧ I ba = some (bCell (Λ.1 0 38) (kdN σ b) b)) := by
  obtain ⟨nm, km, kd, hr, -⟩ := hs
  obtain ⟨r1, r2, r3, r4, r5, r6, r7⟩ := hr
  obtain ⟨s1, s2, s3⟩ := r6 i hi
  rcases hho i hi with h | h | ⟨b, hb, h⟩
  · exact Or.inl ⟨h, s1 h⟩
  · obtain ⟨k, hk, e⟩ := h
    have hrk : rowK σ i = some k := by
      unfold rowK
      rw [e, nI_clamp (by omega), if_pos ⟨hi, nI_pos (by omega), hk⟩]
    exact Or.inr (Or.inl ⟨k, hk, hrk, e, s3 k ((rowK_at (σ := σ) (σ' := hid σ nm km kd) rfl).trans hrk)⟩)
  · obtain ⟨ba, h1, h2⟩ := r5 b hb
    exact Or.inr (Or.inr ⟨b, hb, h, ba, (s2 b hb h).trans h1, h2⟩)
theorem sh_m : shortN "PromiseRoofs$Row" := ⟨by decide +kernel, by decide +kernel⟩
theorem shX15 : shortN RX15 := ⟨by decide +kernel, by decide +kernel⟩
theorem shX16 : shortN RX16 := ⟨by decide +kernel, by decide +kernel⟩
theorem shX17 : shortN RX17 := ⟨by decide +kernel, by decide +kernel⟩
theorem shX18 : shortN RX18 := ⟨by decide +kernel, by decide +kernel⟩
theorem shX19 : shortN RX19 := ⟨by decide +kernel, by decide +kernel⟩
theorem shX20 : shortN RX20 := ⟨by decide +kernel, by decide +kernel⟩
theorem shX21 : shortN RX21 := ⟨by decide +kernel, by decide +kernel⟩
theorem shX22 : shortN RX22 := ⟨by decide +kernel, by decide +kernel⟩
theorem shX24 : shortN RX24 := ⟨by decide +kernel, by decide +kernel⟩
theorem shX25 : shortN RX25 := ⟨by decide +kernel, by decide +kernel⟩
theorem shX26 : shortN RX26 := ⟨by decide +kernel, by decide +kernel⟩
theorem shX27 : shortN RX27 := ⟨by decide +kernel, by decide +kernel⟩
theorem shX28 : shortN RX28 := ⟨by decide +kernel, by decide +kernel⟩
def noAs (ci : Nat) (A : String) : Prop := ∃ C T N, zCl[ci]? = some (C, T, N) ∧ (C, A) ∈ zCasts ∧ shortN C
theorem noBR : ∀ k, k ≤ 7 → noAs (15 + k) "PromiseRoofs$Row" := fun k hk => all8 (P := fun k => noAs (15 + k) "PromiseRoofs$Row") hk ⟨_, _, _, rfl, by decide +kernel, shX15⟩ ⟨_, _, _, rfl, by decide +kernel, shX16⟩ ⟨_, _, _, rfl, by decide +kernel, shX17⟩ ⟨_, _, _, rfl, by decide +kernel, shX18⟩ ⟨_, _, _, rfl, by decide +kernel, shX19⟩ ⟨_, _, _, rfl, by decide +kernel, shX20⟩ ⟨_, _, _, rfl, by decide +kernel, shX21⟩ ⟨_, _, _, rfl, by decide +kernel, shX22⟩
theorem noBB : ∀ k, k ≤ 7 → noAs (15 + k) RX24 := fun k hk => all8 (P := fun k => noAs (15 + k) RX24) hk ⟨_, _, _, rfl, by decide +kernel, shX15⟩ ⟨_, _, _, rfl, by decide +kernel, shX16⟩ ⟨_, _, _, rfl, by decide +kernel, shX17⟩ ⟨_, _, _, rfl, by decide +kernel, shX18⟩ ⟨_, _, _, rfl, by decide +kernel, shX19⟩ ⟨_, _, _, rfl, by decide +kernel, shX20⟩ ⟨_, _, _, rfl, by decide +kernel, shX21⟩ ⟨_, _, _, rfl, by decide +kernel, shX22⟩
theorem all5 {P : Nat → Prop} {k : Nat} (h : k < 5) (h0 : P 0) (h1 : P 1) (h2 : P 2) (h3 : P 3) (h4 : P 4) : P k := by
  rcases (show k = 0 ∨ k = 1 ∨ k = 2 ∨ k = 3 ∨ k = 4 by omega) with rfl | rfl | rfl | rfl | rfl <;> assumption
theorem noRS : ∀ k, k < 5 → noAs (24 + k) RX15 := fun k hk => all5 (P := fun k => noAs (24 + k) RX15) hk ⟨_, _, _, rfl, by decide +kernel, shX24⟩ ⟨_, _, _, rfl, by decide +kernel, shX25⟩ ⟨_, _, _, rfl, by decide +kernel, shX26⟩ ⟨_, _, _, rfl, by decide +kernel, shX27⟩ ⟨_, _, _, rfl, by decide +kernel, shX28⟩
theorem noRB : ∀ k, k < 5 → k ≠ 0 → noAs (24 + k) RX24 := fun k hk => all5 (P := fun k => k ≠ 0 → noAs (24 + k) RX24) hk (fun z => absurd rfl z) (fun _ => ⟨_, _, _, rfl, by decide +kernel, shX25⟩) (fun _ => ⟨_, _, _, rfl, by decide +kernel, shX26⟩) (fun _ => ⟨_, _, _, rfl, by decide +kernel, shX27⟩) (fun _ => ⟨_, _, _, rfl, by decide +kernel, shX28⟩)
def yesAs (ci : Nat) (A : String) : Prop := ∃ r, zCl[ci]? = some r ∧ asP ZE r.1 A
theorem yesRR : ∀ k, k < 5 → yesAs (24 + k) "PromiseRoofs$Row" := fun k hk => all5 (P := fun k => yesAs (24 + k) "PromiseRoofs$Row") hk ⟨_, rfl, Or.inl ze2071⟩ ⟨_, rfl, Or.inl ze2074⟩ ⟨_, rfl, Or.inl ze2072⟩ ⟨_, rfl, Or.inl ze2073⟩ ⟨_, rfl, Or.inl ze2070⟩
theorem yesBS : ∀ k, k ≤ 7 → yesAs (15 + k) RX15 := asStorey
section XCastY
variable {p : Program} {l : Launch} {e : Env} {R : Room} {s : State} {m : MethodId} {args : Array Value} {below : List Frame} {meth : Method} {c : Code} {D : va_G} {B nL : Nat} {Q : State → Prop}
variable {S S' : AH → Prop} {kc ns pc np : Nat} {lv lv' : List (Option Value)} {st st' rest : List Value} {own : String} {cc : ByteArray} {X : String}
theorem g_castN (F : FX p s m args meth c D ZE B nL own cc) {index : Nat} (d : decode cc pc = .ok (.checkcast index, 3)) (hp : pc + 3 = np) (kk : WG p l e R s m args below meth c D B nL Q S kc ns np lv (.null :: st)) : WG p l e R s m args below meth c D B nL Q S kc ns pc lv (.null :: st) := by
  subst hp
  exact WG.lift (fun H locs ls hq k => lv_castN F.1 F.2.1 d k) kk
theorem g_castY (F : FX p s m args meth c D ZE B nL own cc) {index a ci : Nat} {A : String} (hy : yesAs ci A) (hlink : Cond.classLink own index A ∈ lw_all) (hb : ∀ h, S h → ∃ fs, h a = some (.inr (ci, fs))) (d : decode cc pc = .ok (.checkcast index, 3)) (hp : pc + 3 = np) (kk : WG p l e R s m args below meth c D B nL Q S kc ns np lv (.ref a :: st)) : WG p l e R s m args below meth c D B nL Q S kc ns pc lv (.ref a :: st) := by
  subst hp
  obtain ⟨⟨C, T0, N⟩, hc, hz⟩ := hy
  intro h H locs ls hs hR hV hL
  obtain ⟨fs, hf⟩ := hb h hs
  have hr := g_recv F.2.2.2.2.2.1 hR hc hf
  rcases hz with hz | rfl
  · exact va_castY F.1 F.2.1 F.2.2.2.1 (F.2.2.2.2.1 _ hlink) (hz s F.2.2.2.2.2.1.2) hr d (kk h H locs ls hs hR hV hL)
  · exact va_castS F.1 F.2.1 F.2.2.2.1 (F.2.2.2.2.1 _ hlink) (F.2.2.2.2.2.1.1.1 ci _ hc).2 hr d (kk h H locs ls hs hR hV hL)
theorem z_castA (F : FX p s m args meth c D ZE B nL own cc) (hZ : ZH l B s) (hr : TR R kc ns) (hcat : (st.map fun v => v.category).sum ≤ 30) {A : String} {index a ci : Nat} (hno : noAs ci A) (hlink : Cond.classLink own index A ∈ lw_all) (hb : ∀ h, S h → ∃ fs, h a = some (.inr (ci, fs))) (s2 : shortN A) (d : decode cc pc = .ok (.checkcast index, 3)) (kk : WX p l e R s m args below meth c D B nL Q S (kc + 3) (ns + 910) pc lv "java/lang/ClassCastException") : WG p l e R s m args below meth c D B nL Q S kc ns pc lv (.ref a :: st) := by
  obtain ⟨C, T0, N, hc, hp, s1⟩ := hno
  exact z_cast F hZ hr hcat hp hlink hc hb s1 s2 d kk
end XCastY
/-- what a row's number reads as -/
def rowV (k : Nat) (x : Int64) : Int64 := if k = 3 then x else if k = 4 then (if x.toInt32 = 0 then 0 else 1) else x.toInt32.toInt64
theorem yesAs0 : yesAs 24 RX24 := ⟨_, rfl, Or.inr rfl⟩
