/-! THE CLASS'S JUDGEMENT, 5: all names frozen; the planner's world as a reference -/
set_option maxRecDepth 100000
/-- all names are frozen -/
def bmp (τ : CT) : CT := ((nvC τ, nvC τ, uC τ), τ.2)
/-- names may be written from n on -/
def unb (n : Nat) (t : CT) : CT := ((n, nvC t, uC t), t.2)
abbrev plKR : CK := ckO 0 [some (some 11), some none, some (some 12), some (some 13), some (some 14), some (some 15), none, none, some (some 16), some (some 17), some (some 18), some (some 19), some (some 20), some (some 21), none, some (some 22), none, none, some (some 23), some (some 24), some none]
/-- the kinds where the planner's world is a reference like others -/
def kapR (v : Nat) : Option CK := if v = 10 then some plKR else kap v
section BMP
variable {T : Nat → Option CK} {d k : Nat} {M : MRec} {pc : Nat} {ls : AL} {st : List AV} {as : List AV} {τ t u : CT} {w : Nat → Int} {R : Nat → Nat → Int} {C : Int} {s N x n : Nat} {f e : Nat → Nat} {E : CE} {h : MH}
theorem Rep.bm (R : Rep T E τ h) : Rep T (E.1, E.2.1, (nvC τ, τ.2.1, sg τ)) (bmp τ) h := by
  obtain ⟨r1, r2, r3, r4, r5, r6, r7, r8, r9⟩ := R
  exact ⟨r1, ⟨by show 1000 ≤ nvC τ; omega, Nat.le_refl _⟩, r3, r4, r5, r6, r7, ⟨rfl, fun v _ _ => ⟨rfl, rfl⟩⟩, r9⟩
theorem Wc.bmp {Q Q' : CO → CT → Prop} (K : Wc T d M pc ls st (bmp τ) Q') (hQ : ∀ v t, Q' v t → Fz (bmp τ) t → Q v (unb (n0C τ) t)) : Wc T d M pc ls st τ Q := fun E h R => by
  refine Wp.mono (K (E.1, E.2.1, (nvC τ, τ.2.1, sg τ)) h R.bm) (fun r h' ⟨v, t, h1, R2, h3⟩ => ?_)
  obtain ⟨r1, r2, r3, r4, r5, r6, r7, r8, r9⟩ := R
  obtain ⟨q1, q2, q3, q4, q5, q6, q7, q8, q9⟩ := R2
  have e0 : n0C t = nvC τ := q8.1
  have hz : ∀ v, 1000 ≤ v → v < nvC τ → t.2.1 v = τ.2.1 v ∧ sg t v = sg τ v := fun v v1 v2 => q8.2 v v1 (by rw [e0]; exact v2)
  refine ⟨v, unb (n0C τ) t, h1, ⟨q1, ⟨r2.1, by show n0C τ ≤ nvC t; omega⟩, q3, q4, q5, q6, q7, ⟨r8.1, fun v v1 v2 => ?_⟩, q9⟩, hQ v t h3 ⟨e0, hz⟩⟩
  have a1 := hz v v1 (by have : v < n0C τ := v2; omega)
  have a2 := r8.2 v v1 v2
  exact ⟨a1.1.trans a2.1, a1.2.trans a2.2⟩
/-- to the kinds with a reference, and back -/
theorem Rep.toK (R : Rep kapR E t h) (h1 : (sg t 10 1).toNat = 100) : Rep kap E t h := by
  obtain ⟨r1, r2, r3, r4, r5, r6, r7, r8, r9⟩ := R
  have hkd : ∀ v k, kd kap t v = some k → ∃ k', kd kapR t v = some k' ∧ cel E.rf k' (sg t v) = cel E.rf k (sg t v) := fun v k hk => by
    by_cases e : v = 10
    · subst e
      have ek : k = plK := by
        have : kd kap t 10 = some plK := rfl
        rw [this] at hk; exact (Option.some.inj hk).symm
      subst ek
      refine ⟨plKR, rfl, ?_⟩
      show (.inr (.inr (0, fvC E.rf (sg t 10) _ 0)) : MC) = .inr (.inr (0, fvC E.rf (sg t 10) _ 0))
      simp only [fvC, h1]
    · refine ⟨k, ?_, rfl⟩
      unfold kd kapR at *
      by_cases e2 : v < 110
      · rw [if_pos e2] at *; rw [if_neg e]; exact hk
      · rw [if_neg e2] at *; exact hk
  refine ⟨r1, r2, r3, r4, fun v k hk => ?_, fun v w a h1 h2 => r6 v w a ?_ ?_, r7, r8, r9⟩
  · obtain ⟨k', a1, a2⟩ := hkd v k hk
    obtain ⟨q1, b, q2, q3, q4, q5, q6⟩ := r5 v k' a1
    exact ⟨q1, b, q2, q3, q4, q5, by rw [q6, a2]⟩
  · obtain ⟨q, hq⟩ := Option.isSome_iff_exists.mp h1
    obtain ⟨k', a1, -⟩ := hkd v q hq
    rw [a1]; rfl
  · obtain ⟨q, hq⟩ := Option.isSome_iff_exists.mp h2
    obtain ⟨k', a1, -⟩ := hkd w q hq
    rw [a1]; rfl
theorem Rep.toR (R : Rep kap E t h) (h1 : (sg t 10 1).toNat = 100) : Rep kapR E t h := by
  obtain ⟨r1, r2, r3, r4, r5, r6, r7, r8, r9⟩ := R
  have hkd : ∀ v k, kd kapR t v = some k → ∃ k', kd kap t v = some k' ∧ cel E.rf k' (sg t v) = cel E.rf k (sg t v) := fun v k hk => by
    by_cases e : v = 10
    · subst e
      have ek : k = plKR := by
        have : kd kapR t 10 = some plKR := rfl
        rw [this] at hk; exact (Option.some.inj hk).symm
      subst ek
      refine ⟨plK, rfl, ?_⟩
      show (.inr (.inr (0, fvC E.rf (sg t 10) _ 0)) : MC) = .inr (.inr (0, fvC E.rf (sg t 10) _ 0))
      simp only [fvC, h1]
    · refine ⟨k, ?_, rfl⟩
      unfold kd kapR at *
      by_cases e2 : v < 110
      · rw [if_pos e2] at *; rw [if_neg e] at hk; exact hk
      · rw [if_neg e2] at *; exact hk
  refine ⟨r1, r2, r3, r4, fun v k hk => ?_, fun v w a h1 h2 => r6 v w a ?_ ?_, r7, r8, r9⟩
  · obtain ⟨k', a1, a2⟩ := hkd v k hk
    obtain ⟨q1, b, q2, q3, q4, q5, q6⟩ := r5 v k' a1
    exact ⟨q1, b, q2, q3, q4, q5, by rw [q6, a2]⟩
  · obtain ⟨q, hq⟩ := Option.isSome_iff_exists.mp h1
    obtain ⟨k', a1, -⟩ := hkd v q hq
    rw [a1]; rfl
  · obtain ⟨q, hq⟩ := Option.isSome_iff_exists.mp h2
    obtain ⟨k', a1, -⟩ := hkd w q hq
    rw [a1]; rfl
theorem CtX.toR {Q : CO → CT → Prop} (hc : CtX kap k M as t Q) (h1 : (sg t 10 1).toNat = 100) (hq : ∀ v u, Q v u → (sg u 10 1).toNat = 100) : CtX kapR k M as t Q := fun d hd E h R => Wp.mono (hc d hd E h (R.toK h1)) (fun r h' ⟨v, u, a1, a2, a3⟩ => ⟨v, u, a1, a2.toR (hq v u a3), a3⟩)
theorem Ct.toR {Q : Option AV → CT → Prop} (hc : Ct kap k M as t Q) (h1 : (sg t 10 1).toNat = 100) (hq : ∀ v u, Q v u → (sg u 10 1).toNat = 100) : Ct kapR k M as t Q := CtX.toR hc h1 (fun v u q => by
  rcases v with v | v
  · exact hq v u q
  · exact q.elim)
/-- members, turns and the kept list stand at low names -/
def NFl (w : Nat → Int) (t : CT) : Prop := (∀ m : Int, isM w m → 0 ≤ m → m < 10 → mnC t m < 1000) ∧ tnC t < 1000 ∧ (sg t 20 1).toNat < 1000
theorem ShC.bm {a : Int} {y : Nat} (h : ShC τ w a y) (hn : n0C τ ≤ nvC τ) : ShC (bmp τ) w a y := h.toN.up hn
theorem ShA.bm {a : Nat} (h : ShA τ a w) (hn : n0C τ ≤ nvC τ) : ShA (bmp τ) a w := fun s s0 s1 => ⟨fun q => ((h s s0 s1).1 q).bm hn, (h s s0 s1).2⟩
theorem WK.bm (h : WK w τ x N) (hn : n0C τ ≤ nvC τ) : WK w (bmp τ) x N := ⟨h.1, h.2.1, h.2.2.1, h.2.2.2.1, h.2.2.2.2.1.bm hn, h.2.2.2.2.2⟩
theorem SI.bm (h : SI w C τ) (hN : NFl w τ) (hn : n0C τ ≤ nvC τ) : SI w C (bmp τ) := by
  obtain ⟨⟨⟨h1, h2⟩, ⟨n, s, ⟨⟨a1, a2⟩, a3, a4⟩, a5, a6⟩, h4⟩, h5⟩ := h
  refine ⟨⟨⟨h1, fun m q m0 m1 => ⟨(h2 m q m0 m1).1, Or.inl (hN.1 m q m0 m1)⟩⟩, ⟨n, s, ⟨⟨a1, ⟨a2.1, Or.inl (by decide)⟩⟩, a3, ?_⟩, a5, a6⟩, h4.bm hn⟩, h5⟩
  rcases a4 with q | ⟨q1, q2, q3, q4⟩
  · exact Or.inl q
  · exact Or.inr ⟨q1, q2, ⟨q3.1, Or.inl hN.2.1⟩, q4⟩
theorem KpX.bm (h : KpX R s N x n f e τ) (hN : NFl w τ) (hn : n0C τ ≤ nvC τ) : KpX R s N x n f e (bmp τ) := by
  obtain ⟨⟨⟨⟨ka, wa⟩, ⟨e1, e2, e3, e4, e5⟩, hx, hel⟩, h2⟩, h3, h4, h5, h6, h7⟩ := h
  have hx1000 : x < 1000 := by have := hN.2.2; rw [e1, Int.toNat_natCast] at this; exact this
  refine ⟨⟨⟨⟨ka, ⟨wa.1, Or.inl (by decide)⟩⟩, ⟨e1, e2, e3, e4, e5⟩, ?_, hel⟩, h2⟩, h3, fun r hr => ?_, h5, ?_, h7⟩
  · rcases hx with q | ⟨q1, q2, q3, q4⟩
    · exact Or.inl q
    · exact Or.inr ⟨q1, q2, ⟨q3.1, Or.inl hx1000⟩, q4⟩
  · obtain ⟨r1, r2, r3⟩ := h4 r hr
    exact ⟨r1, r2.bm hn, r3⟩
  · rcases h6 with q | ⟨q1, q2, q3⟩
    · exact Or.inl q
    · exact Or.inr ⟨q1, by show (sg τ 10 20).toNat + 6 ≤ nvC τ; omega, fun m m0 m1 => by have := q3 m m0 m1; exact ⟨this.1, Nat.lt_of_lt_of_le this.2 hn⟩⟩
end BMP
