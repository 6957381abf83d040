/-! THE CLASS'S METHODS, 29: the kept worlds, changes -/
set_option maxRecDepth 100000
/-- the snapshot stands at frozen names, if there is one -/
def ImI (τ : CT) : Prop := sg τ 10 20 = 0 ∨ (1000 ≤ (sg τ 10 20).toNat ∧ (sg τ 10 20).toNat + 6 ≤ n0C τ ∧ ∀ m : Int, 0 ≤ m → m < 10 → ((sg τ ((sg τ 10 20).toNat + 3) m.toNat).toNat = 0 ∨ 1000 ≤ (sg τ ((sg τ 10 20).toNat + 3) m.toNat).toNat) ∧ (sg τ ((sg τ 10 20).toNat + 3) m.toNat).toNat < n0C τ)
/-- a name that is none of the snapshot's -/
def NoI (τ : CT) (y : Nat) : Prop := sg τ 10 20 = 0 ∨ ((y < (sg τ 10 20).toNat ∨ (sg τ 10 20).toNat + 6 ≤ y) ∧ ∀ m : Int, 0 ≤ m → m < 10 → y ≠ (sg τ ((sg τ 10 20).toNat + 3) m.toNat).toNat)
theorem ImI.e3 {τ t : CT} (h : ImI τ) (h10 : sg t 10 20 = sg τ 10 20) (z : ∀ y, 1000 ≤ y → y < n0C τ → t.2.1 y = τ.2.1 y ∧ sg t y = sg τ y) : sg τ 10 20 = 0 ∨ sg t ((sg t 10 20).toNat + 3) = sg τ ((sg τ 10 20).toNat + 3) := by
  rcases h with q | ⟨q1, q2, q3⟩
  · exact Or.inl q
  · right
    rw [h10]
    exact (z _ (by omega) (by omega)).2
theorem ImI.fr {τ t : CT} (h : ImI τ) (h0 : n0C t = n0C τ) (h10 : sg t 10 20 = sg τ 10 20) (z : ∀ y, 1000 ≤ y → y < n0C τ → t.2.1 y = τ.2.1 y ∧ sg t y = sg τ y) : ImI t := by
  have e := h.e3 h10 z
  unfold ImI at *
  rcases e with e | e
  · left; rw [h10]; exact e
  · rw [e, h10, h0]; exact h
theorem NoI.fr {τ t : CT} {y : Nat} (h : NoI τ y) (hi : ImI τ) (h10 : sg t 10 20 = sg τ 10 20) (z : ∀ y, 1000 ≤ y → y < n0C τ → t.2.1 y = τ.2.1 y ∧ sg t y = sg τ y) : NoI t y := by
  have e := hi.e3 h10 z
  unfold NoI at *
  rcases e with e | e
  · left; rw [h10]; exact e
  · rw [e, h10]; exact h
theorem NoI.mk {τ : CT} {y : Nat} (h : ImI τ) (hy : n0C τ ≤ y) : NoI τ y := by
  rcases h with q1 | ⟨q1, q2, q3⟩
  · exact Or.inl q1
  · exact Or.inr ⟨Or.inr (by omega), fun m m0 m1 => by have := q3 m m0 m1; omega⟩
/-- the list of kept worlds: s of them, the rows R, oldest first -/
def KpX (R : Nat → Nat → Int) (s N x n : Nat) (f e : Nat → Nat) (τ : CT) : Prop := (ALs kap τ 20 x n s 1 ∧ N ≤ nvC τ) ∧ (n = 0 ∨ n = 10 ∧ 110 ≤ x ∧ x < N ∧ x ≠ tnC τ ∧ ∀ m : Int, 0 ≤ m → m < 10 → x ≠ mnC τ m) ∧ (∀ r, r < s → sg τ x r = ((f r : Nat) : Int) ∧ WK (R r) τ (f r) (e r) ∧ f r + 6 ≤ e r ∧ 1000 ≤ f r ∧ e r ≤ N ∧ ∀ y, f r ≤ y → y < e r → y ≠ x ∧ y ≠ tnC τ ∧ ∀ m : Int, 0 ≤ m → m < 10 → y ≠ mnC τ m) ∧ (∀ r r', r < r' → r' < s → e r ≤ f r') ∧ ImI τ ∧ ∀ r y, r < s → f r ≤ y → y < e r → NoI τ y
def Kp (R : Nat → Nat → Int) (s : Nat) (τ : CT) : Prop := ∃ (x n : Nat) (f e : Nat → Nat), KpX R s (nvC τ) x n f e τ
section KEP
variable {T : Nat → Option CK} {w : Nat → Int} {R : Nat → Nat → Int} {τ t u t4 : CT} {m c v C : Int} {d x y o n i j k a b e s p : Nat} {kk : CK} {Q : Option AV → CT → Prop}
theorem ShA.fz (h : ShA τ a w) (h0 : n0C t = n0C τ) (g : ∀ y, 1000 ≤ y → y < n0C τ → t.2.1 y = τ.2.1 y ∧ sg t y = sg τ y) (ha : sg t a = sg τ a) : ShA t a w := fun s s0 s1 => by
  rw [ha]
  exact ⟨fun q => ((h s s0 s1).1 q).fz h0 g, (h s s0 s1).2⟩
theorem WK.fr (h : WK w τ x e) (hx : x + 6 ≤ e) (he : e ≤ nvC t) (g : ∀ y, x ≤ y → y < e → t.2.1 y = τ.2.1 y ∧ sg t y = sg τ y) (h0 : n0C t = n0C τ) (z : ∀ y, 1000 ≤ y → y < n0C τ → t.2.1 y = τ.2.1 y ∧ sg t y = sg τ y) : WK w t x e := by
  obtain ⟨h1, h2, ⟨k0, k1, k2, k3, k4⟩, ⟨c1, c2, c3, c4, c5, c6⟩, h5, h6⟩ := h
  refine ⟨(g x (by omega) (by omega)).1.trans h1, ?_, ⟨(g _ (by omega) (by omega)).1.trans k0, (g _ (by omega) (by omega)).1.trans k1, (g _ (by omega) (by omega)).1.trans k2, (g _ (by omega) (by omega)).1.trans k3, (g _ (by omega) (by omega)).1.trans k4⟩, ⟨?_, ?_, ?_, ?_, ?_, ?_⟩, h5.fz h0 z (g _ (by omega) (by omega)).2, ?_⟩
  · rw [(g x (by omega) (by omega)).2]; exact h2
  · rw [(g (x + 1) (by omega) (by omega)).2, (g (x + 2) (by omega) (by omega)).2]; exact c1
  · rw [(g (x + 3) (by omega) (by omega)).2]
    intro m m0 m1
    refine ⟨fun q => ?_, (c2 m m0 m1).2⟩
    obtain ⟨⟨p1, p2, p3⟩, p4⟩ := (c2 m m0 m1).1 q
    have q6 := h6 m m0 m1 q
    have q7 := g _ (by omega) q6.2
    refine ⟨⟨p1, by omega, q7.1.trans p3⟩, ?_⟩
    rw [q7.2]
    exact p4
  · rw [(g (x + 5) (by omega) (by omega)).2]; exact c3
  · rw [(g x (by omega) (by omega)).2]; exact c4
  · rw [(g x (by omega) (by omega)).2]; exact c5
  · rw [(g x (by omega) (by omega)).2]; exact c6
  · rw [(g (x + 3) (by omega) (by omega)).2]; exact h6
/-- kept worlds stay where a frame leaves old cells alone -/
theorem KpX.fr {N n : Nat} {f e : Nat → Nat} (h : KpX R s N x n f e τ) (h0 : n0C t = n0C τ) (hn : nvC τ ≤ nvC t) (h20 : sg t 20 = sg τ 20) (g : ∀ y, 110 ≤ y → y < nvC τ → t.2.1 y = τ.2.1 y ∧ (y ≠ tnC τ → (∀ m : Int, 0 ≤ m → m < 10 → y ≠ mnC τ m) → sg t y = sg τ y)) (ht : tnC t = tnC τ ∨ nvC τ ≤ tnC t) (hm : ∀ m : Int, 0 ≤ m → m < 10 → mnC t m = mnC τ m ∨ nvC τ ≤ mnC t m ∨ mnC t m = 0) (z : ∀ y, 1000 ≤ y → y < n0C τ → t.2.1 y = τ.2.1 y ∧ sg t y = sg τ y) (hlt : ∀ y k, kd kap τ y = some k → y < nvC τ) (h10 : sg t 10 20 = sg τ 10 20) : KpX R s N x n f e t := by
  obtain ⟨⟨hA, hN⟩, hx, hr, hrr, hi, hno⟩ := h
  have hwr : ∀ y, wrC τ y → wrC t y := fun y q => wrC_wk q h0
  have hkd : ∀ y k, kd kap τ y = some k → y < nvC τ → kd kap t y = some k := fun y k q hy => by
    by_cases q1 : 110 ≤ y
    · unfold kd at *
      rw [if_neg (by omega)] at *
      rw [(g y q1 hy).1]; exact q
    · unfold kd at *
      rw [if_pos (by omega)] at *
      exact q
  have hk' : ∀ y k, kd kap τ y = some k → kd kap t y = some k := fun y k q => hkd y k q (hlt y k q)
  refine ⟨⟨?_, by omega⟩, ?_, fun r hr' => ?_, hrr, hi.fr h0 h10 z, fun r y a b c => (hno r y a b c).fr hi h10 z⟩
  · rcases hx with hx | ⟨x1, x2, x3, x4, x5⟩
    · subst hx
      obtain ⟨⟨ka, wa⟩, ⟨e1, e2, e3, e4, e5⟩, hxx, hel⟩ := hA
      refine ⟨⟨hk' _ _ ka, hwr _ wa⟩, ⟨by rw [h20]; exact e1, by rw [h20]; exact e2, e3, e4, e5⟩, ?_, fun i hi => absurd hi (by omega)⟩
      rcases hxx with ⟨q1, q2, g', q3⟩ | ⟨q1, -⟩
      · exact Or.inl ⟨q1, rfl, g', hk' _ _ q3⟩
      · omega
    · exact hA.fr hk' h0 (by rw [h20]) (by rw [h20]) ((g x x2 (by omega)).2 x4 x5)
  · rcases hx with hx | ⟨x1, x2, x3, x4, x5⟩
    · exact Or.inl hx
    · refine Or.inr ⟨x1, x2, x3, by rcases ht with q | q <;> omega, fun m m0 m1 => ?_⟩
      have := x5 m m0 m1
      rcases hm m m0 m1 with q | q | q <;> omega
  · obtain ⟨r1, r2, r3, r4, r5, r6⟩ := hr r hr'
    have gg : ∀ y, f r ≤ y → y < e r → t.2.1 y = τ.2.1 y ∧ sg t y = sg τ y := fun y y1 y2 => ⟨(g y (by omega) (by omega)).1, (g y (by omega) (by omega)).2 (r6 y y1 y2).2.1 (r6 y y1 y2).2.2⟩
    refine ⟨?_, r2.fr r3 (by omega) gg h0 z, r3, r4, r5, fun y y1 y2 => ⟨(r6 y y1 y2).1, ?_, fun m m0 m1 => ?_⟩⟩
    · rcases hx with hx | ⟨x1, x2, x3, x4, x5⟩
      · have := hA.2.1.2.2.1
        omega
      · rw [(g x x2 (by omega)).2 x4 x5]; exact r1
    · have := (r6 y y1 y2).2.1
      rcases ht with q | q <;> omega
    · have := (r6 y y1 y2).2.2 m m0 m1
      rcases hm m m0 m1 with q | q | q <;> omega
theorem KpX.frw {N n : Nat} {f e : Nat → Nat} (h : KpX R s N x n f e τ) (g : FrW τ t) (hlt : ∀ y k, kd kap τ y = some k → y < nvC τ) : KpX R s N x n f e t := h.fr g.1.1 g.1.2 (g.2.1 20 (by omega)) g.2.2.2.1 g.2.2.2.2.1.2 (fun m _ _ => Or.inl (g.mn m)) g.2.2.2.2.2 hlt (g.2.2.1 20 (by decide) (by decide))
theorem KpX.kp {N n : Nat} {f e : Nat → Nat} (h : KpX R s N x n f e τ) : Kp R s τ := by
  obtain ⟨⟨h1, h2⟩, h3, h4, h5⟩ := h
  refine ⟨x, n, f, e, ⟨h1, Nat.le_refl _⟩, ?_, fun r hr => ?_, h5⟩
  · rcases h3 with q | ⟨q1, q2, q3, q4⟩
    · exact Or.inl q
    · exact Or.inr ⟨q1, q2, by omega, q4⟩
  · obtain ⟨r1, r2, r3, r4, r5, r6⟩ := h4 r hr
    exact ⟨r1, r2, r3, r4, by omega, r6⟩
theorem Kp.frw (h : Kp R s τ) (g : FrW τ t) (hlt : ∀ y k, kd kap τ y = some k → y < nvC τ) : Kp R s t := by
  obtain ⟨x, n, f, e, h⟩ := h
  exact (h.frw g hlt).kp
/-- from now: the source of a copy -/
theorem SI.ws5 (h : SI w C t) : WS5 kap t 100 101 102 103 104 105 w := by
  refine ⟨⟨⟨_, rfl, ?_⟩, ⟨_, rfl, ?_⟩, ⟨_, rfl, ?_⟩, ⟨_, rfl, ?_⟩, ⟨_, rfl, ?_⟩⟩, ⟨⟨_, rfl, ?_⟩, ⟨_, rfl, ?_⟩, ⟨_, rfl, ?_⟩⟩, ⟨rfl, rfl, rfl, rfl, rfl⟩, ⟨h.1.1.1, h.1.2.2⟩, h.2.1.2.2.1, h.2.1.1.2⟩
  all_goals first | exact Or.inr rfl | rfl
/-- rows with one more at the end -/
def addR (R : Nat → Nat → Int) (s : Nat) (w : Nat → Int) : Nat → Nat → Int := fun r => if r = s then w else R r
/-- what stands in the list after a change -/
def chgR (R : Nat → Nat → Int) (s : Nat) (w : Nat → Int) : Nat → Nat → Int := if s = 8 then fun r => addR R s w (r + 1) else addR R s w
def chgS (s : Nat) : Nat := if s = 8 then 8 else s + 1
theorem St.fr3 (h : St w τ) (h0 : n0C t = n0C τ) (hn : nvC τ ≤ nvC t) (lo : ∀ v, 100 ≤ v → v < 106 → sg t v = sg τ v) (h18 : sg t 18 = sg τ 18) (hD : ∀ y, 110 ≤ y → y < nvC τ → t.2.1 y = τ.2.1 y) (hm : ∀ m : Int, 0 ≤ m → m < 10 → isM w m → sg t (mnC τ m) = sg τ (mnC τ m)) (z : ∀ y, 1000 ≤ y → y < n0C τ → t.2.1 y = τ.2.1 y ∧ sg t y = sg τ y) : St w t := by
  obtain ⟨⟨⟨c1, c2, c3, c4, c5, c6⟩, hw⟩, hT, hS⟩ := h
  refine ⟨⟨⟨?_, ?_, ?_, ?_, ?_, ?_⟩, fun m q m0 m1 => ?_⟩, hT.of h0 hn h18 hD, hS.fz h0 z (lo 104 (by decide) (by decide))⟩
  · rw [lo 101 (by decide) (by decide), lo 102 (by decide) (by decide)]; exact c1
  · rw [lo 103 (by decide) (by decide)]
    intro m m0 m1
    refine ⟨fun q => ?_, (c2 m m0 m1).2⟩
    obtain ⟨⟨p1, p2, p3⟩, p4⟩ := (c2 m m0 m1).1 q
    refine ⟨⟨p1, by omega, (hD _ p1 p2).trans p3⟩, ?_⟩
    rw [hm m m0 m1 q]
    exact p4
  · rw [lo 105 (by decide) (by decide)]; exact c3
  · rw [lo 100 (by decide) (by decide)]; exact c4
  · rw [lo 100 (by decide) (by decide)]; exact c5
  · rw [lo 100 (by decide) (by decide)]; exact c6
  · have := wrC_wk (t := t) (hw m q m0 m1) h0
    unfold mnC at *
    rw [lo 103 (by decide) (by decide)]
    exact this
end KEP
