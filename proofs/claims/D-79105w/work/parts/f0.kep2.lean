/-! THE CLASS'S METHODS, 30: changes -/
set_option maxRecDepth 100000
section KEP2
variable {T : Nat → Option CK} {w : Nat → Int} {R : Nat → Nat → Int} {τ t u t4 : CT} {m c v C : Int} {d x y o n i j k a b E s p N : Nat} {f e : Nat → Nat} {kk : CK} {Q : Option AV → CT → Prop}
theorem KpX.xw (h : KpX R s N x n f e τ) (hnv : 1000 ≤ n0C τ ∧ n0C τ ≤ nvC τ) : x ≠ 20 ∧ x ≠ 18 ∧ x ≠ 103 ∧ ((100 ≤ x ∧ x < 106) → False) ∧ (∀ y, 1000 ≤ y → y < n0C τ → y ≠ x) ∧ (n = 0 → s = 0 ∧ x = 3) ∧ (n = 10 → 110 ≤ x ∧ x < N ∧ x ≠ tnC τ ∧ ∀ m : Int, 0 ≤ m → m < 10 → x ≠ mnC τ m) := by
  obtain ⟨⟨hA, hN0⟩, hx, hr, hrr, hii, hno⟩ := h
  obtain ⟨⟨ka, wa⟩, ⟨e1, e2, e3, e4, e5⟩, hxx, hel⟩ := hA
  rcases hxx with ⟨q1, q2, -⟩ | ⟨q1, q2, q3, q4⟩
  · refine ⟨by omega, by omega, by omega, by omega, fun y _ _ => by omega, fun _ => ⟨by omega, q1⟩, fun q => by omega⟩
  · have hx10 : n = 10 ∧ 110 ≤ x ∧ x < N ∧ x ≠ tnC τ ∧ ∀ m : Int, 0 ≤ m → m < 10 → x ≠ mnC τ m := by
      rcases hx with q | q
      · omega
      · exact q
    refine ⟨by omega, by omega, by omega, by omega, fun y _ _ => by have := q3.2; omega, fun q => by omega, fun _ => hx10.2⟩
/-- one more kept world -/
theorem KpX.add (h : KpX R s N x n f e τ) (hy : WK w τ y E) (hN : N ≤ y ∧ y + 6 ≤ E ∧ E ≤ nvC τ ∧ 1000 ≤ y) (hny : ∀ v, y ≤ v → v < E → NoI τ v) (hyt : ∀ v, y ≤ v → v < E → v ≠ tnC τ ∧ ∀ m : Int, 0 ≤ m → m < 10 → v ≠ mnC τ m) (hs : s ≤ 8) (ht : tnC τ < nvC τ) (hmn : ∀ m : Int, 0 ≤ m → m < 10 → mnC τ m < nvC τ) (hnv : 1000 ≤ n0C τ ∧ n0C τ ≤ nvC τ) (g : AddP kap 20 x n s 1 ((y : Nat) : Int) τ u) : ∃ x' f' e', KpX (addR R s w) (s + 1) (nvC u) x' 10 f' e' u := by
  have hxw := h.xw hnv
  obtain ⟨⟨hA, hN0⟩, hx, hr, hrr, hii, hno⟩ := h
  obtain ⟨x', n', gA, g1, g2, g3, ⟨z0, ⟨z1, z1'⟩, z2, z3⟩, g5⟩ := g
  have hxN : x < N ∨ x = 3 := by
    rcases hx with q | q
    · exact Or.inr (hxw.2.2.2.2.2.1 q).2
    · exact Or.inl q.2.2.1
  have hn' : n' = 10 ∧ ((x' = x ∧ n = 10) ∨ x' = nvC τ) := by
    rcases g3 with ⟨q1, q2, q3, -⟩ | ⟨q1, q2, q3, q4, -⟩
    · rcases hx with q | q
      · omega
      · exact ⟨by omega, Or.inl ⟨q1, q.1⟩⟩
    · rcases hx with q | q
      · exact ⟨q4 (by omega), Or.inr q1⟩
      · omega
  obtain ⟨rfl, hx'⟩ := hn'
  have e18 : tnC u = tnC τ := by unfold tnC; rw [z3 18 (by omega) (by decide) (Ne.symm hxw.2.1)]
  have e103 : ∀ m, mnC u m = mnC τ m := fun m => by unfold mnC; rw [z3 103 (by omega) (by decide) (Ne.symm hxw.2.2.1)]
  have hx10 : 10 ≠ x := by
    rcases hx with q | q
    · have := (hxw.2.2.2.2.2.1 q).2; omega
    · have := q.2.1; omega
  have hz : ∀ y, 1000 ≤ y → y < n0C τ → u.2.1 y = τ.2.1 y ∧ sg u y = sg τ y := fun y y1 y2 => ⟨z2 y (by omega), z3 y (by omega) (by omega) (hxw.2.2.2.2.1 y y1 y2)⟩
  have hx1 : 110 ≤ x' ∧ x' < nvC u ∧ x' ≠ tnC u ∧ ∀ m : Int, 0 ≤ m → m < 10 → x' ≠ mnC u m := by
    rw [e18]
    have hu : x' < nvC u := by
      rcases hx' with ⟨q1, q2⟩ | q
      · have := (hxw.2.2.2.2.2.2 q2).2.1
        omega
      · rcases g3 with ⟨q1, -, -, q5, -⟩ | ⟨-, -, -, -, q5⟩ <;> omega
    rcases hx' with ⟨q1, q2⟩ | q
    · have q3 := hxw.2.2.2.2.2.2 q2
      exact ⟨by omega, hu, by omega, fun m m0 m1 => by rw [e103 m, q1]; exact q3.2.2.2 m m0 m1⟩
    · exact ⟨by omega, hu, by omega, fun m m0 m1 => by rw [e103 m]; have := hmn m m0 m1; omega⟩
  refine ⟨x', fun r => if r = s then y else f r, fun r => if r = s then E else e r, ⟨gA, Nat.le_refl _⟩, Or.inr ⟨rfl, hx1⟩, fun r hrs => ?_, fun r r' h1 h2 => ?_, hii.fr z0 (by rw [z3 10 (by omega) (by decide) hx10]) hz, fun r v hr2 v1 v2 => ?_⟩
  · unfold addR
    dsimp only
    by_cases q : r = s
    · rw [if_pos q, if_pos q, if_pos q]
      subst q
      refine ⟨g2, hy.fr hN.2.1 (by omega) (fun v v1 v2 => ⟨z2 v (by omega), z3 v (by omega) (by omega) (by omega)⟩) z0 hz, hN.2.1, hN.2.2.2, by omega, fun v v1 v2 => ⟨by omega, by rw [e18]; exact (hyt v v1 v2).1, fun m m0 m1 => by rw [e103]; exact (hyt v v1 v2).2 m m0 m1⟩⟩
    · rw [if_neg q, if_neg q, if_neg q]
      obtain ⟨r1, r2, r3, r4, r5, r6⟩ := hr r (by omega)
      refine ⟨(g1 r (by omega)).trans r1, r2.fr r3 (by omega) (fun v v1 v2 => ⟨z2 v (by omega), z3 v (by omega) (by omega) (r6 v v1 v2).1⟩) z0 hz, r3, r4, by omega, fun v v1 v2 => ⟨?_, by rw [e18]; exact (r6 v v1 v2).2.1, fun m m0 m1 => by rw [e103]; exact (r6 v v1 v2).2.2 m m0 m1⟩⟩
      have := (r6 v v1 v2).1
      omega
  · show (if r = s then E else e r) ≤ (if r' = s then y else f r')
    rw [if_neg (by omega)]
    by_cases q : r' = s
    · rw [if_pos q]
      have := (hr r (by omega)).2.2.2.2.1
      omega
    · rw [if_neg q]
      exact hrr r r' h1 (by omega)
  · have h10 : sg u 10 20 = sg τ 10 20 := by rw [z3 10 (by omega) (by decide) hx10]
    by_cases q : r = s
    · have v1' : y ≤ v := by simpa [q] using v1
      exact (hny v v1' (by simpa [q] using v2)).fr hii h10 hz
    · have v1' : f r ≤ v := by simpa [q] using v1
      have v2' : v < e r := by simpa [q] using v2
      exact (hno r v (by omega) v1' v2').fr hii h10 hz
/-- the oldest taken away -/
theorem KpX.rm (h : KpX R (s + 1) N x 10 f e τ) (hnv : 1000 ≤ n0C τ ∧ n0C τ ≤ nvC τ) (g : RmP kap 20 x 10 (s + 1) 1 τ u) : KpX (fun r => R (r + 1)) s N x 10 (fun r => f (r + 1)) (fun r => e (r + 1)) u := by
  have hxw := h.xw hnv
  obtain ⟨⟨hA, hN0⟩, hx, hr, hrr, hii, hno⟩ := h
  obtain ⟨gA, g1, ⟨z0, z1, -⟩, z2, z3⟩ := g
  have hx10 := hxw.2.2.2.2.2.2 rfl
  have e18 : tnC u = tnC τ := by unfold tnC; rw [z3 18 (by decide) (Ne.symm hxw.2.1)]
  have e103 : ∀ m, mnC u m = mnC τ m := fun m => by unfold mnC; rw [z3 103 (by decide) (Ne.symm hxw.2.2.1)]
  have hz : ∀ y, 1000 ≤ y → y < n0C τ → u.2.1 y = τ.2.1 y ∧ sg u y = sg τ y := fun y y1 y2 => ⟨z2 y, z3 y (by omega) (hxw.2.2.2.2.1 y y1 y2)⟩
  refine ⟨⟨gA, by omega⟩, Or.inr ⟨rfl, hx10.1, hx10.2.1, by rw [e18]; exact hx10.2.2.1, fun m m0 m1 => by rw [e103]; exact hx10.2.2.2 m m0 m1⟩, fun r hrs => ?_, fun r r' h1 h2 => hrr (r + 1) (r' + 1) (by omega) (by omega), hii.fr z0 (by rw [z3 10 (by decide) (by omega)]) hz, fun r v a b c => (hno (r + 1) v (by omega) b c).fr hii (by rw [z3 10 (by decide) (by omega)]) hz⟩
  obtain ⟨r1, r2, r3, r4, r5, r6⟩ := hr (r + 1) (by omega)
  refine ⟨(g1 r (by omega)).trans r1, r2.fr r3 (by omega) (fun v v1 v2 => ⟨z2 v, z3 v (by omega) (r6 v v1 v2).1⟩) z0 hz, r3, r4, r5, fun v v1 v2 => ⟨(r6 v v1 v2).1, by rw [e18]; exact (r6 v v1 v2).2.1, fun m m0 m1 => by rw [e103]; exact (r6 v v1 v2).2.2 m m0 m1⟩⟩
end KEP2
