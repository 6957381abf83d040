/-! NORMAL FORM: from what calls leave -/
set_option maxRecDepth 100000
section NXO
variable {w : Nat → Int} {C : Int} {R : Nat → Nat → Int} {s x N n xa : Nat} {f e : Nat → Nat} {u t : CT} {y : Nat}
theorem NoI.lo (h : ImI u) (hy : 0 < y) (hw : y < 1000 ∨ n0C u ≤ y) : NoI u y := by
  rcases h with q1 | ⟨q1, q2, q3⟩
  · exact Or.inl q1
  · exact Or.inr ⟨by omega, fun m m0 m1 => by have := q3 m m0 m1; omega⟩
theorem NX.ub (h : SIw w C u) (hK : Kp R s u) (h1 : (sg u 10 1).toNat = 100) (hi : ImI (unb N u)) (hn : 1000 ≤ N ∧ N ≤ n0C u ∧ n0C u ≤ nvC u) : NX w C R s 100 (unb N u) := by
  obtain ⟨⟨hW, ⟨nT, sT, ⟨⟨ta, tb⟩, t1, t6⟩, t7, t8⟩, hSh⟩, hI⟩ := h
  obtain ⟨xa, n, f, e, ⟨⟨⟨ka, wa⟩, e1, hxx, hel⟩, -⟩, h3, h4, h5, h6, h7⟩ := hK
  have hwr : ∀ y, wrC u y → wrC (unb N u) y := fun y hy => ⟨hy.1, by
    rcases hy.2 with q | q
    · exact Or.inl q
    · right; show N ≤ y; omega⟩
  have hno : ∀ y, wrC u y → NoI (unb N u) y := fun y hy => NoI.lo hi (by have := hy.1; omega) (hwr y hy).2
  have hT : TnK (unb N u) := by
    refine ⟨nT, sT, ⟨⟨ta, hwr _ tb⟩, t1, ?_⟩, t7, t8⟩
    rcases t6 with q | ⟨q1, q2, q3, q4⟩
    · exact Or.inl q
    · exact Or.inr ⟨q1, q2, hwr _ q3, q4⟩
  refine ⟨⟨h1, Or.inl rfl⟩, hW.1, hSh, hI, hT, xa, n, f, e, ⟨⟨⟨ka, hwr _ wa⟩, e1, ?_, hel⟩, ?_⟩, fun r hr => ?_, h5, ⟨hi, h7⟩, fun m q m0 m1 => hno _ (hW.2 m q m0 m1), fun q => ?_, fun q => ?_, Or.inl rfl⟩
  · rcases hxx with q | ⟨q1, q2, q3, q4⟩
    · exact Or.inl q
    · exact Or.inr ⟨q1, q2, hwr _ q3, q4⟩
  · rcases h3 with q | ⟨q1, q2, q3, q4, q5⟩
    · exact Or.inl q
    · exact Or.inr ⟨q1, q2, q3, q4⟩
  · obtain ⟨r1, r2, r3, r4, r5, r6⟩ := h4 r hr
    exact ⟨⟨r1, r2.toN.up hn.2.2, r3, r4, r5⟩, fun y y1 y2 => ⟨(r6 y y1 y2).1, (r6 y y1 y2).2.1, fun m _ m0 m1 => (r6 y y1 y2).2.2 m m0 m1, Or.inl rfl⟩⟩
  · rcases t6 with ⟨q1, -⟩ | ⟨q1, q2, q3, q4⟩
    · have : tnC u = 3 := q1
      have h9 : 110 ≤ tnC u := q
      omega
    · exact hno _ q3
  · rcases hxx with ⟨-, q1, -⟩ | ⟨q1, q2, q3, q4⟩
    · omega
    · exact hno _ q3
theorem NX.of (h : SIw w C u) (hK : Kp R s u) (h1 : (sg u 10 1).toNat = 100) (hn : 1000 ≤ n0C u ∧ n0C u ≤ nvC u) : NX w C R s 100 u := by
  have hi : ImI u := by obtain ⟨x, n, f, e, hX⟩ := hK; exact hX.2.2.2.2.1
  exact NX.ub (N := n0C u) h hK h1 hi ⟨hn.1, Nat.le_refl _, hn.2⟩
/-- a kept world becomes the present one: the list's other worlds stay -/
theorem NX.wo (hWK : WKn (nvC u) w u x y) (hx : 1000 ≤ x ∧ x + 6 ≤ y ∧ y ≤ nvC u) (h1 : (sg u 10 1).toNat = x) (hI : IR w ∧ WS w ∧ SH w ∧ bdW C w) (hT : TnK u) (hA : ALs kap u 20 xa n s 1) (hxa : n = 0 ∨ n = 10 ∧ 110 ≤ xa ∧ xa < nvC u ∧ xa ≠ tnC u) (hr : ∀ r, r < s → (sg u xa r = ((f r : Nat) : Int) ∧ WKn (nvC u) (R r) u (f r) (e r) ∧ f r + 6 ≤ e r ∧ 1000 ≤ f r ∧ e r ≤ nvC u ∧ e r ≤ x) ∧ ∀ y, f r ≤ y → y < e r → y ≠ xa ∧ y ≠ tnC u) (hrr : ∀ r r', r < r' → r' < s → e r ≤ f r') (hi : ImI u) (hno : ∀ r y, r < s → f r ≤ y → y < e r → NoI u y) (hnx : ∀ v, x ≤ v → v < y → NoI u v) : NX w C R s x u := by
  obtain ⟨k0, r5, ⟨k1, k2, k3, k4, k5⟩, hW, hSh, hlt⟩ := hWK
  have hmx : ∀ m : Int, isM w m → 0 ≤ m → m < 10 → x + 6 ≤ mxC u x m ∧ mxC u x m < y := fun m q m0 m1 => hlt m m0 m1 q
  have hwr : ∀ v, wrC u v → NoI u v := fun v hv => NoI.lo hi (by have := hv.1; omega) hv.2
  have hT2 := hT
  obtain ⟨nT, sT, ⟨-, -, t6⟩, t7, t8⟩ := hT2
  refine ⟨⟨h1, Or.inr ⟨hx.1, by omega, k0, r5, k1, k2, k3, k4, k5⟩⟩, hW, hSh, hI, hT, xa, n, f, e, ⟨hA, hxa⟩, fun r hr0 => ?_, hrr, ⟨hi, hno⟩, fun m q m0 m1 => hnx _ (by have := hmx m q m0 m1; omega) (hmx m q m0 m1).2, fun q => ?_, fun q => ?_, Or.inr (fun j hj => hnx _ (by omega) (by omega))⟩
  · obtain ⟨⟨g1, g2, g3, g4, g5, g6⟩, g7⟩ := hr r hr0
    exact ⟨⟨g1, g2, g3, g4, g5⟩, fun v v1 v2 => ⟨(g7 v v1 v2).1, (g7 v v1 v2).2, fun m q m0 m1 => by have := hmx m q m0 m1; omega, Or.inr (Or.inl (by omega))⟩⟩
  · rcases t6 with ⟨q1, -⟩ | ⟨q1, q2, q3, q4⟩
    · omega
    · exact hwr _ q3
  · rcases hA.2.2.1 with ⟨-, q1, -⟩ | ⟨q1, q2, q3, q4⟩
    · omega
    · exact hwr _ q3
end NXO
