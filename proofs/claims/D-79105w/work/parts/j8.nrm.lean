/-! NORMAL FORM: the present world at its own names, members, turns and the kept list at low names, all else frozen -/
set_option maxRecDepth 100000
abbrev mxC (u : CT) (x : Nat) (m : Int) : Nat := (sg u (x + 3) m.toNat).toNat
/-- a kept world, its shapes at names below N -/
def WKn (N : Nat) (w : Nat → Int) (u : CT) (x e : Nat) : Prop := u.2.1 x = some woR ∧ (∀ j, j < 5 → sg u x j = ((x + 1 + j : Nat) : Int)) ∧ (u.2.1 (x + 1) = some (ckI 1 120) ∧ u.2.1 (x + 2) = some (ckI 0 120) ∧ u.2.1 (x + 3) = some (ckR 1 10) ∧ u.2.1 (x + 4) = some (ckR 2 3) ∧ u.2.1 (x + 5) = some (ckI 0 8)) ∧ WC u x (x + 1) (x + 2) (x + 3) (x + 5) w ∧ ShNA N u (x + 4) w ∧ (∀ m : Int, 0 ≤ m → m < 10 → isM w m → x + 6 ≤ (sg u (x + 3) m.toNat).toNat ∧ (sg u (x + 3) m.toNat).toNat < e)
theorem WK.toN {w : Nat → Int} {u : CT} {x e : Nat} (h : WK w u x e) : WKn (n0C u) w u x e := h
theorem WKn.up {w : Nat → Int} {u : CT} {x e N M : Nat} (h : WKn N w u x e) (hN : N ≤ M) : WKn M w u x e := ⟨h.1, h.2.1, h.2.2.1, h.2.2.2.1, fun s s0 s1 => ⟨fun q => ((h.2.2.2.2.1 s s0 s1).1 q).up hN, (h.2.2.2.2.1 s s0 s1).2⟩, h.2.2.2.2.2⟩
/-- the planner's world stands at x -/
def WX (u : CT) (x : Nat) : Prop := (sg u 10 1).toNat = x ∧ (x = 100 ∨ (1000 ≤ x ∧ x + 6 ≤ nvC u ∧ u.2.1 x = some woR ∧ (∀ j, j < 5 → sg u x j = ((x + 1 + j : Nat) : Int)) ∧ u.2.1 (x + 1) = some (ckI 1 120) ∧ u.2.1 (x + 2) = some (ckI 0 120) ∧ u.2.1 (x + 3) = some (ckR 1 10) ∧ u.2.1 (x + 4) = some (ckR 2 3) ∧ u.2.1 (x + 5) = some (ckI 0 8)))
/-- the kept worlds, the present one at x -/
def KN (w : Nat → Int) (R : Nat → Nat → Int) (s x xa n : Nat) (f e : Nat → Nat) (u : CT) : Prop := (ALs kap u 20 xa n s 1 ∧ (n = 0 ∨ n = 10 ∧ 110 ≤ xa ∧ xa < nvC u ∧ xa ≠ tnC u)) ∧ (∀ r, r < s → (sg u xa r = ((f r : Nat) : Int) ∧ WKn (nvC u) (R r) u (f r) (e r) ∧ f r + 6 ≤ e r ∧ 1000 ≤ f r ∧ e r ≤ nvC u) ∧ ∀ y, f r ≤ y → y < e r → y ≠ xa ∧ y ≠ tnC u ∧ (∀ m : Int, isM w m → 0 ≤ m → m < 10 → y ≠ mxC u x m) ∧ (x = 100 ∨ y < x ∨ x + 6 ≤ y)) ∧ (∀ r r', r < r' → r' < s → e r ≤ f r') ∧ (ImI u ∧ ∀ r y, r < s → f r ≤ y → y < e r → NoI u y) ∧ ((∀ m : Int, isM w m → 0 ≤ m → m < 10 → NoI u (mxC u x m)) ∧ (110 ≤ tnC u → NoI u (tnC u)) ∧ (n = 10 → NoI u xa) ∧ (x = 100 ∨ ∀ j, j < 6 → NoI u (x + j)))
def NX (w : Nat → Int) (C : Int) (R : Nat → Nat → Int) (s x : Nat) (u : CT) : Prop := WX u x ∧ WC u x (x + 1) (x + 2) (x + 3) (x + 5) w ∧ ShNA (nvC u) u (x + 4) w ∧ (IR w ∧ WS w ∧ SH w ∧ bdW C w) ∧ TnK u ∧ ∃ xa n f e, KN w R s x xa n f e u
/-- targets and sources -/
def aF (i : Nat) : Nat := if i < 6 then 100 + i else 104 + i
def bF (w : Nat → Int) (u : CT) (x xa nT n : Nat) (i : Nat) : Nat := if i < 6 then x + i else if i < 16 then (if isM w ((i : Int) - 6) then mxC u x ((i : Int) - 6) else 60 + i) else if i = 16 then (if nT = 10 then tnC u else 60 + i) else (if n = 10 then xa else 60 + i)
/-- a kind without constants -/
def ckN : CK → Bool
  | .inl _ => true
  | .inr (.inl (_, _, none)) => true
  | .inr (.inl (_, _, some _)) => false
  | .inr (.inr (_, fs)) => fs.all (fun q => match q with
    | some (some _) => false
    | _ => true)
theorem ckN_F {ρ : Nat → Nat} {k : CK} (h : ckN k = true) : ckF ρ k := by
  rcases k with ⟨t, n, g⟩ | ⟨t, n, g⟩ | ⟨ci, fs⟩
  · cases g <;> trivial
  · cases g with
    | none => trivial
    | some g => cases h
  · intro x hx
    have := List.all_eq_true.mp h _ hx
    cases this
section NRM
variable {w : Nat → Int} {C : Int} {R : Nat → Nat → Int} {s x xa nT n N : Nat} {f e : Nat → Nat} {u : CT} {E : CE} {h : MH} {m : Int}
theorem mx_cel (hW : WC u x (x + 1) (x + 2) (x + 3) (x + 5) w) (hm : isM w m) (h0 : w 0 ≤ 10) : MemC u w m (mxC u x m) := by
  have := isM_le hm h0
  exact (hW.2.1 m this.1 (by omega)).1 hm
/-- the present world's kinds -/
theorem wx_kd (hX : WX u x) : ∀ i, i < 6 → ∃ k, kd kapR u (x + i) = some k ∧ k ≠ memK ∧ k ≠ ckR 0 10 := by
  intro i hi
  rcases hX.2 with q | ⟨h1, h2, k0, -, k1, k2, k3, k4, k5⟩
  · rw [q]
    rcases (show i = 0 ∨ i = 1 ∨ i = 2 ∨ i = 3 ∨ i = 4 ∨ i = 5 by omega) with r | r | r | r | r | r <;> subst r
    · exact ⟨woK, rfl, (by intro q; cases q), (by intro q; cases q)⟩
    · exact ⟨ckI 1 120, rfl, (by intro q; cases q), (by intro q; cases q)⟩
    · exact ⟨ckI 0 120, rfl, (by intro q; cases q), (by intro q; cases q)⟩
    · exact ⟨ckR 1 10, rfl, (by intro q; cases q), (by intro q; cases q)⟩
    · exact ⟨ckR 2 3, rfl, (by intro q; cases q), (by intro q; cases q)⟩
    · exact ⟨ckI 0 8, rfl, (by intro q; cases q), (by intro q; cases q)⟩
  · rcases (show i = 0 ∨ i = 1 ∨ i = 2 ∨ i = 3 ∨ i = 4 ∨ i = 5 by omega) with r | r | r | r | r | r <;> subst r
    · exact ⟨woR, kd_dyn (by omega) k0, (by intro q; cases q), (by intro q; cases q)⟩
    · exact ⟨ckI 1 120, kd_dyn (by omega) k1, (by intro q; cases q), (by intro q; cases q)⟩
    · exact ⟨ckI 0 120, kd_dyn (by omega) k2, (by intro q; cases q), (by intro q; cases q)⟩
    · exact ⟨ckR 1 10, kd_dyn (by omega) k3, (by intro q; cases q), (by intro q; cases q)⟩
    · exact ⟨ckR 2 3, kd_dyn (by omega) k4, (by intro q; cases q), (by intro q; cases q)⟩
    · exact ⟨ckI 0 8, kd_dyn (by omega) k5, (by intro q; cases q), (by intro q; cases q)⟩
/-- what the sources are -/
theorem bF_k (hX : WX u x) (hW : WC u x (x + 1) (x + 2) (x + 3) (x + 5) w) (h0 : w 0 ≤ 10) (hT : nT = 10 → 110 ≤ tnC u ∧ tnC u < nvC u ∧ u.2.1 (tnC u) = some (ckR 0 10)) (hK : n = 10 → 110 ≤ xa ∧ xa < nvC u ∧ u.2.1 xa = some (ckR 0 10)) (hnv : 1000 ≤ nvC u) : ∀ i, i < 18 → (i < 6 ∧ bF w u x xa nT n i = x + i) ∨ (6 ≤ i ∧ i < 16 ∧ isM w ((i : Int) - 6) ∧ bF w u x xa nT n i = mxC u x ((i : Int) - 6) ∧ MemC u w ((i : Int) - 6) (mxC u x ((i : Int) - 6))) ∨ (i = 16 ∧ nT = 10 ∧ bF w u x xa nT n i = tnC u) ∨ (i = 17 ∧ n = 10 ∧ bF w u x xa nT n i = xa) ∨ (6 ≤ i ∧ bF w u x xa nT n i = 60 + i ∧ (i < 16 → ¬ isM w ((i : Int) - 6)) ∧ (i = 16 → nT ≠ 10) ∧ (i = 17 → n ≠ 10)) := by
  intro i hi
  unfold bF
  by_cases h1 : i < 6
  · rw [if_pos h1]; exact Or.inl ⟨h1, rfl⟩
  · rw [if_neg h1]
    by_cases h2 : i < 16
    · rw [if_pos h2]
      by_cases h3 : isM w ((i : Int) - 6)
      · rw [if_pos h3]; exact Or.inr (Or.inl ⟨by omega, h2, h3, rfl, mx_cel hW h3 h0⟩)
      · rw [if_neg h3]; exact Or.inr (Or.inr (Or.inr (Or.inr ⟨by omega, rfl, fun _ => h3, fun q => by omega, fun q => by omega⟩)))
    · rw [if_neg h2]
      by_cases h3 : i = 16
      · rw [if_pos h3]
        by_cases h4 : nT = 10
        · rw [if_pos h4]; exact Or.inr (Or.inr (Or.inl ⟨h3, h4, rfl⟩))
        · rw [if_neg h4]; exact Or.inr (Or.inr (Or.inr (Or.inr ⟨by omega, rfl, fun q => absurd q h2, fun _ => h4, fun q => by omega⟩)))
      · rw [if_neg h3]
        by_cases h4 : n = 10
        · rw [if_pos h4]; exact Or.inr (Or.inr (Or.inr (Or.inl ⟨by omega, h4, rfl⟩)))
        · rw [if_neg h4]; exact Or.inr (Or.inr (Or.inr (Or.inr ⟨by omega, rfl, fun q => absurd q h2, fun q => absurd q h3, fun _ => h4⟩)))
theorem bF_inj (hX : WX u x) (hW : WC u x (x + 1) (x + 2) (x + 3) (x + 5) w) (h0 : w 0 ≤ 10) (hT : nT = 10 → 110 ≤ tnC u ∧ tnC u < nvC u ∧ u.2.1 (tnC u) = some (ckR 0 10)) (hK : n = 10 → 110 ≤ xa ∧ xa < nvC u ∧ u.2.1 xa = some (ckR 0 10)) (hnv : 1000 ≤ nvC u) (hne : n = 10 → xa ≠ tnC u) : ∀ i j, i < 18 → j < 18 → bF w u x xa nT n i = bF w u x xa nT n j → i = j := by
  have hx : 100 ≤ x := by rcases hX.2 with q | q <;> omega
  have hk6 := wx_kd hX
  have hkT : nT = 10 → kd kapR u (tnC u) = some (ckR 0 10) := fun q => kd_dyn (hT q).1 (hT q).2.2
  have hkK : n = 10 → kd kapR u xa = some (ckR 0 10) := fun q => kd_dyn (hK q).1 (hK q).2.2
  have hlt : ∀ i j, i < 18 → j < 18 → i < j → bF w u x xa nT n i ≠ bF w u x xa nT n j := by
    intro i j hi hj hij he
    have hI := bF_k hX hW h0 hT hK hnv i hi
    have hJ := bF_k hX hW h0 hT hK hnv j hj
    rcases hI with ⟨i1, i2⟩ | ⟨i0, i1, i2, i3, i4⟩ | ⟨i1, i2, i3⟩ | ⟨i1, i2, i3⟩ | ⟨i1, i2, -⟩
    · obtain ⟨k, a1, a2, a3⟩ := hk6 i i1
      rcases hJ with ⟨j1, j2⟩ | ⟨j0, j1, j2, j3, j4⟩ | ⟨j1, j2, j3⟩ | ⟨j1, j2, j3⟩ | ⟨j1, j2, -⟩
      · omega
      · have := j4.kd (T := kapR)
        rw [← j3, ← he, i2, a1] at this
        exact a2 (Option.some.inj this)
      · have := hkT j2
        rw [← j3, ← he, i2, a1] at this
        exact a3 (Option.some.inj this)
      · have := hkK j2
        rw [← j3, ← he, i2, a1] at this
        exact a3 (Option.some.inj this)
      · omega
    · have hki := i4.kd (T := kapR)
      have h110 := i4.1.1
      rcases hJ with ⟨j1, j2⟩ | ⟨j0, j1, j2, j3, j4⟩ | ⟨j1, j2, j3⟩ | ⟨j1, j2, j3⟩ | ⟨j1, j2, -⟩
      · omega
      · have e1 := i4.2.1
        have e2 := j4.2.1
        rw [← i3, he, j3, e2] at e1
        omega
      · have := hkT j2
        rw [← j3, ← he, i3, hki] at this
        cases this
      · have := hkK j2
        rw [← j3, ← he, i3, hki] at this
        cases this
      · omega
    · rcases hJ with ⟨j1, j2⟩ | ⟨j0, j1, -⟩ | ⟨j1, j2, j3⟩ | ⟨j1, j2, j3⟩ | ⟨j1, j2, -⟩
      · omega
      · omega
      · omega
      · have := hne j2; omega
      · have := (hT i2).1; omega
    · omega
    · rcases hJ with ⟨j1, j2⟩ | ⟨j0, j1, j2, j3, j4⟩ | ⟨j1, j2, j3⟩ | ⟨j1, j2, j3⟩ | ⟨j1, j2, -⟩
      · omega
      · have := j4.1.1; omega
      · have := (hT j2).1; omega
      · have := (hK j2).1; omega
      · omega
  intro i j hi hj he
  rcases Nat.lt_trichotomy i j with q | q | q
  · exact absurd he (hlt i j hi hj q)
  · exact q
  · exact absurd he.symm (hlt j i hj hi q)
end NRM
