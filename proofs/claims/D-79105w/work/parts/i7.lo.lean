/-! ROWS THAT ARE EQUAL BELOW 258; shapes at names below a bound -/
set_option maxRecDepth 100000
/-- a shape's cells at names below N -/
def ShN (N : Nat) (τ : CT) (w : Nat → Int) (s : Int) (y : Nat) : Prop := (1000 ≤ y ∧ y < N ∧ τ.2.1 y = some shK) ∧ (sg τ y 2 = ancF w s ∧ sg τ y 0 = ((y + 1 : Nat) : Int) ∧ sg τ y 1 = ((y + 2 : Nat) : Int)) ∧ (1000 ≤ (sg τ y 0).toNat ∧ (sg τ y 0).toNat < N ∧ τ.2.1 (sg τ y 0).toNat = some (ckI 0 (sltF w s).toNat)) ∧ (1000 ≤ (sg τ y 1).toNat ∧ (sg τ y 1).toNat < N ∧ τ.2.1 (sg τ y 1).toNat = some (ckI 0 (sltF w s).toNat)) ∧ ∀ k : Int, 0 ≤ k → k < sltF w s → sg τ (sg τ y 0).toNat k.toNat = colF w s k ∧ sg τ (sg τ y 1).toNat k.toNat = rowF w s k
def ShNA (N : Nat) (τ : CT) (a : Nat) (w : Nat → Int) : Prop := ∀ s : Int, 0 ≤ s → s < 3 → (0 < sltF w s → ShN N τ w s (sg τ a s.toNat).toNat) ∧ (¬ 0 < sltF w s → sg τ a s.toNat = 0)
/-- the class stands as the row says; shapes may be new -/
def SIw (w : Nat → Int) (C : Int) (u : CT) : Prop := (Wd w u ∧ TnK u ∧ ShNA (nvC u) u 104 w) ∧ IR w ∧ WS w ∧ SH w ∧ bdW C w
section LOW
variable {w w' : Nat → Int} {R R' : Nat → Nat → Int} {τ t u : CT} {m c v C x s f e A P p Y : Int} {i j k a b z y q n N : Nat}
theorem ShC.toN {s : Int} (h : ShC τ w s y) : ShN (n0C τ) τ w s y := h
theorem ShN.up {s : Int} (h : ShN n τ w s y) (hn : n ≤ N) : ShN N τ w s y := by
  obtain ⟨⟨h1, h2, h3⟩, h4, ⟨h5, h6, h7⟩, ⟨h8, h9, h10⟩, h11⟩ := h
  exact ⟨⟨h1, by omega, h3⟩, h4, ⟨h5, by omega, h7⟩, ⟨h8, by omega, h10⟩, h11⟩
theorem WC.cg {x a0 a1 a2 a4 : Nat} (h : WC τ x a0 a1 a2 a4 w) (h0 : w 0 ≤ 10) (e : ∀ i, i < 192 → w' i = w i) : WC τ x a0 a1 a2 a4 w' := by
  obtain ⟨c1, c2, c3, c4, c5, c6⟩ := h
  have hcel : ∀ m, 0 ≤ m → m ≤ 9 → celF w' m = celF w m := fun m m0 m1 => e _ (by omega)
  have hM := isM_congr (e 0 (by decide)) h0 (fun m m0 m1 => by rw [hcel m m0 m1])
  have hon := onF_congr (e 0 (by decide)) h0 hcel
  refine ⟨fun c c0 c1' => ?_, fun m m0 m1 => ?_, fun k k0 k1 => ?_, ?_, ?_, ?_⟩
  · rw [hon c, e _ (by omega)]; exact c1 c c0 c1'
  · refine ⟨fun q => ?_, fun q => (c2 m m0 m1).2 (fun q' => q ((hM m).mpr q'))⟩
    obtain ⟨p1, p4, p5, p6, p7, p8, p9, p10⟩ := (c2 m m0 m1).1 ((hM m).mp q)
    refine ⟨p1, p4, ?_⟩
    rw [hcel m m0 (by omega), e _ (by omega), e _ (by omega), e _ (by omega), e _ (by omega), e _ (by omega)]
    exact ⟨p5, p6, p7, p8, p9, p10⟩
  · rw [c3 k k0 k1]
    unfold accF
    rw [oF_congr 120 0 (by omega) (fun j j0 j1 => e _ (by omega)), e _ (by omega)]
  · rw [c4]; unfold ldC; rw [e 1 (by decide)]
  · rw [c5]; unfold tgC; rw [e 2 (by decide)]
  · rw [c6, e 3 (by decide)]
theorem IR.cg (h : IR w) (e : ∀ i, i < 192 → w' i = w i) : IR w' := by
  obtain ⟨i1, i2, i3, i4⟩ := h
  have hcel : ∀ m, 0 ≤ m → m ≤ 9 → celF w' m = celF w m := fun m m0 m1 => e _ (by omega)
  have hM := isM_congr (e 0 (by decide)) i1.2 (fun m m0 m1 => by rw [hcel m m0 m1])
  refine ⟨by rw [e 0 (by decide)]; exact i1, fun m m' q q' => ?_, fun c c0 c1 => by rw [e _ (by omega)]; exact i3 c c0 c1, fun m m0 m1 => by rw [hcel m m0 m1]; exact i4 m m0 m1⟩
  have a1 := isM_le ((hM m).mp q) i1.2
  have a2 := isM_le ((hM m').mp q') i1.2
  rw [hcel m a1.1 a1.2, hcel m' a2.1 a2.2]
  exact i2 m m' ((hM m).mp q) ((hM m').mp q')
theorem Wd.cg (h : Wd w τ) (h0 : w 0 ≤ 10) (e : ∀ i, i < 192 → w' i = w i) : Wd w' τ :=
  ⟨h.1.cg h0 e, fun m q m0 m1 => h.2 m ((isM_congr (e 0 (by decide)) h0 (fun m m0 m1 => by unfold celF; rw [e _ (by omega)]) m).mp q) m0 m1⟩
theorem lo_sh (e : LO w w') (hx : 0 ≤ x ∧ x ≤ 2) : sltF w' x = sltF w x ∧ ancF w' x = ancF w x ∧ (0 ≤ ancF w x ∧ ancF w x ≤ 9 → ∀ k, 0 ≤ k → k ≤ 9 → colF w' x k = colF w x k ∧ rowF w' x k = rowF w x k) := by
  have e1 : ancF w' x = ancF w x := e _ (by omega)
  refine ⟨e _ (by omega), e1, fun ha k k0 k1 => ?_⟩
  unfold colF rowF
  rw [e1, e _ (by omega), e _ (by omega), e _ (by omega), e _ (by omega)]
  exact ⟨rfl, rfl⟩
theorem SH.lo (h : SH w) (e : LO w w') : SH w' := fun x x0 x1 => by
  have := lo_sh e ⟨x0, x1⟩
  rw [this.1, this.2.1]
  exact h x x0 x1
theorem CRD.lo (h : CRD w) (hS : SH w) (e : LO w w') : CRD w' := fun x x0 x1 => by
  have ho := lo_sh e ⟨x0, x1⟩
  have hs := hS x x0 x1
  have hc := h x x0 x1
  have hcr := ho.2.2 hs.2
  refine ⟨fun k k0 k1 => ?_, fun s s' s0 s1 s2 s3 q1 q2 => ?_⟩
  · rw [ho.1] at k1
    rw [(hcr k k0 (by omega)).1, (hcr k k0 (by omega)).2]
    exact hc.1 k k0 k1
  · rw [ho.1] at s1 s3
    rw [(hcr s s0 (by omega)).1, (hcr s' s2 (by omega)).1] at q1
    rw [(hcr s s0 (by omega)).2, (hcr s' s2 (by omega)).2] at q2
    exact hc.2 s s' s0 s1 s2 s3 q1 q2
theorem ShNA.cg (h : ShNA N τ a w) (hS : SH w) (e : ∀ x, 0 ≤ x → x ≤ 2 → sltF w' x = sltF w x ∧ ancF w' x = ancF w x ∧ (0 ≤ ancF w x ∧ ancF w x ≤ 9 → ∀ k, 0 ≤ k → k ≤ 9 → colF w' x k = colF w x k ∧ rowF w' x k = rowF w x k)) : ShNA N τ a w' := fun s s0 s1 => by
  have ho := e s s0 (by omega)
  have hs := hS s s0 (by omega)
  have hcr := ho.2.2 hs.2
  rw [ho.1]
  refine ⟨fun q => ?_, (h s s0 s1).2⟩
  have := (h s s0 s1).1 q
  unfold ShN at *
  rw [ho.1, ho.2.1]
  refine ⟨this.1, this.2.1, this.2.2.1, this.2.2.2.1, fun k k0 k1 => ?_⟩
  rw [(hcr k k0 (by omega)).1, (hcr k k0 (by omega)).2]
  exact this.2.2.2.2 k k0 k1
theorem SI.lo (h : SI w C t) (e : LO w w') (hb : bdW C w') : SI w' C t := by
  have hS := e.ws h.2.2.1
  have hSh : ShNA (n0C t) t 104 w := h.1.2.2
  exact ⟨⟨h.1.1.cg h.2.1.1.2 (fun i hi => e i (by omega)), h.1.2.1, hSh.cg h.2.2.2.1 (fun x x0 x1 => lo_sh e ⟨x0, x1⟩)⟩, h.2.1.cg (fun i hi => e i (by omega)), hS, h.2.2.2.1.lo e, hb⟩
theorem SIw.lo (h : SIw w C t) (e : LO w w') (hb : bdW C w') : SIw w' C t :=
  ⟨⟨h.1.1.cg h.2.1.1.2 (fun i hi => e i (by omega)), h.1.2.1, h.1.2.2.cg h.2.2.2.1 (fun x x0 x1 => lo_sh e ⟨x0, x1⟩)⟩, h.2.1.cg (fun i hi => e i (by omega)), e.ws h.2.2.1, h.2.2.2.1.lo e, hb⟩
theorem SI.toW (h : SI w C t) (hn : n0C t ≤ nvC t) : SIw w C t := ⟨⟨h.1.1, h.1.2.1, fun s s0 s1 => ⟨fun q => ((h.1.2.2 s s0 s1).1 q).toN.up hn, (h.1.2.2 s s0 s1).2⟩⟩, h.2⟩
theorem WK.lo {x e : Nat} (h : WK w t x e) (hl : LO w w') (h0 : w 0 ≤ 10) (hS : SH w) : WK w' t x e := by
  obtain ⟨h1, h2, h3, h4, h5, h6⟩ := h
  have hcel : ∀ m, 0 ≤ m → m ≤ 9 → celF w' m = celF w m := fun m m0 m1 => hl _ (by omega)
  have hM := isM_congr (hl 0 (by decide)) h0 (fun m m0 m1 => by rw [hcel m m0 m1])
  have h5' : ShNA (n0C t) t (x + 4) w := h5
  exact ⟨h1, h2, h3, h4.cg h0 (fun i hi => hl i (by omega)), h5'.cg hS (fun x x0 x1 => lo_sh hl ⟨x0, x1⟩), fun m m0 m1 q => h6 m m0 m1 ((hM m).mp q)⟩
/-- the kept rows may be others above 258 -/
theorem Kp.lo (h : Kp R s.toNat t) (hl : ∀ r, r < s.toNat → LO (R r) (R' r)) (h0 : ∀ r, r < s.toNat → R r 0 ≤ 10 ∧ SH (R r)) : Kp R' s.toNat t := by
  obtain ⟨x, n, f, e, h1, h2, h3, h4⟩ := h
  exact ⟨x, n, f, e, h1, h2, fun r hr => by
    obtain ⟨r1, r2, r3⟩ := h3 r hr
    exact ⟨r1, r2.lo (hl r hr) (h0 r hr).1 (h0 r hr).2, r3⟩, h4⟩
theorem LO.tr (h : LO w w') {w2 : Nat → Int} (g : LO w' w2) : LO w w2 := fun i hi => (g i hi).trans (h i hi)
theorem LO.sy (h : LO w w') : LO w' w := fun i hi => (h i hi).symm
end LOW
