/-! PLAIN LAW: what is read is a shape in order -/
set_option maxRecDepth 100000
/-- what is read: columns and rows in 0..5, one behind the other -/
def RdS (r : Nat → Int) : Prop := RI r ∧ r 1 < r 0 ∧ (∀ k : Int, 0 ≤ k → k < r 0 → (0 ≤ r (2 + 2 * k).toNat ∧ r (2 + 2 * k).toNat ≤ 5) ∧ 0 ≤ r (3 + 2 * k).toNat ∧ r (3 + 2 * k).toNat ≤ 5) ∧ ∀ k k' : Int, 0 ≤ k → k < k' → k' < r 0 → r (3 + 2 * k).toNat < r (3 + 2 * k').toNat ∨ (r (3 + 2 * k).toNat = r (3 + 2 * k').toNat ∧ r (2 + 2 * k).toNat < r (2 + 2 * k').toNat)
/-- all that is read lies ahead of row y, column x -/
def RdA (r : Nat → Int) (y x : Int) : Prop := ∀ k : Int, 0 ≤ k → k < r 0 → r (3 + 2 * k).toNat < y ∨ (r (3 + 2 * k).toNat = y ∧ r (2 + 2 * k).toNat < x)
section RDOK
variable {r : Nat → Int} {c x y p C : Int} {w : Nat → Int}
theorem RdS.slot (h : RdS r) (ha : RdA r y x) (h9 : r 0 ≤ 9) (hx : 0 ≤ x ∧ x ≤ 5) (hy : 0 ≤ y ∧ y ≤ 5) : RdS (slotR r c x y) ∧ RdA (slotR r c x y) y (x + 1) := by
  obtain ⟨h1, h2, h3, h4⟩ := h
  have h0 := h1.1.1
  have hk : ∀ k : Int, 0 ≤ k → k < r 0 + 1 → (k < r 0 ∧ slotR r c x y (2 + 2 * k).toNat = r (2 + 2 * k).toNat ∧ slotR r c x y (3 + 2 * k).toNat = r (3 + 2 * k).toNat) ∨ (k = r 0 ∧ slotR r c x y (2 + 2 * k).toNat = x ∧ slotR r c x y (3 + 2 * k).toNat = y) := fun k k0 k1 => by
    by_cases q : k = r 0
    · rw [q]; exact Or.inr ⟨rfl, slot_n h0⟩
    · exact Or.inl ⟨by omega, slot_k ⟨k0, by omega⟩⟩
  refine ⟨⟨h1.slot h9, ?_, fun k k0 k1 => ?_, fun k k' k0 k1 k2 => ?_⟩, fun k k0 k1 => ?_⟩
  · rw [slot_0, slot_1 h0]; split <;> omega
  · rw [slot_0] at k1
    rcases hk k k0 k1 with ⟨q1, q2, q3⟩ | ⟨q1, q2, q3⟩
    · rw [q2, q3]; exact h3 k k0 q1
    · rw [q2, q3]; omega
  · rw [slot_0] at k2
    rcases hk k k0 (by omega) with ⟨q1, q2, q3⟩ | ⟨q1, q2, q3⟩
    · rcases hk k' (by omega) k2 with ⟨p1, p2, p3⟩ | ⟨p1, p2, p3⟩
      · rw [q2, q3, p2, p3]; exact h4 k k' k0 k1 p1
      · rw [q2, q3, p2, p3]; exact ha k k0 q1
    · omega
  · rw [slot_0] at k1
    rcases hk k k0 k1 with ⟨q1, q2, q3⟩ | ⟨q1, q2, q3⟩
    · rw [q2, q3]; have := ha k k0 q1; omega
    · rw [q2, q3]; omega
theorem RdA.up (h : RdA r y x) : RdA r y (x + 1) := fun k k0 k1 => by have := h k k0 k1; omega
theorem RdA.row (h : RdA r y x) : RdA r (y + 1) 0 := fun k k0 k1 => by have := h k k0 k1; omega
theorem rdF_S {tp : Nat → Int} {T : Int} : ∀ (n : Nat) (y x p : Int) (r : Nat → Int), (0 ≤ y ∧ y ≤ 5) → (0 ≤ x ∧ x ≤ 6) → RdS r → RdA r y x → RdS (rdF tp T n y x p r).2 := by
  intro n
  induction n with
  | zero => intro y x p r _ _ h _; exact h
  | succ n ih =>
    intro y x p r hy hx h ha
    unfold rdF
    split
    · exact h
    · split
      · split
        · exact h
        · rename_i q
          exact ih _ _ _ _ (by omega) (by omega) h ha.row
      · split
        · exact h
        · rename_i q
          split
          · rename_i q2
            have hs := h.slot (c := heF tp T p) ha (by have := h.1.1; omega) (by omega) hy
            exact ih _ _ _ _ hy (by omega) hs.1 hs.2
          · exact ih _ _ _ _ hy (by omega) h ha.up
theorem rd0F_S (tp : Nat → Int) (T : Int) (s : Nat → Int) : RdS (rd0F tp T s).2 := by
  have e0 : (updW (updW s 0 0) 1 (-1)) 0 = 0 := by rw [upd_ne (by decide), updS]
  have e1 : (updW (updW s 0 0) 1 (-1)) 1 = -1 := updS _ _ _
  refine rdF_S 100 0 0 0 _ (by omega) (by omega) ⟨⟨by rw [e0]; omega, by rw [e1]; omega⟩, by rw [e0, e1]; omega, fun k k0 k1 => by rw [e0] at k1; omega, fun k k' k0 k1 k2 => by rw [e0] at k2; omega⟩ (fun k k0 k1 => by rw [e0] at k1; omega)
/-- a good end has an anchor -/
theorem rdF_anc {tp : Nat → Int} {T : Int} (hT : 0 ≤ T ∧ T ≤ 60) : ∀ (n : Nat) (y x p : Int) (r : Nat → Int), 0 ≤ p → (rdF tp T n y x p r).1 = -1 → 0 ≤ (rdF tp T n y x p r).2 1 := by
  intro n
  induction n with
  | zero => intro y x p r hp h; exact absurd h (by show ¬ p = -1; omega)
  | succ n ih =>
    intro y x p r hp
    unfold rdF
    split
    · dsimp only
      split
      · intro h; omega
      · intro _; omega
    · split
      · split
        · intro h; exact absurd h (by show ¬ p = -1; omega)
        · exact ih _ _ _ _ (by omega)
      · split
        · intro h; exact absurd h (by show ¬ p = -1; omega)
        · exact ih _ _ _ _ (by omega)
/-- the row with the shape read in its place -/
abbrev shpW (w : Nat → Int) (x : Int) (r : Nat → Int) : Nat → Int := cpS w x r 0 (2 + 2 * r 0)
theorem shp_o (hx : 0 ≤ x ∧ x ≤ 2) {i : Nat} (hi : (i : Int) < 192 + 22 * x ∨ 192 + 22 * x + 22 ≤ (i : Int)) (hr : r 0 ≤ 10) : shpW w x r i = w i := by
  unfold shpW cpS
  rw [if_neg (by omega)]
theorem shp_i (hx : 0 ≤ x ∧ x ≤ 2) {j : Int} (hj : 0 ≤ j ∧ j < 2 + 2 * r 0) : shpW w x r (192 + 22 * x + j).toNat = r j.toNat := by
  unfold shpW cpS
  rw [if_pos (by omega)]
  exact congrArg r (by omega)
theorem shp_slt (hx : 0 ≤ x ∧ x ≤ 2) (hr : 0 ≤ r 0) : sltF (shpW w x r) x = r 0 ∧ ancF (shpW w x r) x = r 1 := by
  have a := shp_i (w := w) (r := r) hx (j := 0) (by omega)
  have b := shp_i (w := w) (r := r) hx (j := 1) (by omega)
  unfold sltF ancF
  rw [Int.add_zero] at a
  exact ⟨a, b⟩
theorem shp_col (hx : 0 ≤ x ∧ x ≤ 2) (hr : 0 ≤ r 0 ∧ 0 ≤ r 1 ∧ r 1 < r 0) {k : Int} (hk : 0 ≤ k ∧ k < r 0) : colF (shpW w x r) x k = r (2 + 2 * k).toNat - r (2 + 2 * r 1).toNat ∧ rowF (shpW w x r) x k = r (3 + 2 * k).toNat - r (3 + 2 * r 1).toNat := by
  unfold colF rowF
  rw [(shp_slt hx hr.1).2]
  have a1 := shp_i (w := w) (r := r) hx (j := 2 + 2 * k) (by omega)
  have a2 := shp_i (w := w) (r := r) hx (j := 3 + 2 * k) (by omega)
  have a3 := shp_i (w := w) (r := r) hx (j := 2 + 2 * r 1) (by omega)
  have a4 := shp_i (w := w) (r := r) hx (j := 3 + 2 * r 1) (by omega)
  rw [show 192 + 22 * x + 2 + 2 * k = 192 + 22 * x + (2 + 2 * k) by omega, show 192 + 22 * x + 3 + 2 * k = 192 + 22 * x + (3 + 2 * k) by omega, show 192 + 22 * x + 2 + 2 * r 1 = 192 + 22 * x + (2 + 2 * r 1) by omega, show 192 + 22 * x + 3 + 2 * r 1 = 192 + 22 * x + (3 + 2 * r 1) by omega, a1, a2, a3, a4]
  exact ⟨rfl, rfl⟩
theorem shp_else (hx : 0 ≤ x ∧ x ≤ 2) (hr : r 0 ≤ 10) {y : Int} (hy : 0 ≤ y ∧ y ≤ 2) (hne : y ≠ x) : sltF (shpW w x r) y = sltF w y ∧ ancF (shpW w x r) y = ancF w y ∧ (0 ≤ ancF w y ∧ ancF w y ≤ 9 → ∀ k, 0 ≤ k → k ≤ 9 → colF (shpW w x r) y k = colF w y k ∧ rowF (shpW w x r) y k = rowF w y k) := by
  have e1 : ancF (shpW w x r) y = ancF w y := shp_o hx (by omega) hr
  refine ⟨shp_o hx (by omega) hr, e1, fun ha k k0 k1 => ?_⟩
  unfold colF rowF
  rw [e1, shp_o hx (by omega) hr, shp_o hx (by omega) hr, shp_o hx (by omega) hr, shp_o hx (by omega) hr]
  exact ⟨rfl, rfl⟩
/-- shapes in order, slots on different cells -/
def CRD (w : Nat → Int) : Prop := ∀ x, 0 ≤ x → x ≤ 2 → CR w x ∧ DS w x
theorem shp_SH (hx : 0 ≤ x ∧ x ≤ 2) (h : RdS r) (h1 : 0 ≤ r 1) (hS : SH w) : SH (shpW w x r) := fun y y0 y1 => by
  by_cases e : y = x
  · subst e
    rw [(shp_slt hx h.1.1.1).1, (shp_slt hx h.1.1.1).2]
    exact ⟨h.1.1, h1, by have := h.1.2; omega⟩
  · have := shp_else (w := w) hx h.1.1.2 ⟨y0, y1⟩ e
    rw [this.1, this.2.1]
    exact hS y y0 y1
theorem shp_CRD (hx : 0 ≤ x ∧ x ≤ 2) (h : RdS r) (h1 : 0 ≤ r 1) (hS : SH w) (hC : CRD w) : CRD (shpW w x r) := fun y y0 y1 => by
  obtain ⟨g1, g2, g3, g4⟩ := h
  by_cases e : y = x
  · subst e
    have hs := shp_slt (w := w) (r := r) hx g1.1.1
    have ha := g3 (r 1) h1 g2
    refine ⟨fun k k0 k1 => ?_, fun s s' s0 s1 s2 s3 q1 q2 => ?_⟩
    · rw [hs.1] at k1
      have := shp_col (w := w) hx ⟨g1.1.1, h1, g2⟩ ⟨k0, k1⟩
      rw [this.1, this.2]
      have := g3 k k0 k1
      omega
    · rw [hs.1] at s1 s3
      have c1 := shp_col (w := w) hx ⟨g1.1.1, h1, g2⟩ ⟨s0, s1⟩
      have c2 := shp_col (w := w) hx ⟨g1.1.1, h1, g2⟩ ⟨s2, s3⟩
      rw [c1.1, c2.1] at q1
      rw [c1.2, c2.2] at q2
      refine Classical.byContradiction (fun hne => ?_)
      rcases Int.lt_or_gt_of_ne hne with q | q
      · have := g4 s s' s0 q s3; omega
      · have := g4 s' s s2 q s1; omega
  · have ho := shp_else (w := w) hx g1.1.2 ⟨y0, y1⟩ e
    have hsy := hS y y0 y1
    have hcd := hC y y0 y1
    have hcr := ho.2.2 hsy.2
    refine ⟨fun k k0 k1 => ?_, fun s s' s0 s1 s2 s3 q1 q2 => ?_⟩
    · rw [ho.1] at k1
      rw [(hcr k k0 (by omega)).1, (hcr k k0 (by omega)).2]
      exact hcd.1 k k0 k1
    · rw [ho.1] at s1 s3
      rw [(hcr s s0 (by omega)).1, (hcr s' s2 (by omega)).1] at q1
      rw [(hcr s s0 (by omega)).2, (hcr s' s2 (by omega)).2] at q2
      exact hcd.2 s s' s0 s1 s2 s3 q1 q2
theorem shp_WS (hx : 0 ≤ x ∧ x ≤ 2) (h : RdS r) (h1 : 0 ≤ r 1) (hS : SH w) (hC : CRD w) (hW : WS w) : WS (shpW w x r) := by
  have hS2 := shp_SH (w := w) hx h h1 hS
  have hC2 := shp_CRD (w := w) hx h h1 hS hC
  have hr := h.1.1.2
  have e : ∀ i, i < 192 → shpW w x r i = w i := fun i hi => shp_o hx (by omega) hr
  obtain ⟨a1, a2, a3, a4, a5, a6, a7⟩ := hW
  have s3 := hS2 (w 3) a2.1 a2.2
  have c3 := hC2 (w 3) a2.1 a2.2
  refine ⟨by rw [e 0 (by decide)]; exact a1, by rw [e 3 (by decide)]; exact a2, fun m m0 m1 => ?_, by rw [e 3 (by decide)]; exact s3.1, by rw [e 3 (by decide)]; exact s3.2, fun k k0 k1 => ?_, by rw [e 2 (by decide)]; exact a7⟩
  · have : celF (shpW w x r) m = celF w m := e _ (by omega)
    rw [this]; exact a3 m m0 m1
  · rw [e 3 (by decide)] at k1 ⊢
    exact c3.1 k k0 k1
theorem shp_bd (hx : 0 ≤ x ∧ x ≤ 2) (h : RdS r) (h1 : 0 ≤ r 1) (hC : 300 ≤ C) (hb : bdW C w) : bdW C (shpW w x r) := fun i => by
  obtain ⟨g1, g2, g3, g4⟩ := h
  unfold shpW cpS
  split
  · rename_i q
    have hr := g1.1
    by_cases e0 : (i : Int) - (192 + 22 * x) = 0
    · rw [e0]; show -C ≤ r 0 ∧ r 0 ≤ C; omega
    · by_cases e1 : (i : Int) - (192 + 22 * x) = 1
      · rw [e1]; show -C ≤ r 1 ∧ r 1 ≤ C; omega
      · rcases (show (∃ k : Int, (0 ≤ k ∧ k < r 0) ∧ (i : Int) - (192 + 22 * x) = 2 + 2 * k) ∨ (∃ k : Int, (0 ≤ k ∧ k < r 0) ∧ (i : Int) - (192 + 22 * x) = 3 + 2 * k) by
          by_cases ev : ((i : Int) - (192 + 22 * x)) % 2 = 0
          · exact Or.inl ⟨((i : Int) - (192 + 22 * x) - 2) / 2, by omega, by omega⟩
          · exact Or.inr ⟨((i : Int) - (192 + 22 * x) - 3) / 2, by omega, by omega⟩) with ⟨k, hk, e⟩ | ⟨k, hk, e⟩
        · rw [e]; have := g3 k hk.1 hk.2; omega
        · rw [e]; have := g3 k hk.1 hk.2; omega
  · exact hb i
end RDOK
