/-! THE CLASS'S METHODS, 63: shape -/
set_option maxRecDepth 100000
/-- what a call keeps of the planner, the tape read off -/
def FrT (t u : CT) : Prop := (n0C u = n0C t ∧ nvC t ≤ nvC u) ∧ (∀ j, j ≠ 6 → j ≠ 7 → sg u 10 j = if j = 14 then 0 else sg t 10 j) ∧ sg u 21 = sg t 21
section SHP3
variable {w w' : Nat → Int} {R R' : Nat → Nat → Int} {τ t u : CT} {m c v C x f e A P p Y : Int} {i j k a b s z y q n N d : Nat} {r S : Nat → Int}
theorem FrD.frs (g : FrD y t u) (hy : y = nvC t) (hn : 1000 ≤ n0C t ∧ n0C t ≤ nvC t) : FrS t u := ⟨g.1, fun v hv => g.2.2 v (by omega), fun j _ _ => by rw [g.2.2 10 (by omega)], fun y' y1 y2 => ⟨g.2.1 y' y2, fun _ => g.2.2 y' (by omega)⟩, g.2.2 18 (by omega), fun y' y1 y2 => ⟨g.2.1 y' (by omega), g.2.2 y' (by omega)⟩⟩
/-- a new shape in the list of shapes -/
theorem SI.shp (h : SI w C u) (hx : 0 ≤ x ∧ x ≤ 2) (hr : RdS r) (h1 : 0 ≤ r 1) (hC : 300 ≤ C) (hcd : CRD w) (hn : n0C u ≤ nvC u) (hz : 1000 ≤ z ∧ z + 3 ≤ nvC u) (hz2 : n0C u ≤ z) (hR : ShR r z u) : SIw (shpW w x r) C (stC u 104 x.toNat ((z : Nat) : Int)) := by
  have hi := hr.1.1
  have hSH := h.2.2.2.1
  have e192 : ∀ i, i < 192 → shpW w x r i = w i := fun i hi => shp_o hx (by omega) hr.1.1.2
  have hW0 : Wd w (stC u 104 x.toNat ((z : Nat) : Int)) := by
    have e : ∀ v, v ≠ 104 → sg (stC u 104 x.toNat ((z : Nat) : Int)) v = sg u v := fun v hv => sg_st' hv
    obtain ⟨⟨c1, c2, c3, c4, c5, c6⟩, c7⟩ := h.1.1
    refine ⟨⟨by rw [e 101 (by decide), e 102 (by decide)]; exact c1, fun m m0 m1 => ?_, by rw [e 105 (by decide)]; exact c3, by rw [e 100 (by decide)]; exact ⟨c4, c5, c6⟩⟩, fun m q m0 m1 => ?_⟩
    · rw [e 103 (by decide)]
      refine ⟨fun q => ?_, (c2 m m0 m1).2⟩
      obtain ⟨p1, p2⟩ := (c2 m m0 m1).1 q
      refine ⟨p1, ?_⟩
      rw [e _ (by omega)]
      exact p2
    · have := c7 m q m0 m1
      unfold mnC at *
      rw [e 103 (by decide)]
      exact this
  refine ⟨⟨hW0.cg h.2.1.1.2 e192, h.1.2.1.of rfl (Nat.le_refl _) (sg_st' (by decide)) (fun _ _ _ => rfl), fun s s0 s1 => ?_⟩, h.2.1.cg e192, shp_WS hx hr h1 hSH hcd h.2.2.1, shp_SH hx hr h1 hSH, shp_bd hx hr h1 hC h.2.2.2.2⟩
  have e : ∀ v, v ≠ 104 → sg (stC u 104 x.toNat ((z : Nat) : Int)) v = sg u v := fun v hv => sg_st' hv
  by_cases q : s = x
  · subst q
    have hs := shp_slt (w := w) (r := r) hx hi.1
    have es : sg (stC u 104 s.toNat ((z : Nat) : Int)) 104 s.toNat = ((z : Nat) : Int) := by rw [sg_st, if_pos rfl]
    rw [es, Int.toNat_natCast]
    obtain ⟨d1, ⟨d2, d3, d4⟩, ⟨d5, d6⟩, d7⟩ := hR
    have hcol : ∀ k : Int, 0 ≤ k → k < r 0 → _ := fun k k0 k1 => shp_col (w := w) (r := r) hx ⟨hi.1, h1, hr.2.1⟩ ⟨k0, k1⟩
    refine ⟨fun _ => ?_, fun q => ?_⟩
    · unfold ShN
      rw [hs.1, hs.2, e z (by omega), d2, d3, Int.toNat_natCast, Int.toNat_natCast, e (z + 1) (by omega), e (z + 2) (by omega)]
      refine ⟨⟨hz.1, by show z < nvC u; omega, d1⟩, ⟨d4, rfl, rfl⟩, ⟨by omega, by show z + 1 < nvC u; omega, d5⟩, ⟨by omega, by show z + 2 < nvC u; omega, d6⟩, fun k k0 k1 => ?_⟩
      rw [(hcol k k0 k1).1, (hcol k k0 k1).2]
      exact d7 k k0 k1
    · rw [hs.1] at q
      have := hr.2.1
      omega
  · have ho := shp_else (w := w) (r := r) hx hi.2 (y := s) ⟨s0, by omega⟩ q
    have hs := hSH s s0 (by omega)
    have hcr := ho.2.2 hs.2
    have hA := h.1.2.2 s s0 s1
    rw [ho.1, sg_st, if_neg (by omega)]
    refine ⟨fun q2 => ?_, hA.2⟩
    have hN := (hA.1 q2).toN.up hn
    have b := hN
    unfold ShN at hN ⊢
    rw [ho.1, ho.2.1, e _ (by omega), e _ (by omega), e _ (by omega)]
    refine ⟨hN.1, hN.2.1, hN.2.2.1, hN.2.2.2.1, fun k k0 k1 => ?_⟩
    rw [(hcr k k0 (by omega)).1, (hcr k k0 (by omega)).2]
    exact hN.2.2.2.2 k k0 k1
/-- a fault: what 'shape' and 'execute' leave -/
def FltP (t u : CT) : Prop := (n0C u = n0C t ∧ nvC t ≤ nvC u) ∧ (∀ v, v < nvC t → u.2.1 v = t.2.1 v ∧ (v ≠ 10 → sg u v = sg t v)) ∧ ∀ j, sg u 10 j = if j = 14 then 0 else sg t 10 j
theorem cc_shape_49 {o2 o3 o4 : Option AV} (hq : 110 ≤ q ∧ u.2.1 q = some wrK ∧ sg u q 6 = P) (hF : FrD (nvC t) t u) (hn : 1000 ≤ nvC t) (hP : -1 ≤ P ∧ P ≤ 1000) : Wc kap d rX0_shape 49 [some (.inr 10), some (.inl x), o2, o3, o4] [.inr q] u (nQ (fun v u' => some (.inl (-100 - P)) = v ∧ FltP t u' ∧ nvC u' = nvC u ∧ uC u' = uC u)) := by
  obtain ⟨q1, q2, q3⟩ := hq
  refine wc_astore_n dX0_shape_49 rfl ?_
  refine wc_bipush dX0_shape_50 (by decide) ?_
  refine wc_aload_n dX0_shape_52 rfl ?_
  refine wc_getI dX0_shape_53 (kF0_337 rfl) (kd_dyn q1 q2) rfl ?_
  rw [q3]
  refine wc_isub dX0_shape_56 ?_
  refine wc_istore_n dX0_shape_57 rfl ?_
  refine wc_aload_n dX0_shape_58 rfl ?_
  refine wc_iconst dX0_shape_59 ?_
  refine wc_putI dX0_shape_60 (kF0_322 rfl) rfl rfl rfl ⟨by decide, Or.inl (by decide)⟩ (Or.inl rfl) ?_
  refine wc_iload_n dX0_shape_63 rfl ?_
  refine wc_ireturn dX0_shape_64 rfl ?_
  refine ⟨rfl, ⟨hF.1, fun v hv => ⟨hF.2.1 v hv, fun v1 => ?_⟩, fun j => ?_⟩, rfl, rfl⟩
  · rw [sg_st' v1]; exact hF.2.2 v (by omega)
  · rw [sg_st, hF.2.2 10 (by omega)]
end SHP3
