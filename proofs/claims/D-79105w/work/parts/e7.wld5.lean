/-! THE CLASS'S METHODS, 28: new World(o) -/
set_option maxRecDepth 100000
/-- a kept world at x, its names below e -/
def WK (w : Nat → Int) (u : CT) (x e : Nat) : Prop := u.2.1 x = some woR ∧ (∀ j, j < 5 → sg u x j = ((x + 1 + j : Nat) : Int)) ∧ (u.2.1 (x + 1) = some (ckI 1 120) ∧ u.2.1 (x + 2) = some (ckI 0 120) ∧ u.2.1 (x + 3) = some (ckR 1 10) ∧ u.2.1 (x + 4) = some (ckR 2 3) ∧ u.2.1 (x + 5) = some (ckI 0 8)) ∧ WC u x (x + 1) (x + 2) (x + 3) (x + 5) w ∧ ShA u (x + 4) w ∧ (∀ m : Int, 0 ≤ m → m < 10 → isM w m → x + 6 ≤ (sg u (x + 3) m.toNat).toNat ∧ (sg u (x + 3) m.toNat).toNat < e)
/-- what new World leaves: the world at x, nothing older touched -/
def WN (w : Nat → Int) (t u : CT) (x : Nat) : Prop := (n0C u = n0C t ∧ (x + 6 ≤ nvC u ∧ nvC u ≤ x + 16) ∧ uC u ≤ uC t + 331) ∧ (∀ y, y < nvC t → u.2.1 y = t.2.1 y) ∧ (∀ y, y < x → sg u y = sg t y) ∧ WK w u x (nvC u)
section WL5
variable {T : Nat → Option CK} {w : Nat → Int} {τ t u t4 : CT} {m c v : Int} {d x y o n i j k a b b0 b1 b2 b3 b4 s p : Nat} {kk : CK} {Q : Option AV → CT → Prop}
theorem WS5.fr (h : WS5 T t o b0 b1 b2 b3 b4 w) (kx : t.2.1 x = some woR) (hx : 110 ≤ x ∧ n0C t ≤ x) (hox : o ≠ x) (hlt : o < nvC t ∧ b0 < nvC t ∧ b1 < nvC t ∧ b2 < nvC t ∧ b3 < nvC t ∧ b4 < nvC t) (h0 : n0C u = n0C t) (hn : nvC t ≤ nvC u) (hD : ∀ y, y < nvC t → u.2.1 y = t.2.1 y) (hS : ∀ y, y < nvC t → y ≠ x → sg u y = sg t y) (hnv : n0C t ≤ nvC t) : WS5 T u o b0 b1 b2 b3 b4 w := by
  obtain ⟨⟨f0, f1, f2, f3, f4⟩, ⟨g5, g6, g7⟩, ⟨k0, k1, k2, k3, k4⟩, ⟨⟨c1, c2, c3, c4, c5, c6⟩, hSh⟩, hb, hw⟩ := h
  have kdx : kd T t x = some woR := kd_dyn hx.1 kx
  have hx0 : b0 ≠ x := fun r => by rw [r, kdx] at k0; cases k0
  have hx1 : b1 ≠ x := fun r => by rw [r, kdx] at k1; cases k1
  have hx2 : b2 ≠ x := fun r => by rw [r, kdx] at k2; cases k2
  have hx4 : b4 ≠ x := fun r => by rw [r, kdx] at k4; cases k4
  have hx3 : b3 ≠ x := fun r => by rw [r, kdx] at k3; cases k3
  have ku : ∀ y, y < nvC t → kd T u y = kd T t y := fun y hy => kd_lt hy (hD y hy)
  have so := hS o hlt.1 hox
  refine ⟨⟨f0.fr (ku o hlt.1) so, f1.fr (ku o hlt.1) so, f2.fr (ku o hlt.1) so, f3.fr (ku o hlt.1) so, f4.fr (ku o hlt.1) so⟩, ⟨g5.fr (ku o hlt.1), g6.fr (ku o hlt.1), g7.fr (ku o hlt.1)⟩, ⟨(ku b0 hlt.2.1).trans k0, (ku b1 hlt.2.2.1).trans k1, (ku b2 hlt.2.2.2.1).trans k2, (ku b3 hlt.2.2.2.2.1).trans k3, (ku b4 hlt.2.2.2.2.2).trans k4⟩, ⟨⟨?_, ?_, ?_, ?_, ?_, ?_⟩, ?_⟩, hb, hw⟩
  · rw [hS b0 hlt.2.1 hx0, hS b1 hlt.2.2.1 hx1]
    exact c1
  · intro m m0 m1
    rw [hS b2 hlt.2.2.2.1 hx2]
    refine ⟨fun q => ?_, (c2 m m0 m1).2⟩
    obtain ⟨⟨p1, p2, p3⟩, p4⟩ := (c2 m m0 m1).1 q
    refine ⟨⟨p1, by omega, (hD _ p2).trans p3⟩, ?_⟩
    rw [hS _ p2 (fun r => by rw [r, kx] at p3; cases p3)]
    exact p4
  · rw [hS b4 hlt.2.2.2.2.2 hx4]
    exact c3
  · rw [so]; exact c4
  · rw [so]; exact c5
  · rw [so]; exact c6
  · intro s s0 s1
    rw [hS b3 hlt.2.2.2.2.1 hx3]
    exact ⟨fun q => ((hSh s s0 s1).1 q).fz h0 (fun y y1 y2 => ⟨hD y (by omega), hS y (by omega) (by omega)⟩), (hSh s s0 s1).2⟩
theorem cc_wCopy (hS : WS5 T t o b0 b1 b2 b3 b4 w) (kx : t.2.1 x = some woR) (hx : 1000 ≤ x ∧ n0C t ≤ x ∧ nvC t = x + 1) (hn : 1000 ≤ n0C t) (hlt : o < x ∧ b0 < x ∧ b1 < x ∧ b2 < x ∧ b3 < x ∧ b4 < x) : Ct T 3 rX1_init_2 [.inr x, .inr o] t (fun r u => none = r ∧ WN w t u x) := by
  intro d hd
  have hw : wrC t x := ⟨by omega, Or.inr hx.2.1⟩
  have kdx : kd T t x = some woR := kd_dyn (by omega) kx
  have hkb : ∀ y k, kd T t y = some k → k ≠ woR → y ≠ x := fun y k h hk r => hk (by rw [r, kdx] at h; exact (Option.some.inj h).symm)
  refine wc_aload_n dX1_init_2_0 rfl ?_
  refine wc_call dX1_init_2_1 rfl ((cc_wInit (T := T) kx hw ⟨by omega, by omega⟩)) (by omega) (hx_I (kI1_41 rfl) rfl kdx rfl rfl) ?_
  rintro _ _ ⟨rfl, hE⟩
  rename_i u1
  have hE' := hE
  obtain ⟨⟨e1, e2, e3⟩, e4, e5, e6, e7, e8⟩ := hE'
  have D : ∀ y, y < nvC t → u1.2.1 y = t.2.1 y := fun y hy => by rw [e4, w5_D, if_neg (by omega), if_neg (by omega), if_neg (by omega), if_neg (by omega), if_neg (by omega)]
  have kxu1 : u1.2.1 x = some woR := (D x (by omega)).trans kx
  have kxu : kd T u1 x = some woR := kd_dyn (by omega) kxu1
  have hS1 : WS5 T u1 o b0 b1 b2 b3 b4 w := hS.fr kx ⟨by omega, by omega⟩ (by omega) ⟨by omega, by omega, by omega, by omega, by omega, by omega⟩ e1 (by omega) D (fun y h1 h2 => e5 y h2 h1) (by omega)
  have D0 : u1.2.1 (x + 1) = some (ckI 1 120) := by rw [e4, w5_D, if_neg (by omega), if_neg (by omega), if_neg (by omega), if_neg (by omega), if_pos (by omega)]
  have D1 : u1.2.1 (x + 1 + 1) = some (ckI 0 120) := by rw [e4, w5_D, if_neg (by omega), if_neg (by omega), if_neg (by omega), if_pos (by omega)]
  have D2 : u1.2.1 (x + 1 + 2) = some (ckR 1 10) := by rw [e4, w5_D, if_neg (by omega), if_neg (by omega), if_pos (by omega)]
  have D3 : u1.2.1 (x + 1 + 3) = some (ckR 2 3) := by rw [e4, w5_D, if_neg (by omega), if_pos (by omega)]
  have D4 : u1.2.1 (x + 1 + 4) = some (ckI 0 8) := by rw [e4, w5_D, if_pos (by omega)]
  have hT1 : WT5 T u1 x (x + 1) := ⟨⟨kxu, wrC_wk hw e1, by omega⟩, fun j hj => by rw [e6, if_pos hj, hx.2.2], ⟨kd_dyn (by omega) D0, kd_dyn (by omega) D1, kd_dyn (by omega) D2, kd_dyn (by omega) D3, kd_dyn (by omega) D4⟩, by omega, by omega, by omega⟩
  refine wc_aload_n dX1_init_2_4 rfl ?_
  refine wc_aload_n dX1_init_2_5 rfl ?_
  refine wc_call dX1_init_2_6 rfl ((cc_becomes (T := T) hS1 hT1 (by omega) ⟨by omega, by omega, by omega, by omega, by omega, by omega⟩ (by omega) ⟨by omega, by omega⟩)) (by omega) (hx_V (kV1_42 rfl) rfl kxu rfl rfl) ?_
  rintro _ _ ⟨rfl, hB⟩
  rename_i u2
  obtain ⟨⟨f1, ⟨f2, f2'⟩, f3⟩, f4, f5, f6, f7, f8, f9⟩ := hB
  have DD : ∀ y, y < nvC u1 → u2.2.1 y = u1.2.1 y := f4
  refine wc_vreturn dX1_init_2_9 rfl ?_
  refine ⟨rfl, ⟨by omega, ⟨by omega, by omega⟩, by omega⟩, fun y hy => (DD y (by omega)).trans (D y hy), fun y hy => ?_, (DD x (by omega)).trans kxu1, f6, ⟨(DD _ (by omega)).trans D0, (DD _ (by omega)).trans D1, (DD _ (by omega)).trans D2, (DD _ (by omega)).trans D3, (DD _ (by omega)).trans D4⟩, f7, f8, fun m m0 m1 hm => ?_⟩
  · rw [f5 y (by omega) (by omega) (by omega), e5 y (by omega) (by omega)]
  · have a1 := f9 m m0 m1 hm
    have a2 := ((f7.2.1 m m0 m1).1 hm).1.2.1
    rw [show x + 1 + 2 = x + 3 from rfl] at a1 a2
    exact ⟨by omega, by omega⟩
end WL5
