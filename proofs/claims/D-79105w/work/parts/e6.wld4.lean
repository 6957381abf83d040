/-! THE CLASS'S METHODS, 27: becomes, a copied world, changes -/
set_option maxRecDepth 100000
/-- what 'becomes' leaves -/
def NB (w : Nat → Int) (t u : CT) (x a : Nat) : Prop := (n0C u = n0C t ∧ (nvC t ≤ nvC u ∧ nvC u ≤ nvC t + 10) ∧ uC u ≤ uC t + 70) ∧ (∀ y, y < nvC t → u.2.1 y = t.2.1 y) ∧ (∀ y, y < nvC t → y ≠ x → (y < a ∨ a + 5 ≤ y) → sg u y = sg t y) ∧ (∀ j, j < 5 → sg u x j = ((a + j : Nat) : Int)) ∧ WC u x a (a + 1) (a + 2) (a + 4) w ∧ ShA u (a + 3) w ∧ ∀ m : Int, 0 ≤ m → m < 10 → isM w m → nvC t ≤ (sg u (a + 2) m.toNat).toNat
section WL4
variable {T : Nat → Option CK} {w : Nat → Int} {τ t u t4 : CT} {m c v : Int} {d x y o n i j k a b b0 b1 b2 b3 b4 s p : Nat} {kk : CK} {Q : Option AV → CT → Prop}
abbrev cp4 (t : CT) (b0 b1 b3 b4 a : Nat) : CT := cpC (cpC (cpC (cpC t b0 a 0 0 120) b1 (a + 1) 0 0 120) b3 (a + 3) 0 0 3) b4 (a + 4) 0 0 8
theorem cc_becomes (hS : WS5 T t o b0 b1 b2 b3 b4 w) (hT : WT5 T t x a) (hox : o ≠ x) (hlt : o < a ∧ b0 < a ∧ b1 < a ∧ b2 < a ∧ b3 < a ∧ b4 < a) (han : a + 5 ≤ nvC t) (hnv : 1000 ≤ n0C t ∧ n0C t ≤ nvC t) : Ct T 2 rX1_becomes [.inr x, .inr o] t (fun r u => none = r ∧ NB w t u x a) := by
  obtain ⟨⟨f0, f1, f2, f3, f4⟩, ⟨g5, g6, g7⟩, ⟨k0, k1, k2, k3, k4⟩, ⟨⟨c1, c2, c3, c4, c5, c6⟩, hSh⟩, hb, h0⟩ := hS
  obtain ⟨⟨kx, wx, hxa⟩, hxj, ⟨q0, q1, q2, q3, q4⟩, ⟨a1, a2, a3⟩⟩ := hT
  have hxne : ∀ k, kd T t x = some k → k = woR := fun k h => by rw [kx] at h; exact (Option.some.inj h).symm
  have xf : ∀ j, j < 5 → GtF T t x 1 j (a + j) := fun j hj => by
    refine ⟨_, kx, Or.inl ⟨?_, by rw [hxj j hj]; exact Int.toNat_natCast _⟩⟩
    have : j = 0 ∨ j = 1 ∨ j = 2 ∨ j = 3 ∨ j = 4 := by omega
    rcases this with rfl | rfl | rfl | rfl | rfl <;> rfl
  have wr : ∀ j, j < 5 → wrC t (a + j) := fun j hj => ⟨by omega, Or.inr (by omega)⟩
  have hx0 : b0 ≠ x := fun r => by have := hxne _ (by rw [← r]; exact k0); cases this
  have hx1 : b1 ≠ x := fun r => by have := hxne _ (by rw [← r]; exact k1); cases this
  have hx2 : b2 ≠ x := fun r => by have := hxne _ (by rw [← r]; exact k2); cases this
  have hx3 : b3 ≠ x := fun r => by have := hxne _ (by rw [← r]; exact k3); cases this
  have hx4 : b4 ≠ x := fun r => by have := hxne _ (by rw [← r]; exact k4); cases this
  -- what the four copies leave
  have lo : ∀ y, y < a → sg (cp4 t b0 b1 b3 b4 a) y = sg t y := fun y hy => by
    show sg (cpC (cpC (cpC (cpC t b0 a 0 0 120) b1 (a + 1) 0 0 120) b3 (a + 3) 0 0 3) b4 (a + 4) 0 0 8) y = _
    rw [cp_o (by omega), cp_o (by omega), cp_o (by omega), cp_o (by omega)]
  have s0 : ∀ j, j < 120 → sg (cp4 t b0 b1 b3 b4 a) a j = sg t b0 j := fun j hj => by
    show sg (cpC (cpC (cpC (cpC t b0 a 0 0 120) b1 (a + 1) 0 0 120) b3 (a + 3) 0 0 3) b4 (a + 4) 0 0 8) a j = _
    rw [cp_o (by omega), cp_o (by omega), cp_o (by omega), cp_y, if_pos (by omega), Nat.zero_add, Nat.sub_zero]
  have s1 : ∀ j, j < 120 → sg (cp4 t b0 b1 b3 b4 a) (a + 1) j = sg t b1 j := fun j hj => by
    show sg (cpC (cpC (cpC (cpC t b0 a 0 0 120) b1 (a + 1) 0 0 120) b3 (a + 3) 0 0 3) b4 (a + 4) 0 0 8) (a + 1) j = _
    rw [cp_o (by omega), cp_o (by omega), cp_y, if_pos (by omega), Nat.zero_add, Nat.sub_zero, cp_o (by omega)]
  have s3 : ∀ j, j < 3 → sg (cp4 t b0 b1 b3 b4 a) (a + 3) j = sg t b3 j := fun j hj => by
    show sg (cpC (cpC (cpC (cpC t b0 a 0 0 120) b1 (a + 1) 0 0 120) b3 (a + 3) 0 0 3) b4 (a + 4) 0 0 8) (a + 3) j = _
    rw [cp_o (by omega), cp_y, if_pos (by omega), Nat.zero_add, Nat.sub_zero, cp_o (by omega), cp_o (by omega)]
  have s4 : ∀ j, j < 8 → sg (cp4 t b0 b1 b3 b4 a) (a + 4) j = sg t b4 j := fun j hj => by
    show sg (cpC (cpC (cpC (cpC t b0 a 0 0 120) b1 (a + 1) 0 0 120) b3 (a + 3) 0 0 3) b4 (a + 4) 0 0 8) (a + 4) j = _
    rw [cp_y, if_pos (by omega), Nat.zero_add, Nat.sub_zero, cp_o (by omega), cp_o (by omega), cp_o (by omega)]
  have hi5 : ∀ y, a + 5 ≤ y → sg (cp4 t b0 b1 b3 b4 a) y = sg t y := fun y hy => by
    show sg (cpC (cpC (cpC (cpC t b0 a 0 0 120) b1 (a + 1) 0 0 120) b3 (a + 3) 0 0 3) b4 (a + 4) 0 0 8) y = _
    rw [cp_o (by omega), cp_o (by omega), cp_o (by omega), cp_o (by omega)]
  have hmne : ∀ m y, MemC t w m y → y < a ∨ a + 5 ≤ y := fun m y hm => by
    by_cases q : y < a
    · exact Or.inl q
    · right
      have hk := hm.kd (T := T)
      have n0 : y ≠ a := fun r => by rw [r, q0] at hk; cases hk
      have n1 : y ≠ a + 1 := fun r => by rw [r, q1] at hk; cases hk
      have n2 : y ≠ a + 2 := fun r => by rw [r, q2] at hk; cases hk
      have n3 : y ≠ a + 3 := fun r => by rw [r, q3] at hk; cases hk
      have n4 : y ≠ a + 4 := fun r => by rw [r, q4] at hk; cases hk
      omega
  have hm4 : ∀ m y, MemC t w m y → MemC (cp4 t b0 b1 b3 b4 a) w m y := fun m y hm => by
    have e : sg (cp4 t b0 b1 b3 b4 a) y = sg t y := by
      rcases hmne m y hm with q | q
      · exact lo y q
      · exact hi5 y q
    obtain ⟨p1, p2⟩ := hm
    exact ⟨p1, by rw [e]; exact p2⟩
  have hsrc : ∀ m : Int, 0 ≤ m → m < 10 → (isM w m → MemC (cp4 t b0 b1 b3 b4 a) w m (sg (cp4 t b0 b1 b3 b4 a) b2 m.toNat).toNat) ∧ (¬ isM w m → sg (cp4 t b0 b1 b3 b4 a) b2 m.toNat = 0) := fun m m0 m1 => by
    rw [lo b2 hlt.2.2.2.1]
    exact ⟨fun q => hm4 _ _ ((c2 m m0 m1).1 q), (c2 m m0 m1).2⟩
  have hfo : GtF T (cp4 t b0 b1 b3 b4 a) o 1 2 b2 := f2.fr rfl (lo o hlt.1)
  have hfx : GtF T (cp4 t b0 b1 b3 b4 a) x 1 2 (a + 2) := (xf 2 (by decide)).fr rfl (lo x hxa)
  have hfin : ∀ u, MB w (cp4 t b0 b1 b3 b4 a) u (a + 2) 10 → Wc T 2 rX1_becomes 108 [some (.inr x), some (.inr o), some (.inl 10)] [] u (nQ (fun r u => none = r ∧ NB w t u x a)) := fun u hM => by
    obtain ⟨⟨m0, ⟨m1, m2⟩, m3⟩, m4, m5, m6⟩ := hM
    have kdu : ∀ y, y < nvC t → kd T u y = kd T t y := fun y hy => kd_lt hy (m4 y hy)
    have kxu : kd T u x = some woR := (kdu x (by omega)).trans kx
    have wxu : wrC u x := wrC_wk wx m0
    have eo : sg u o = sg t o := by rw [m5 o (by show o < nvC t; omega) (by omega), lo o hlt.1]
    have g5u := g5.fr (u := u) (kdu o (by omega))
    have g6u := g6.fr (u := u) (kdu o (by omega))
    have g7u := g7.fr (u := u) (kdu o (by omega))
    refine wc_aload_n dX1_becomes_108 rfl ?_
    refine wc_aload_n dX1_becomes_109 rfl ?_
    refine wc_getIG dX1_becomes_110 (kF1_34 rfl) g5u ?_
    rw [eo, c4]
    refine wc_putI dX1_becomes_113 (kF1_34 rfl) rfl kxu rfl wxu (Or.inl rfl) ?_
    refine wc_aload_n dX1_becomes_116 rfl ?_
    refine wc_aload_n dX1_becomes_117 rfl ?_
    refine wc_getIG dX1_becomes_118 (kF1_38 rfl) g6u ?_
    rw [sg_st' hox, eo, c5]
    refine wc_putI dX1_becomes_121 (kF1_38 rfl) rfl kxu rfl wxu (Or.inl rfl) ?_
    refine wc_aload_n dX1_becomes_124 rfl ?_
    refine wc_aload_n dX1_becomes_125 rfl ?_
    refine wc_getIG dX1_becomes_126 (kF1_55 rfl) g7u ?_
    rw [sg_st' hox, sg_st' hox, eo, c6]
    refine wc_putI dX1_becomes_129 (kF1_55 rfl) rfl kxu rfl wxu (Or.inl rfl) ?_
    refine wc_vreturn dX1_becomes_132 rfl ?_
    have hy : ∀ y, y ≠ x → sg (stC (stC (stC u x 5 (ldC w)) x 6 (tgC w)) x 7 (w 3)) y = sg u y := fun y h => by rw [sg_st' h, sg_st' h, sg_st' h]
    have ue : ∀ y, y < nvC t → y ≠ a + 2 → sg u y = sg (cp4 t b0 b1 b3 b4 a) y := fun y h1 h2 => m5 y h1 h2
    refine ⟨rfl, ⟨m0, ⟨m1, m2⟩, m3⟩, fun y h => m4 y h, fun y h1 h2 h3 => ?_, fun j hj => ?_, ⟨fun c c0 c1' => ?_, fun m m0' m1' => ?_, fun k k0 k1 => ?_, ?_, ?_, ?_⟩, fun s s0' s1' => ?_, fun m m0' m1' hm => ?_⟩
    · rw [hy y h2, ue y h1 (by omega)]
      rcases h3 with h3 | h3
      · exact lo y h3
      · exact hi5 y h3
    · rw [sg_st, if_neg (by omega), sg_st, if_neg (by omega), sg_st, if_neg (by omega), ue x (by omega) (by omega), lo x hxa]
      exact hxj j hj
    · rw [hy a (by omega), ue a (by omega) (by omega), s0 _ (by omega), hy (a + 1) (by omega), ue (a + 1) (by omega) (by omega), s1 _ (by omega)]
      exact c1 c c0 c1'
    · rw [hy (a + 2) (by omega)]
      refine ⟨fun q => ?_, (m6 m m0' m1').2⟩
      obtain ⟨⟨p1, p2⟩, p3⟩ := (m6 m m0' m1').1 q
      refine ⟨p1, ?_⟩
      rw [hy _ (fun r => by have := p3; rw [r] at this; have : nvC t ≤ x := this; omega)]
      exact p2
    · rw [hy (a + 4) (by omega), ue (a + 4) (by omega) (by omega), s4 _ (by omega)]
      exact c3 k k0 k1
    · rw [sg_st, if_neg (by decide), sg_st, if_neg (by decide), sg_st, if_pos rfl]
    · rw [sg_st, if_neg (by decide), sg_st, if_pos rfl]
    · rw [sg_st, if_pos rfl]
    · rw [hy (a + 3) (by omega), ue (a + 3) (by omega) (by omega), s3 _ (by omega)]
      refine ⟨fun q => ((hSh s s0' s1').1 q).fz m0 (fun y y1 y2 => ⟨m4 y (by show y < nvC t; omega), ?_⟩), (hSh s s0' s1').2⟩
      rw [hy y (fun r => by have := wx.2; omega), ue y (by omega) (by omega), lo y (by omega)]
    · rw [hy (a + 2) (by omega)]
      exact ((m6 m m0' m1').1 hm).2
  intro d hd
  refine wc_aload_n dX1_becomes_0 rfl ?_
  refine wc_getG (y := b0) dX1_becomes_1 (kF1_9 rfl) f0 ?_
  refine wc_iconst dX1_becomes_4 ?_
  refine wc_aload_n dX1_becomes_5 rfl ?_
  refine wc_getG (y := a) dX1_becomes_6 (kF1_9 rfl) (xf 0 (by decide)) ?_
  refine wc_iconst dX1_becomes_9 ?_
  refine wc_bipush dX1_becomes_10 (by decide) ?_
  refine wc_cpyI dX1_becomes_12 rfl k0 q0 (wr 0 (by decide)) (Or.inr ⟨rfl, fun j hj => by have := (c1 (j : Int) (by omega) (by omega)).1; rw [Int.toNat_natCast] at this; rw [Int.toNat_zero, Nat.zero_add, this]; exact hb j (by omega) (by omega)⟩) rfl (by omega) (by omega) (by omega) (by omega) (by omega) ⟨by omega, by omega⟩ ?_
  refine wc_aload_n dX1_becomes_15 rfl ?_
  refine wc_getG (y := b1) dX1_becomes_16 (kF1_15 rfl) (f1.fr rfl (cp_o (by omega))) ?_
  refine wc_iconst dX1_becomes_19 ?_
  refine wc_aload_n dX1_becomes_20 rfl ?_
  refine wc_getG (y := a + 1) dX1_becomes_21 (kF1_15 rfl) ((xf 1 (by decide)).fr rfl (cp_o (by omega))) ?_
  refine wc_iconst dX1_becomes_24 ?_
  refine wc_bipush dX1_becomes_25 (by decide) ?_
  refine wc_cpyI dX1_becomes_27 rfl k1 q1 (wr 1 (by decide)) (Or.inl rfl) rfl (by omega) (by omega) (by omega) (by omega) (by omega) ⟨by omega, by omega⟩ ?_
  refine wc_aload_n dX1_becomes_30 rfl ?_
  refine wc_getG (y := b3) dX1_becomes_31 (kF1_27 rfl) (f3.fr rfl (by rw [cp_o (by omega), cp_o (by omega)])) ?_
  refine wc_iconst dX1_becomes_34 ?_
  refine wc_aload_n dX1_becomes_35 rfl ?_
  refine wc_getG (y := a + 3) dX1_becomes_36 (kF1_27 rfl) ((xf 3 (by decide)).fr rfl (by rw [cp_o (by omega), cp_o (by omega)])) ?_
  refine wc_iconst dX1_becomes_39 ?_
  refine wc_iconst dX1_becomes_40 ?_
  refine wc_cpyR dX1_becomes_41 rfl k3 q3 (wr 3 (by decide)) 7 rfl (fun j hj => by
  have hj3 : j < 3 := hj
  rw [cp_o (by omega), cp_o (by omega), Int.toNat_zero, Nat.zero_add]
  have := hSh (j : Int) (by omega) (by omega)
  rw [Int.toNat_natCast] at this
  by_cases q : 0 < sltF w (j : Int)
  · have hy := (this.1 q).1
    exact Or.inr ⟨_, kd_dyn (by omega) hy.2.2⟩
  · left
    rw [this.2 q]
    rfl) rfl (by omega) (by omega) (by omega) (by omega) (by omega) ⟨by omega, by omega⟩ ?_
  refine wc_aload_n dX1_becomes_44 rfl ?_
  refine wc_getG (y := b4) dX1_becomes_45 (kF1_31 rfl) (f4.fr rfl (by rw [cp_o (by omega), cp_o (by omega), cp_o (by omega)])) ?_
  refine wc_iconst dX1_becomes_48 ?_
  refine wc_aload_n dX1_becomes_49 rfl ?_
  refine wc_getG (y := a + 4) dX1_becomes_50 (kF1_31 rfl) ((xf 4 (by decide)).fr rfl (by rw [cp_o (by omega), cp_o (by omega), cp_o (by omega)])) ?_
  refine wc_iconst dX1_becomes_53 ?_
  refine wc_aload_n dX1_becomes_54 rfl ?_
  refine wc_getG (y := a + 4) dX1_becomes_55 (kF1_31 rfl) ((xf 4 (by decide)).fr rfl (by rw [cp_o (by omega), cp_o (by omega), cp_o (by omega)])) ?_
  refine wc_alenI dX1_becomes_58 q4 ?_
  refine wc_cpyI dX1_becomes_59 rfl k4 q4 (wr 4 (by decide)) (Or.inl rfl) rfl (by omega) (by omega) (by omega) (by omega) (by omega) ⟨by omega, by omega⟩ ?_
  refine wc_iconst dX1_becomes_62 ?_
  refine wc_istore_n dX1_becomes_63 rfl ?_
  refine cc_becomes_64 (T := T) (t4 := cp4 t b0 b1 b3 b4 a) (o := o) (b2 := b2) (x := x) (a := a + 2) h0 hfo (by show o < nvC t; omega) k2 (by show b2 < nvC t; omega) hsrc hfx (by show x < nvC t; omega) q2 (wr 2 (by decide)) (by show a + 2 < nvC t; omega) ⟨by omega, by omega, by omega⟩ hnv hd 10 0 _ (by omega) (by omega) ⟨⟨rfl, ⟨Nat.le_refl _, Nat.le_refl _⟩, Nat.le_refl _⟩, fun _ _ => rfl, fun _ _ _ => rfl, fun m m0 m1 => by omega⟩ (fun u hM => ?_)
  exact fun E h R => (hfin u hM E h R).deeper hd
end WL4
