/-! THE CLASS'S METHODS, 59: a row of a shape read -/
set_option maxRecDepth 100000
/-- what reading leaves: names from y on are its own -/
def FrD (y : Nat) (t u : CT) : Prop := (n0C u = n0C t ∧ nvC t ≤ nvC u) ∧ (∀ v, v < nvC t → u.2.1 v = t.2.1 v) ∧ ∀ v, v < y → sg u v = sg t v
/-- a fault with the place P is thrown -/
def ThD (y : Nat) (P : Int) (t : CT) (q : Nat) (u : CT) : Prop := (110 ≤ q ∧ u.2.1 q = some wrK ∧ sg u q 6 = P) ∧ FrD y t u ∧ nvC u ≤ nvC t + 1 ∧ uC u ≤ uC t + 7
section QSR
variable {T : Nat → Option CK} {w w' : Nat → Int} {R : Nat → Nat → Int} {τ t u : CT} {m c v C x s f e A P p Y : Int} {d i j k a b z pc y q : Nat} {Q : CO → CT → Prop} {M : MRec} {ls : AL} {st : List AV} {r : Nat → Int}
theorem FrD.rf : FrD y t t := ⟨⟨rfl, Nat.le_refl _⟩, fun _ _ => rfl, fun _ _ => rfl⟩
theorem FrD.tr (h : FrD y τ t) (g : FrD y t u) : FrD y τ u := ⟨⟨g.1.1.trans h.1.1, Nat.le_trans h.1.2 g.1.2⟩, fun v hv => (g.2.1 v (Nat.lt_of_lt_of_le hv h.1.2)).trans (h.2.1 v hv), fun v hv => (g.2.2 v hv).trans (h.2.2 v hv)⟩
theorem FrD.s1 (h : y ≤ q) : FrD y t (stC t q i v) := ⟨⟨rfl, Nat.le_refl _⟩, fun _ _ => rfl, fun a ha => sg_st' (by omega)⟩
theorem FrE.frd (g : FrE t u) (hy : y ≤ nvC t) : FrD y t u := ⟨⟨g.1, g.2.1⟩, fun v hv => (g.2.2 v hv).1, fun v hv => (g.2.2 v (by omega)).2⟩
theorem Thr.thd (g : Thr t p q u) (hy : y ≤ nvC t) : ThD y p t q u := ⟨g.1, g.2.1.frd hy, g.2.2⟩
theorem ThD.fr (h : FrD y τ t) (hn : nvC t = nvC τ ∧ uC t = uC τ) (g : ThD y P t q u) : ThD y P τ q u := ⟨g.1, h.tr g.2.1, by have := g.2.2; omega⟩
theorem cc_need1 (h : RD y p r t) (hp : rng p) : Cf kap 3 rX5_need [.inr y, .inl 1] t none t := (cc_need h (Or.inr rfl) hp).mono (fun v u q => by
  rcases q with ⟨-, q2, q3⟩ | ⟨q1, -⟩
  · subst q2; exact ⟨rfl, q3⟩
  · exact absurd q1 (by decide))
theorem cc_need0 (h : RD y p r t) (hp : rng p) : CtX kap 3 rX5_need [.inr y, .inl 0] t (fun v u => ∃ q, v = .inr q ∧ Thr t p q u) := (cc_need h (Or.inl rfl) hp).mono (fun v u q => by
  rcases q with ⟨q1, -⟩ | ⟨-, q2⟩
  · exact absurd q1 (by decide)
  · exact q2)
abbrev slc (c : Int) : Prop := c = 35 ∨ c = 42
theorem cc_isSlot (h : RD y p r t) (hp : 0 ≤ p ∧ p < 100000) (hT : 0 ≤ sg t 10 14 ∧ sg t 10 14 ≤ 60) (ht : ∀ i, 0 ≤ sg t 21 i ∧ sg t 21 i ≤ 127) : Cb kap 1 rX5_isSlot [.inr y] t (slc (heF (sg t 21) (sg t 10 14) p)) := by
  intro d hd
  have ky := h.ky
  have hh := heF_rng (T := sg t 10 14) (p := p) ht
  refine wc_aload_n dX5_isSlot_0 rfl ?_
  refine wc_call dX5_isSlot_1 rfl (cc_sign h hp hT) (by omega) (hx_V (kV5_41 rfl) rfl ky rfl rfl) ?_
  rintro _ _ ⟨rfl, rfl⟩
  refine wc_bipush dX5_isSlot_4 (by decide) ?_
  refine wc_icmp dX5_isSlot_6 (cB_eq ⟨by omega, by omega⟩ ⟨by omega, by omega⟩) 18 rfl (fun c6 => ?_) (fun c6 => ?_)
  ·
    refine wc_iconst dX5_isSlot_18 ?_
    refine wc_goto dX5_isSlot_19 23 rfl ?_
    refine wc_breturn dX5_isSlot_23 rfl (by omega) ?_
    exact ⟨rfl, Or.inl ⟨Or.inl (by omega), rfl⟩⟩
  ·
    refine wc_aload_n dX5_isSlot_9 rfl ?_
    refine wc_call dX5_isSlot_10 rfl (cc_sign h hp hT) (by omega) (hx_V (kV5_41 rfl) rfl ky rfl rfl) ?_
    rintro _ _ ⟨rfl, rfl⟩
    refine wc_bipush dX5_isSlot_13 (by decide) ?_
    refine wc_icmp dX5_isSlot_15 (cB_ne ⟨by omega, by omega⟩ ⟨by omega, by omega⟩) 22 rfl (fun c15 => ?_) (fun c15 => ?_)
    ·
      refine wc_iconst dX5_isSlot_22 ?_
      refine wc_breturn dX5_isSlot_23 rfl (by omega) ?_
      exact ⟨rfl, Or.inr ⟨fun q => by unfold slc at q; omega, rfl⟩⟩
    ·
      refine wc_iconst dX5_isSlot_18 ?_
      refine wc_goto dX5_isSlot_19 23 rfl ?_
      refine wc_breturn dX5_isSlot_23 rfl (by omega) ?_
      exact ⟨rfl, Or.inl ⟨Or.inr (by omega), rfl⟩⟩
theorem RD.fr (h : RD y p r t) (g : FrQ q t u) (hq : q < y) : RD y p r u := by
  obtain ⟨⟨h1, h2, h3⟩, h4, h5⟩ := h
  have e0 : n0C u = n0C t := by unfold n0C; rw [g.1]
  have ev : nvC u = nvC t := by unfold nvC; rw [g.1]
  have e : ∀ a, y ≤ a → sg u a = sg t a := fun a ha => g.2.2 a (by omega)
  unfold RD
  rw [e0, ev, g.2.1, e y (by omega), e (y + 1) (by omega), e (y + 2) (by omega)]
  exact ⟨⟨h1, h2, h3⟩, h4, h5⟩
/-- one place on -/
theorem RD.next (h : RD y p r t) : RD y (p + 1) r (stC t y 4 (p + 1)) := by
  obtain ⟨⟨h1, h2, h3⟩, h4, h5⟩ := h
  unfold RD
  rw [sg_st' (show y + 1 ≠ y by omega), sg_st' (show y + 2 ≠ y by omega), sg_st, if_neg (by decide), sg_st, if_neg (by decide), sg_st, if_neg (by decide), sg_st, if_neg (by decide), sg_st, if_neg (by decide), sg_st, if_pos rfl]
  exact ⟨⟨h1, h2, h3⟩, ⟨h4.1, h4.2.1, rfl⟩, h5⟩
theorem updS (w : Nat → Int) (i : Nat) (v : Int) : updW w i v i = v := if_pos rfl
theorem slot_0 : slotR r c x Y 0 = r 0 + 1 := updS _ _ _
theorem slot_1 (hr : 0 ≤ r 0) : slotR r c x Y 1 = if c = 42 then r 0 else r 1 := by
  unfold slotR
  rw [upd_ne (by decide), upd_ne (by omega), upd_ne (by omega), updS]
theorem slot_n (hr : 0 ≤ r 0) : slotR r c x Y (2 + 2 * r 0).toNat = x ∧ slotR r c x Y (3 + 2 * r 0).toNat = Y := by
  unfold slotR
  rw [upd_ne (by omega), upd_ne (by omega), updS, upd_ne (by omega), updS]
  exact ⟨rfl, rfl⟩
theorem slot_k {k : Int} (hk : 0 ≤ k ∧ k < r 0) : slotR r c x Y (2 + 2 * k).toNat = r (2 + 2 * k).toNat ∧ slotR r c x Y (3 + 2 * k).toNat = r (3 + 2 * k).toNat := by
  unfold slotR
  rw [upd_ne (by omega), upd_ne (by omega), upd_ne (by omega), upd_ne (by omega), upd_ne (by omega), upd_ne (by omega), upd_ne (by omega), upd_ne (by omega)]
  exact ⟨rfl, rfl⟩
/-- a slot more -/
theorem RD.slot {an : Int} (h : RD y p r t) (hr : 0 ≤ r 0 ∧ r 0 ≤ 9) (hx : an = if c = 42 then r 0 else r 1) : RD y p (slotR r c x Y) (stC (stC (stC (stC t y 3 an) (y + 1) (r 0).toNat x) (y + 2) (r 0).toNat Y) y 2 (r 0 + 1)) := by
  obtain ⟨⟨h1, h2, h3⟩, h4, h5⟩ := h
  have n1 : y + 1 ≠ y := by omega
  have n2 : y + 2 ≠ y := by omega
  have n3 : y + 2 ≠ y + 1 := by omega
  have e0 : slotR r c x Y 0 = r 0 + 1 := slot_0
  have e1 : slotR r c x Y 1 = if c = 42 then r 0 else r 1 := slot_1 hr.1
  have ey : ∀ j, sg (stC (stC (stC (stC t y 3 an) (y + 1) (r 0).toNat x) (y + 2) (r 0).toNat Y) y 2 (r 0 + 1)) y j = if j = 2 then r 0 + 1 else if j = 3 then an else sg t y j := fun j => by
    rw [sg_st]
    by_cases q : j = 2
    · rw [if_pos q, if_pos q]
    · rw [if_neg q, if_neg q, sg_st' (Ne.symm n2), sg_st' (Ne.symm n1), sg_st]
  have ez1 : ∀ j, sg (stC (stC (stC (stC t y 3 an) (y + 1) (r 0).toNat x) (y + 2) (r 0).toNat Y) y 2 (r 0 + 1)) (y + 1) j = if j = (r 0).toNat then x else sg t (y + 1) j := fun j => by
    rw [sg_st' n1, sg_st' (Ne.symm n3), sg_st, sg_st' n1]
  have ez2 : ∀ j, sg (stC (stC (stC (stC t y 3 an) (y + 1) (r 0).toNat x) (y + 2) (r 0).toNat Y) y 2 (r 0 + 1)) (y + 2) j = if j = (r 0).toNat then Y else sg t (y + 2) j := fun j => by
    rw [sg_st' n2, sg_st, sg_st' n3, sg_st' n2]
  refine ⟨⟨h1, h2, ?_⟩, ?_, fun k k0 k1 => ?_⟩
  · rw [ey, ey, ey]; exact h3
  · rw [ey, ey, ey, e0, e1]; exact ⟨rfl, hx, h4.2.2⟩
  · rw [e0] at k1
    rw [ez1, ez2]
    by_cases q : k = r 0
    · rw [q, if_pos rfl, if_pos rfl]
      have := slot_n (r := r) (c := c) (x := x) (Y := Y) hr.1
      exact ⟨this.1.symm, this.2.symm⟩
    · have := h5 k k0 (by omega)
      have h6 := slot_k (r := r) (c := c) (x := x) (Y := Y) (k := k) ⟨k0, by omega⟩
      rw [if_neg (by omega), if_neg (by omega), h6.1, h6.2]
      exact this
end QSR
