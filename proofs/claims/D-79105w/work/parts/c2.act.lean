/-! THE CLASS'S METHODS, 12: what members do -/
set_option maxRecDepth 100000
/-- what acting leaves alone -/
def FrA (t u : CT) : Prop := u.1 = t.1 ∧ u.2.1 = t.2.1 ∧ sg u 103 = sg t 103 ∧ ∀ y, y ≠ 102 → y ≠ 105 → (110 ≤ y → ∀ m : Int, 0 ≤ m → m < 10 → y ≠ mnC t m) → sg u y = sg t y
/-- the row's conditions -/
def IR (w : Nat → Int) : Prop := (0 ≤ w 0 ∧ w 0 ≤ 10) ∧ InjM w ∧ BitO w ∧ (∀ m : Int, 0 ≤ m → m ≤ 9 → celF w m < 120)
theorem fstI_skip {p : Int → Bool} {n : Nat} {i : Int} (h : p i = false) : fstI p (n + 1) i = fstI p n (i + 1) := by
  show (if p i = true then i else fstI p n (i + 1)) = _
  rw [if_neg (by rw [h]; decide)]
theorem fstI_hit {p : Int → Bool} {n : Nat} {i : Int} (h : p i = true) : fstI p (n + 1) i = i := by
  show (if p i = true then i else fstI p n (i + 1)) = _
  rw [if_pos h]
section ACT
variable {w w0 : Nat → Int} {τ t u : CT} {m c v p s A T a o : Int} {d k y x n i j : Nat} {Q : Option AV → CT → Prop} {TT : Nat → Option CK}
theorem FrA.rf : FrA t t := ⟨rfl, rfl, rfl, fun _ _ _ _ => rfl⟩
theorem FrA.tr {x : CT} (h : FrA t u) (g : FrA u x) : FrA t x := ⟨g.1.trans h.1, g.2.1.trans h.2.1, g.2.2.1.trans h.2.2.1, fun y h1 h2 h3 => (g.2.2.2 y h1 h2 (fun hy m m0 m1 => by unfold mnC; rw [h.2.2.1]; exact h3 hy m m0 m1)).trans (h.2.2.2 y h1 h2 h3)⟩
theorem FrA.s102 : FrA t (stC t 102 i v) := ⟨rfl, rfl, sg_st' (by decide), fun y h1 _ _ => sg_st' h1⟩
theorem FrA.s105 : FrA t (stC t 105 i v) := ⟨rfl, rfl, sg_st' (by decide), fun y _ h2 _ => sg_st' h2⟩
theorem FrA.sM (hm : 0 ≤ m ∧ m < 10) (hy : 110 ≤ mnC t m) : FrA t (stC t (mnC t m) j v) := ⟨rfl, rfl, sg_st' (by omega), fun y h1 h2 h3 => sg_st' (fun q => by
  by_cases e : 110 ≤ y
  · exact h3 e m hm.1 hm.2 q
  · omega)⟩
theorem FrA.mn (h : FrA t u) (m : Int) : mnC u m = mnC t m := by unfold mnC; rw [h.2.2.1]
theorem FrA.gd (hS : WS w0) (h : FrA t u) (g : Gd w0 t) : Gd w0 u := by
  have e : ∀ y, y < 110 → y ≠ 102 → y ≠ 105 → sg u y = sg t y := fun y h1 h2 h3 => h.2.2.2 y h2 h3 (fun q => by omega)
  exact ⟨fun m m0 m1 => by rw [e 15 (by omega) (by omega) (by omega)]; exact g.1 m m0 m1, g.2.of hS (fun v hv => e v (by omega) (by omega) (by omega)) (by rw [e 10 (by omega) (by omega) (by omega)]) (by rw [e 10 (by omega) (by omega) (by omega)])⟩
theorem upd_comm {i j : Nat} {a b : Int} (h : i ≠ j) : updW (updW w i a) j b = updW (updW w j b) i a := by
  funext k
  unfold updW
  by_cases e1 : k = j
  · rw [if_pos e1]
    by_cases e2 : k = i
    · omega
    · rw [if_neg e2, if_pos e1]
  · rw [if_neg e1, if_neg e1]
theorem upd_same {i : Nat} {a b : Int} : updW (updW w i a) i b = updW w i b := by
  funext k
  unfold updW
  by_cases e1 : k = i
  · rw [if_pos e1, if_pos e1]
  · rw [if_neg e1, if_neg e1, if_neg e1]
theorem upd_at {i : Nat} {a : Int} : updW w i a i = a := if_pos rfl
theorem IR.upd (h : IR w) (hi : i ≠ 0 ∧ ∀ m : Int, 0 ≤ m → m ≤ 9 → i ≠ (12 + 6 * m + 0).toNat) (hb : i < 72 ∨ 192 ≤ i) : IR (updW w i v) := by
  obtain ⟨h1, h2, h3, h4⟩ := h
  refine ⟨by rw [upd_ne (Ne.symm hi.1)]; exact h1, h2.upd h1.2 hi, fun c c0 c1 => by rw [upd_ne (by omega)]; exact h3 c c0 c1, fun m m0 m1 => by rw [celF_upd hi.2 ⟨m0, m1⟩]; exact h4 m m0 m1⟩
theorem IR.cel (h : IR w) (hm : isM w m) (hc : 0 ≤ c ∧ c < 120) (ho : onF w c < 0) : IR (celW w m c) := by
  obtain ⟨h1, h2, h3, h4⟩ := h
  have hr := isM_le hm h1.2
  refine ⟨by rw [celW_0 hr.1]; exact h1, h2.cel h1.2 hm hc.1 ho, fun c' c0 c1 => by show updW w _ _ _ = 0 ∨ updW w _ _ _ = 1; rw [upd_ne (by omega)]; exact h3 c' c0 c1, fun m' m0 m1 => ?_⟩
  by_cases e : m' = m
  · subst e; rw [celW_self]; exact hc.2
  · rw [celW_ne hr.1 m0 e]; exact h4 m' m0 m1
theorem fldI {p : Int} (hm : 0 ≤ m ∧ m ≤ 9) (hp : 1 ≤ p ∧ p ≤ 5) : (12 + 6 * m + p).toNat ≠ 0 ∧ ∀ m' : Int, 0 ≤ m' → m' ≤ 9 → (12 + 6 * m + p).toNat ≠ (12 + 6 * m' + 0).toNat := ⟨by omega, fun m' a b => by omega⟩
theorem goes_alt (hm : 0 ≤ m) : goesF w m c = updW (updW (celW w m c) (12 + 6 * m + 2).toNat (w (12 + 6 * m + 2).toNat + 1)) (12 + 6 * m + 1).toNat 0 := by
  unfold goesF celW
  rw [upd_ne (by omega), upd_ne (by omega), upd_comm (by omega)]
theorem cc_steps (h : Wd w t) (hI : IR w) (hm : isM w m) (hc : 0 ≤ c ∧ c < 120) (ho : onF w c < 0) : Ct kap 1 rX0_steps [.inr 10, .inr (mnC t m), .inl c] t (fun v u => none = v ∧ FrA t u ∧ Wd (goesF w m c) u) := by
  intro d hd
  have h0 := hI.1.2
  have hr := isM_le hm h0
  have hM := h.mem h0 hm
  have hk := hM.kd (T := kap)
  have hw := h.wr h0 hm
  have hW1 := h.moves h0 hI.2.1 hm hc ho
  have hmn : mnC (movC t (mnC t m) (celF w m) m c) m = mnC t m := by
    unfold mnC movC
    rw [sg_st' (by have := hM.1.1; unfold mnC at this; omega), sg_st' (by decide), sg_st' (by decide)]
  have h01 : celW w m c 0 ≤ 10 := by rw [celW_0 hr.1]; exact h0
  have hm1 := (isM_cel h0 hm hc.1 m).mpr hm
  have hM1 := hW1.mem h01 hm1
  rw [hmn] at hM1
  have hF0 : FrA t (movC t (mnC t m) (celF w m) m c) := by
    unfold movC
    have f1 : FrA t (stC (stC t 102 (celF w m).toNat (-1)) 102 c.toNat m) := FrA.s102.tr FrA.s102
    have f2 := FrA.sM (t := stC (stC t 102 (celF w m).toNat (-1)) 102 c.toNat m) (m := m) (j := 1) (v := c) ⟨hr.1, by omega⟩ (by rw [f1.mn]; exact hM.1.1)
    rw [f1.mn] at f2
    exact f1.tr f2
  have hW2 := hW1.fld (j := 4) (p := 2) (v := celW w m c (12 + 6 * m + 2).toNat + 1) (Or.inr (Or.inr (Or.inl ⟨rfl, rfl⟩))) h01 hm1
  rw [hmn] at hW2
  have h02 : updW (celW w m c) (12 + 6 * m + 2).toNat (celW w m c (12 + 6 * m + 2).toNat + 1) 0 ≤ 10 := by rw [upd_ne (by omega)]; exact h01
  have hm2 := (isM_upd (v := celW w m c (12 + 6 * m + 2).toNat + 1) h01 (fldI hr (p := 2) (by omega)) m).mpr hm1
  have hF2 := FrA.sM (t := movC t (mnC t m) (celF w m) m c) (m := m) (j := 4) (v := celW w m c (12 + 6 * m + 2).toNat + 1) ⟨hr.1, by omega⟩ (by rw [hmn]; exact hM.1.1)
  have hmn2 := hF2.mn m
  rw [hmn] at hF2 hmn2
  have hW3 := hW2.fld (j := 3) (p := 1) (v := 0) (Or.inr (Or.inl ⟨rfl, rfl⟩)) h02 hm2
  rw [hmn2] at hW3
  have hF3 := FrA.sM (t := stC (movC t (mnC t m) (celF w m) m c) (mnC t m) 4 (celW w m c (12 + 6 * m + 2).toNat + 1)) (m := m) (j := 3) (v := 0) ⟨hr.1, by omega⟩ (by rw [hmn2]; exact hM.1.1)
  rw [hmn2] at hF3
  refine wc_aload_n dX0_steps_0 rfl ?_
  refine wc_getC dX0_steps_1 (kF0_19 rfl) rfl rfl ?_
  refine wc_aload_n dX0_steps_4 rfl ?_
  refine wc_iload_n dX0_steps_5 rfl ?_
  refine wc_call dX0_steps_6 rfl (cc_moves h h0 hm (hI.2.2.2 m hr.1 hr.2) hc) (by omega) (hx_V (kV0_128 rfl) rfl rfl rfl rfl) ?_
  rintro _ _ ⟨rfl, rfl⟩
  refine wc_aload_n dX0_steps_9 rfl ?_
  refine wc_dup dX0_steps_10 ?_
  refine wc_getI dX0_steps_11 (kF0_132 rfl) hk rfl ?_
  rw [hM1.2.2.2.2.2.1]
  refine wc_iconst dX0_steps_14 ?_
  refine wc_iadd dX0_steps_15 ?_
  refine wc_putI dX0_steps_16 (kF0_132 rfl) rfl hk rfl hw (Or.inl rfl) ?_
  refine wc_aload_n dX0_steps_19 rfl ?_
  refine wc_iconst dX0_steps_20 ?_
  refine wc_putI dX0_steps_21 (kF0_135 rfl) rfl hk rfl hw (Or.inl rfl) ?_
  refine wc_vreturn dX0_steps_24 rfl ?_
  refine ⟨rfl, (hF0.tr hF2).tr hF3, ?_⟩
  rw [goes_alt hr.1, show w (12 + 6 * m + 2).toNat = celW w m c (12 + 6 * m + 2).toNat from (upd_ne (by omega)).symm]
  exact hW3
theorem cc_waits (h : Wd w t) (hI : IR w) (hm : isM w m) : Ct kap 0 rX0_waits [.inr 10, .inr (mnC t m)] t (fun v u => none = v ∧ FrA t u ∧ Wd (waitsF w m) u) := by
  intro d hd
  have h0 := hI.1.2
  have hr := isM_le hm h0
  have hM := h.mem h0 hm
  have hk := hM.kd (T := kap)
  have hw := h.wr h0 hm
  have hW1 := h.fld (j := 5) (p := 3) (v := w (12 + 6 * m + 3).toNat + 1) (Or.inr (Or.inr (Or.inr (Or.inl ⟨rfl, rfl⟩)))) h0 hm
  have hF1 := FrA.sM (t := t) (m := m) (j := 5) (v := w (12 + 6 * m + 3).toNat + 1) ⟨hr.1, by omega⟩ hM.1.1
  have e2 := hW1.acc (k := 2) (by omega)
  have hW2 := hW1.cnt (k := 2) (v := updW w (12 + 6 * m + 3).toNat (w (12 + 6 * m + 3).toNat + 1) 6 + 1) (by rw [upd_ne (by omega)]; exact h0) (by omega)
  refine wc_aload_n dX0_waits_0 rfl ?_
  refine wc_dup dX0_waits_1 ?_
  refine wc_getI dX0_waits_2 (kF0_138 rfl) hk rfl ?_
  rw [hM.2.2.2.2.2.2.1]
  refine wc_iconst dX0_waits_5 ?_
  refine wc_iadd dX0_waits_6 ?_
  refine wc_putI dX0_waits_7 (kF0_138 rfl) rfl hk rfl hw (Or.inl rfl) ?_
  refine wc_aload_n dX0_waits_10 rfl ?_
  refine wc_getC dX0_waits_11 (kF0_19 rfl) rfl rfl ?_
  refine wc_getC dX0_waits_14 (kF0_141 rfl) rfl rfl ?_
  refine wc_iconst dX0_waits_17 ?_
  refine wc_dup2 dX0_waits_18 ?_
  refine wc_iaload dX0_waits_19 rfl rfl rfl ⟨by omega, by omega⟩ _ rfl ?_
  rw [e2]
  refine wc_iconst dX0_waits_20 ?_
  refine wc_iadd dX0_waits_21 ?_
  refine wc_iastore dX0_waits_22 rfl ⟨by decide, Or.inl (by decide)⟩ rfl ⟨by omega, by omega⟩ _ rfl ?_
  refine wc_vreturn dX0_waits_23 rfl ?_
  exact ⟨rfl, hF1.tr FrA.s105, hW2⟩
/-- steps, waiting, reason of one that was exchanged -/
def isxF (w : Nat → Int) (m : Int) : Nat → Int := updW (updW (updW w (12 + 6 * m + 2).toNat (w (12 + 6 * m + 2).toNat + 1)) (12 + 6 * m + 1).toNat 0) (12 + 6 * m + 5).toNat 4
theorem cc_isExchanged (h : Wd w t) (hI : IR w) (hm : isM w m) : Ct kap 0 rX0_isExchanged [.inr 10, .inr (mnC t m)] t (fun v u => none = v ∧ FrA t u ∧ Wd (isxF w m) u) := by
  intro d hd
  have h0 := hI.1.2
  have hr := isM_le hm h0
  have hM := h.mem h0 hm
  have hk := hM.kd (T := kap)
  have hw := h.wr h0 hm
  have hW1 := h.fld (j := 4) (p := 2) (v := w (12 + 6 * m + 2).toNat + 1) (Or.inr (Or.inr (Or.inl ⟨rfl, rfl⟩))) h0 hm
  have hF1 := FrA.sM (t := t) (m := m) (j := 4) (v := w (12 + 6 * m + 2).toNat + 1) ⟨hr.1, by omega⟩ hM.1.1
  have hmn1 := hF1.mn m
  have h01 : updW w (12 + 6 * m + 2).toNat (w (12 + 6 * m + 2).toNat + 1) 0 ≤ 10 := by rw [upd_ne (by omega)]; exact h0
  have hm1 := (isM_upd (v := w (12 + 6 * m + 2).toNat + 1) h0 (fldI hr (p := 2) (by omega)) m).mpr hm
  have hW2 := hW1.fld (j := 3) (p := 1) (v := 0) (Or.inr (Or.inl ⟨rfl, rfl⟩)) h01 hm1
  have hF2 := FrA.sM (t := stC t (mnC t m) 4 (w (12 + 6 * m + 2).toNat + 1)) (m := m) (j := 3) (v := 0) ⟨hr.1, by omega⟩ (by rw [hmn1]; exact hM.1.1)
  have hmn2 := (hF1.tr hF2).mn m
  rw [hmn1] at hW2 hF2 hmn2
  have h02 : updW (updW w (12 + 6 * m + 2).toNat (w (12 + 6 * m + 2).toNat + 1)) (12 + 6 * m + 1).toNat 0 0 ≤ 10 := by rw [upd_ne (by omega)]; exact h01
  have hm2 := (isM_upd (v := 0) h01 (fldI hr (p := 1) (by omega)) m).mpr hm1
  have hW3 := hW2.fld (j := 2) (p := 5) (v := 4) (Or.inl ⟨rfl, rfl⟩) h02 hm2
  have hF3 := FrA.sM (t := stC (stC t (mnC t m) 4 (w (12 + 6 * m + 2).toNat + 1)) (mnC t m) 3 0) (m := m) (j := 2) (v := 4) ⟨hr.1, by omega⟩ (by rw [hmn2]; exact hM.1.1)
  rw [hmn2] at hW3 hF3
  refine wc_aload_n dX0_isExchanged_0 rfl ?_
  refine wc_dup dX0_isExchanged_1 ?_
  refine wc_getI dX0_isExchanged_2 (kF0_132 rfl) hk rfl ?_
  rw [hM.2.2.2.2.2.1]
  refine wc_iconst dX0_isExchanged_5 ?_
  refine wc_iadd dX0_isExchanged_6 ?_
  refine wc_putI dX0_isExchanged_7 (kF0_132 rfl) rfl hk rfl hw (Or.inl rfl) ?_
  refine wc_aload_n dX0_isExchanged_10 rfl ?_
  refine wc_iconst dX0_isExchanged_11 ?_
  refine wc_putI dX0_isExchanged_12 (kF0_135 rfl) rfl hk rfl hw (Or.inl rfl) ?_
  refine wc_aload_n dX0_isExchanged_15 rfl ?_
  refine wc_iconst dX0_isExchanged_16 ?_
  refine wc_putI dX0_isExchanged_17 (kF0_170 rfl) rfl hk rfl hw (Or.inl rfl) ?_
  refine wc_vreturn dX0_isExchanged_20 rfl ?_
  exact ⟨rfl, (hF1.tr hF2).tr hF3, hW3⟩
/-- the cell of the first way, or none -/
def wcF (w : Nat → Int) (m : Int) (p : Int → Bool) : Int := if 0 ≤ wayF p then besF (celF w m) (wayF p) else -1
theorem cc_asideOf_loop (h : Wd w t) (hI : IR w) (hm : isM w m) (hd : 3 ≤ d) : ∀ (n : Nat) (i : Int) (o3 : Option AV), i + n = 4 → 0 ≤ i → fstI (asdF w m) n i = wayF (asdF w m) → Wc kap d rX0_asideOf 2 [some (.inr 10), some (.inr (mnC t m)), some (.inl i), o3] [] t (nQ (fun v u => some (.inl (wcF w m (asdF w m))) = v ∧ t = u)) := by
  have h0 := hI.1.2
  have hr := isM_le hm h0
  have hM := h.mem h0 hm
  have hk := hM.kd (T := kap)
  have hc : 0 ≤ celF w m ∧ celF w m < 120 := ⟨hm.2, hI.2.2.2 m hr.1 hr.2⟩
  intro n
  induction n with
  | zero =>
    intro i o3 hi i0 hf
    refine wc_iload_n dX0_asideOf_2 rfl ?_
    refine wc_iconst dX0_asideOf_3 ?_
    refine wc_icmp dX0_asideOf_4 (cB_ge ⟨by omega, by omega⟩ ⟨by omega, by omega⟩) 39 rfl (fun c4 => ?_) (fun c4 => ?_)
    ·
      refine wc_iconst dX0_asideOf_39 ?_
      refine wc_ireturn dX0_asideOf_40 rfl ?_
      refine ⟨?_, rfl⟩
      unfold wcF
      rw [← hf]
      rfl
    ·
      omega
  | succ n ih =>
    intro i o3 hi i0 hf
    have hbs := besF_rng (celF w m) i
    have hno : asdF w m i = false → ∀ o3, Wc kap d rX0_asideOf 2 [some (.inr 10), some (.inr (mnC t m)), some (.inl (i + 1)), o3] [] t (nQ (fun v u => some (.inl (wcF w m (asdF w m))) = v ∧ t = u)) := fun q o3 => ih (i + 1) o3 (by omega) (by omega) ((fstI_skip q).symm.trans hf)
    refine wc_iload_n dX0_asideOf_2 rfl ?_
    refine wc_iconst dX0_asideOf_3 ?_
    refine wc_icmp dX0_asideOf_4 (cB_ge ⟨by omega, by omega⟩ ⟨by omega, by omega⟩) 39 rfl (fun c4 => ?_) (fun c4 => ?_)
    ·
      omega
    ·
      refine wc_aload_n dX0_asideOf_7 rfl ?_
      refine wc_getI dX0_asideOf_8 (kF0_49 rfl) hk rfl ?_
      rw [hM.2.2.1]
      refine wc_iload_n dX0_asideOf_11 rfl ?_
      refine wc_call dX0_asideOf_12 rfl (cc_neighbor hc ⟨i0, by omega⟩) (by omega) (hx_S (kS0_32 rfl) (kSn0_32 rfl) rfl rfl) ?_
      rintro _ _ ⟨rfl, rfl⟩
      refine wc_istore_n dX0_asideOf_15 rfl ?_
      refine wc_iload_n dX0_asideOf_16 rfl ?_
      refine wc_if dX0_asideOf_17 (cB_lt (show rng _ by omega) ⟨by omega, by omega⟩) 33 rfl (fun c17 => ?_) (fun c17 => ?_)
      ·
        refine wc_iinc dX0_asideOf_33 rfl ?_
        refine wc_goto dX0_asideOf_36 2 rfl ?_
        exact hno (by unfold asdF; rw [decide_eq_false_iff_not]; exact fun q => by have := q.1; omega) _
      ·
        refine wc_aload_n dX0_asideOf_20 rfl ?_
        refine wc_getC dX0_asideOf_21 (kF0_19 rfl) rfl rfl ?_
        refine wc_iload_n dX0_asideOf_24 rfl ?_
        refine wc_call dX0_asideOf_25 rfl (cc_isFree h hI.2.2.1 ⟨by omega, hbs.2⟩) (by omega) (hx_V (kV0_162 rfl) rfl rfl rfl rfl) ?_
        rintro _ _ ⟨rfl, ⟨h25, rfl⟩ | ⟨h25, rfl⟩⟩
        ·
          refine wc_ifF dX0_asideOf_28 (by decide) 33 rfl ?_
          refine wc_iload_n dX0_asideOf_31 rfl ?_
          refine wc_ireturn dX0_asideOf_32 rfl ?_
          have hy : asdF w m i = true := by
            unfold asdF
            rw [decide_eq_true_eq]
            exact ⟨by omega, h25⟩
          have hw : wayF (asdF w m) = i := hf.symm.trans (fstI_hit hy)
          refine ⟨?_, rfl⟩
          unfold wcF
          rw [hw, if_pos i0]
        ·
          refine wc_ifT dX0_asideOf_28 (by decide) 33 rfl ?_
          refine wc_iinc dX0_asideOf_33 rfl ?_
          refine wc_goto dX0_asideOf_36 2 rfl ?_
          exact hno (by unfold asdF; rw [decide_eq_false_iff_not]; exact fun q => h25 q.2) _
theorem cc_asideOf (h : Wd w t) (hI : IR w) (hm : isM w m) : Cf kap 3 rX0_asideOf [.inr 10, .inr (mnC t m)] t (some (.inl (wcF w m (asdF w m)))) t := by
  intro d hd
  refine wc_iconst dX0_asideOf_0 ?_
  refine wc_istore_n dX0_asideOf_1 rfl ?_
  exact cc_asideOf_loop h hI hm hd 4 0 _ (by omega) (by omega) rfl
end ACT
