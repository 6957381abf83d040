/-! THE CLASS'S METHODS, 15: acts -/
set_option maxRecDepth 100000
theorem ex_row0 (w : Nat → Int) (x y : Nat) (a b : Int) (hx : 12 ≤ x) (hy : 12 ≤ y) (h : x + 6 ≤ y ∨ y + 6 ≤ x) :
    updW (updW (updW (updW (updW (updW (updW (updW (updW w x a) y b) 7 (w 7 + 1)) (x + 2) (w (x + 2) + 1)) (x + 1) 0) (x + 5) 4) (y + 2) (w (y + 2) + 1)) (y + 1) 0) (y + 5) 4 =
    updW (updW (updW (updW (updW (updW (updW (updW (updW w x a) (x + 1) 0) (x + 2) (w (x + 2) + 1)) y b) (y + 1) 0) (y + 2) (w (y + 2) + 1)) 7 (w 7 + 1)) (x + 5) 4) (y + 5) 4 := by
  funext i
  unfold updW
  by_cases e1 : i = y + 5
  · rw [if_pos e1, if_pos e1]
  · by_cases e2 : i = y + 1
    · simp only [if_neg e1, if_pos e2, if_neg (show ¬ i = x + 5 by omega), if_neg (show ¬ i = 7 by omega), if_neg (show ¬ i = y + 2 by omega)]
    · by_cases e3 : i = y + 2
      · simp only [if_neg e1, if_neg e2, if_pos e3, if_neg (show ¬ i = x + 5 by omega), if_neg (show ¬ i = 7 by omega)]
      · by_cases e4 : i = x + 5
        · simp only [if_neg e1, if_neg e2, if_neg e3, if_pos e4]
        · by_cases e5 : i = x + 1
          · simp only [if_neg e1, if_neg e2, if_neg e3, if_neg e4, if_pos e5, if_neg (show ¬ i = 7 by omega), if_neg (show ¬ i = y by omega), if_neg (show ¬ i = x + 2 by omega)]
          · by_cases e6 : i = x + 2
            · simp only [if_neg e1, if_neg e2, if_neg e3, if_neg e4, if_neg e5, if_pos e6, if_neg (show ¬ i = 7 by omega), if_neg (show ¬ i = y by omega)]
            · by_cases e7 : i = 7
              · simp only [if_neg e1, if_neg e2, if_neg e3, if_neg e4, if_neg e5, if_neg e6, if_pos e7]
              · by_cases e8 : i = y
                · simp only [if_neg e1, if_neg e2, if_neg e3, if_neg e4, if_neg e5, if_neg e6, if_neg e7, if_pos e8]
                · simp only [if_neg e1, if_neg e2, if_neg e3, if_neg e4, if_neg e5, if_neg e6, if_neg e7, if_neg e8]
section AC4
variable {w w0 : Nat → Int} {τ t u : CT} {m c v p s A T a o : Int} {d k y x n i j : Nat} {Q : Option AV → CT → Prop} {TT : Nat → Option CK}
theorem exch_row (hm : 0 ≤ m ∧ m ≤ 9) (ho : 0 ≤ o ∧ o ≤ 9) (hne : o ≠ m) : isxF (isxF (cntW (exW w m o a c) 3) m) o = exchW w m o a c := by
  have h := ex_row0 w (12 + 6 * m).toNat (12 + 6 * o).toNat a c (by omega) (by omega) (by omega)
  have e : ∀ (z : Int), 0 ≤ z → (12 + 6 * z + 0).toNat = (12 + 6 * z).toNat ∧ (12 + 6 * z + 1).toNat = (12 + 6 * z).toNat + 1 ∧ (12 + 6 * z + 2).toNat = (12 + 6 * z).toNat + 2 ∧ (12 + 6 * z + 5).toNat = (12 + 6 * z).toNat + 5 := fun z hz => by omega
  obtain ⟨m0, m1, m2, m5⟩ := e m hm.1
  obtain ⟨o0, o1, o2, o5⟩ := e o ho.1
  have h7 : (4 + 3 : Int).toNat = 7 := rfl
  have l : isxF (isxF (cntW (exW w m o a c) 3) m) o = updW (updW (updW (updW (updW (updW (updW (updW (updW w (12 + 6 * m).toNat a) (12 + 6 * o).toNat c) 7 (w 7 + 1)) ((12 + 6 * m).toNat + 2) (w ((12 + 6 * m).toNat + 2) + 1)) ((12 + 6 * m).toNat + 1) 0) ((12 + 6 * m).toNat + 5) 4) ((12 + 6 * o).toNat + 2) (w ((12 + 6 * o).toNat + 2) + 1)) ((12 + 6 * o).toNat + 1) 0) ((12 + 6 * o).toNat + 5) 4 := by
    unfold isxF cntW exW celW
    rw [m0, m1, m2, m5, o0, o1, o2, o5, h7]
    have q1 : updW (updW w (12 + 6 * m).toNat a) (12 + 6 * o).toNat c 7 = w 7 := by rw [upd_ne (by omega), upd_ne (by omega)]
    rw [q1]
    have q2 : updW (updW (updW w (12 + 6 * m).toNat a) (12 + 6 * o).toNat c) 7 (w 7 + 1) ((12 + 6 * m).toNat + 2) = w ((12 + 6 * m).toNat + 2) := by rw [upd_ne (by omega), upd_ne (by omega), upd_ne (by omega)]
    rw [q2]
    have q3 : updW (updW (updW (updW (updW (updW w (12 + 6 * m).toNat a) (12 + 6 * o).toNat c) 7 (w 7 + 1)) ((12 + 6 * m).toNat + 2) (w ((12 + 6 * m).toNat + 2) + 1)) ((12 + 6 * m).toNat + 1) 0) ((12 + 6 * m).toNat + 5) 4 ((12 + 6 * o).toNat + 2) = w ((12 + 6 * o).toNat + 2) := by rw [upd_ne (by omega), upd_ne (by omega), upd_ne (by omega), upd_ne (by omega), upd_ne (by omega), upd_ne (by omega)]
    rw [q3]
  have r : exchW w m o a c = updW (updW (updW (updW (updW (updW (updW (updW (updW w (12 + 6 * m).toNat a) ((12 + 6 * m).toNat + 1) 0) ((12 + 6 * m).toNat + 2) (w ((12 + 6 * m).toNat + 2) + 1)) (12 + 6 * o).toNat c) ((12 + 6 * o).toNat + 1) 0) ((12 + 6 * o).toNat + 2) (w ((12 + 6 * o).toNat + 2) + 1)) 7 (w 7 + 1)) ((12 + 6 * m).toNat + 5) 4) ((12 + 6 * o).toNat + 5) 4 := by
    unfold exchW cntW goesF
    rw [m0, m1, m2, m5, o0, o1, o2, o5, h7]
    have q1 : updW (updW w (12 + 6 * m).toNat a) ((12 + 6 * m).toNat + 1) 0 ((12 + 6 * m).toNat + 2) = w ((12 + 6 * m).toNat + 2) := by rw [upd_ne (by omega), upd_ne (by omega)]
    rw [q1]
    have q2 : updW (updW (updW (updW (updW w (12 + 6 * m).toNat a) ((12 + 6 * m).toNat + 1) 0) ((12 + 6 * m).toNat + 2) (w ((12 + 6 * m).toNat + 2) + 1)) (12 + 6 * o).toNat c) ((12 + 6 * o).toNat + 1) 0 ((12 + 6 * o).toNat + 2) = w ((12 + 6 * o).toNat + 2) := by rw [upd_ne (by omega), upd_ne (by omega), upd_ne (by omega), upd_ne (by omega), upd_ne (by omega)]
    rw [q2]
    have q3 : updW (updW (updW (updW (updW (updW w (12 + 6 * m).toNat a) ((12 + 6 * m).toNat + 1) 0) ((12 + 6 * m).toNat + 2) (w ((12 + 6 * m).toNat + 2) + 1)) (12 + 6 * o).toNat c) ((12 + 6 * o).toNat + 1) 0) ((12 + 6 * o).toNat + 2) (w ((12 + 6 * o).toNat + 2) + 1) 7 = w 7 := by rw [upd_ne (by omega), upd_ne (by omega), upd_ne (by omega), upd_ne (by omega), upd_ne (by omega), upd_ne (by omega)]
    rw [q3]
  rw [l, r]
  exact h
theorem IR.ex (h : IR w) (hm : isM w m) (ho : isM w o) (hne : o ≠ m) : IR (exW w m o (celF w o) (celF w m)) := by
  obtain ⟨h1, h2, h3, h4⟩ := h
  have hr := isM_le hm h1.2
  have hro := isM_le ho h1.2
  refine ⟨by show 0 ≤ celW (celW w m _) o _ 0 ∧ celW (celW w m _) o _ 0 ≤ 10; rw [celW_0 hro.1, celW_0 hr.1]; exact h1, h2.ex h1.2 hm ho hne, fun c' c0 c1 => by show updW (updW w _ _) _ _ _ = 0 ∨ updW (updW w _ _) _ _ _ = 1; rw [upd_ne (by omega), upd_ne (by omega)]; exact h3 c' c0 c1, fun m' m0 m1 => ?_⟩
  rw [exW_cel w hr.1 hro.1 m0 hne]
  split
  · exact h4 o hro.1 hro.2
  · split
    · exact h4 m hr.1 hr.2
    · exact h4 m' m0 m1
theorem cc_acts (hS : WS w0) (hG : Gd w0 t) (h : Wd w t) (hI : IR w) (hR : RC w0 w) (hb : bdW 2000000000 w) (hm : isM w m) (hs : 0 ≤ slF w0 m) (hd0 : 0 < frF w0 (slF w0 m) (celF w m)) : Ct kap 5 rX0_acts [.inr 10, .inr (mnC t m)] t (fun v u => none = v ∧ FrA t u ∧ Wd (actF (slF w0) (frF w0) w m) u) := by
  intro d hd
  have h0 := hI.1.2
  have hr := isM_le hm h0
  have hM := h.mem h0 hm
  have hk := hM.kd (T := kap)
  have hw := h.wr h0 hm
  have hbr := hb (12 + 6 * m + 1).toNat
  have hr1 : rng (w 1) := by have := hb 1; omega
  have hcm : 0 ≤ celF w m ∧ celF w m < 120 := ⟨hm.2, hI.2.2.2 m hr.1 hr.2⟩
  have hpl := slF_pl w0 m hs
  have hx1 : ∀ {c : Int}, goesF w m c 0 = w 0 := fun {c} => by
    rw [goes_alt hr.1, upd_ne (by omega), upd_ne (by omega)]
    show celW w m _ 0 = _
    rw [celW_0 hr.1]
  refine wc_aload_n dX0_acts_0 rfl ?_
  refine wc_aload_n dX0_acts_1 rfl ?_
  refine wc_call dX0_acts_2 rfl (cc_freeFor hS hG h hI hR hm hs hd0) (by omega) (hx_V (kV0_176 rfl) rfl rfl rfl rfl) ?_
  rintro _ _ ⟨rfl, rfl⟩
  refine wc_istore_n dX0_acts_5 rfl ?_
  refine wc_iload_n dX0_acts_6 rfl ?_
  refine wc_if dX0_acts_7 (cB_lt (show rng _ by unfold wcF; have := besF_rng (celF w m) (wayF (stpW w0 w m)); split <;> omega) ⟨by omega, by omega⟩) 35 rfl (fun c7 => ?_) (fun c7 => ?_)
  ·
    have hwn : ¬ 0 ≤ wayF (stpW w0 w m) := fun q => by
      unfold wcF at c7
      rw [if_pos q] at c7
      rcases fstI_rng (stpW w0 w m) 4 0 (by omega) with e | ⟨-, -, e, -⟩
      · unfold wayF at q; omega
      · have := (stp_iff.mp e).1.1
        unfold wayF at c7
        omega
    refine wc_aload_n dX0_acts_35 rfl ?_
    refine wc_aload_n dX0_acts_36 rfl ?_
    refine wc_call dX0_acts_37 rfl (cc_partnerOf hS hG h hI hR hr1 hm hs hd0) (by omega) (hx_V (kV0_179 rfl) rfl rfl rfl rfl) ?_
    rintro _ _ ⟨rfl, rfl⟩
    have hpt : (0 ≤ wayF (excW0 w0 w m) ∧ ∃ o, isM w o ∧ o ≠ m ∧ celF w o = besF (celF w m) (wayF (excW0 w0 w m)) ∧ ptC w0 w t m = mnC t o ∧ onF w (besF (celF w m) (wayF (excW0 w0 w m))) = o) ∨ (¬ 0 ≤ wayF (excW0 w0 w m) ∧ ptC w0 w t m = 0) := by
      by_cases q : 0 ≤ wayF (excW0 w0 w m)
      · left
        have hat : excW0 w0 w m (wayF (excW0 w0 w m)) = true := by
          rcases fstI_rng (excW0 w0 w m) 4 0 (by omega) with e | ⟨-, -, e, -⟩
          · unfold wayF at q; omega
          · exact e
        obtain ⟨g1, g2, g3⟩ := exc_iff.mp hat
        have hon := (onF_rng w (besF (celF w m) (wayF (excW0 w0 w m)))).2.2 g2
        refine ⟨q, _, hon.1, fun e => ?_, hon.2, by unfold ptC; rw [if_pos q], rfl⟩
        have h2 : celF w m = besF (celF w m) (wayF (excW0 w0 w m)) := by
          have := hon.2
          rw [e] at this
          exact this
        have := g1.2
        rw [← h2] at this
        omega
      · right
        exact ⟨q, by unfold ptC; rw [if_neg q]⟩
    rcases hpt with ⟨hwe, o, ho, hne, hco, hpe, hone⟩ | ⟨hwe, hpe⟩
    · rw [hpe]
      have hO := h.mem h0 ho
      have hro := isM_le ho h0
      have hcoo : celF w o < 120 := hI.2.2.2 o hro.1 hro.2
      have hWx := h.exch h0 hI.2.1 hm ho hne
      have hFx : FrA t (excC t (mnC t m) (mnC t o) (celF w m) (celF w o) m o) := by
        unfold excC
        have f1 : FrA t (stC (stC t 102 (celF w o).toNat m) 102 (celF w m).toNat o) := FrA.s102.tr FrA.s102
        have f2 := FrA.sM (t := stC (stC t 102 (celF w o).toNat m) 102 (celF w m).toNat o) (m := m) (j := 1) (v := celF w o) ⟨hr.1, by omega⟩ (by rw [f1.mn]; exact hM.1.1)
        rw [f1.mn] at f2
        have f3 := FrA.sM (t := stC (stC (stC t 102 (celF w o).toNat m) 102 (celF w m).toNat o) (mnC t m) 1 (celF w o)) (m := o) (j := 1) (v := celF w m) ⟨hro.1, by omega⟩ (by rw [(f1.tr f2).mn]; exact hO.1.1)
        rw [(f1.tr f2).mn] at f3
        exact (f1.tr f2).tr f3
      have hIx := hI.ex hm ho hne
      have hx0 : exW w m o (celF w o) (celF w m) 0 ≤ 10 := hIx.1.2
      have hI3 := hIx.upd (i := (4 + 3 : Int).toNat) (v := exW w m o (celF w o) (celF w m) 7 + 1) ⟨by omega, fun m' a b => by omega⟩ (Or.inl (by omega))
      have hW3 := hWx.cnt hx0 (k := 3) (v := exW w m o (celF w o) (celF w m) 7 + 1) (by omega)
      have hF3 := hFx.tr (FrA.s105 (i := (3 : Int).toNat) (v := exW w m o (celF w o) (celF w m) 7 + 1))
      have hm3 : isM (updW (exW w m o (celF w o) (celF w m)) (4 + 3 : Int).toNat (exW w m o (celF w o) (celF w m) 7 + 1)) m := (isM_upd hx0 ⟨by omega, fun m' a b => by omega⟩ m).mpr ((isM_ex h0 hm ho m).mpr hm)
      have ho3 : isM (updW (exW w m o (celF w o) (celF w m)) (4 + 3 : Int).toNat (exW w m o (celF w o) (celF w m) 7 + 1)) o := (isM_upd hx0 ⟨by omega, fun m' a b => by omega⟩ o).mpr ((isM_ex h0 hm ho o).mpr ho)
      have hcx := cc_isExchanged hW3 hI3 hm3
      rw [hF3.mn] at hcx
      refine wc_astore_n dX0_acts_40 rfl ?_
      refine wc_aload_n dX0_acts_41 rfl ?_
      refine wc_ifnonnull dX0_acts_42 (Or.inr (by rw [hO.kd]; rfl)) 55 rfl (fun c42 => ?_) (fun c42 => ?_)
      ·
        refine wc_aload_n dX0_acts_55 rfl ?_
        refine wc_getC dX0_acts_56 (kF0_19 rfl) rfl rfl ?_
        refine wc_aload_n dX0_acts_59 rfl ?_
        refine wc_aload_n dX0_acts_60 rfl ?_
        refine wc_call dX0_acts_61 rfl (cc_exchanges h h0 hm ho hne hcm.2 hcoo) (by omega) (hx_V (kV0_186 rfl) rfl rfl rfl rfl) ?_
        rintro _ _ ⟨rfl, rfl⟩
        refine wc_aload_n dX0_acts_64 rfl ?_
        refine wc_getC dX0_acts_65 (kF0_19 rfl) rfl rfl ?_
        refine wc_getC dX0_acts_68 (kF0_141 rfl) rfl rfl ?_
        refine wc_iconst dX0_acts_71 ?_
        refine wc_dup2 dX0_acts_72 ?_
        refine wc_iaload dX0_acts_73 rfl rfl rfl ⟨by omega, by omega⟩ _ rfl ?_
        rw [hWx.acc (k := 3) (by omega)]
        refine wc_iconst dX0_acts_74 ?_
        refine wc_iadd dX0_acts_75 ?_
        refine wc_iastore dX0_acts_76 rfl ⟨by decide, Or.inl (by decide)⟩ rfl ⟨by omega, by omega⟩ _ rfl ?_
        refine wc_aload_n dX0_acts_77 rfl ?_
        refine wc_aload_n dX0_acts_78 rfl ?_
        refine wc_call dX0_acts_79 rfl (hcx) (by omega) (hx_V (kV0_190 rfl) rfl rfl rfl rfl) ?_
        rintro _ _ ⟨rfl, hF4, hW4⟩
        have hI4 : IR (isxF (updW (exW w m o (celF w o) (celF w m)) (4 + 3 : Int).toNat (exW w m o (celF w o) (celF w m) 7 + 1)) m) := by
          unfold isxF
          exact ((hI3.upd (fldI hr (p := 2) (by omega)) (Or.inl (by omega))).upd (fldI hr (p := 1) (by omega)) (Or.inl (by omega))).upd (fldI hr (p := 5) (by omega)) (Or.inl (by omega))
        have ho4 : isM (isxF (updW (exW w m o (celF w o) (celF w m)) (4 + 3 : Int).toNat (exW w m o (celF w o) (celF w m) 7 + 1)) m) o := by
          unfold isxF
          refine (isM_upd ?_ (fldI hr (p := 5) (by omega)) o).mpr ((isM_upd ?_ (fldI hr (p := 1) (by omega)) o).mpr ((isM_upd hI3.1.2 (fldI hr (p := 2) (by omega)) o).mpr ho3))
          · rw [upd_ne (by omega), upd_ne (by omega)]; exact hI3.1.2
          · rw [upd_ne (by omega)]; exact hI3.1.2
        have hcy := cc_isExchanged hW4 hI4 ho4
        rw [hF4.mn, hF3.mn] at hcy
        refine wc_aload_n dX0_acts_82 rfl ?_
        refine wc_aload_n dX0_acts_83 rfl ?_
        refine wc_call dX0_acts_84 rfl (hcy) (by omega) (hx_V (kV0_190 rfl) rfl rfl rfl rfl) ?_
        rintro _ _ ⟨rfl, hF5, hW5⟩
        refine wc_vreturn dX0_acts_87 rfl ?_
        refine ⟨rfl, (hF3.tr hF4).tr hF5, ?_⟩
        unfold actF
        rw [if_neg (by omega), if_neg hwn, if_pos hwe]
        unfold excW
        rw [hone, ← hco, ← exch_row hr hro hne]
        exact hW5
      ·
        exact absurd c42 (by have := hO.1.1; omega)
    · rw [hpe]
      refine wc_astore_n dX0_acts_40 rfl ?_
      refine wc_aload_n dX0_acts_41 rfl ?_
      refine wc_ifnonnull dX0_acts_42 (Or.inl rfl) 55 rfl (fun c42 => ?_) (fun c42 => ?_)
      ·
        exact absurd rfl c42
      ·
        refine wc_aload_n dX0_acts_45 rfl ?_
        refine wc_aload_n dX0_acts_46 rfl ?_
        refine wc_aload_n dX0_acts_47 rfl ?_
        refine wc_call dX0_acts_48 rfl (cc_waitsOrGoes h hI hb hm) (by omega) (hx_V (kV0_183 rfl) rfl rfl rfl rfl) ?_
        rintro _ _ ⟨r, w2, rfl, hF2, hW2, ⟨h20, h2m⟩, hrow⟩
        refine wc_putI dX0_acts_51 (kF0_170 rfl) rfl (by rw [← hF2.mn]; exact (hW2.mem h20 h2m).kd) rfl (by rw [← hF2.mn]; exact hW2.wr h20 h2m) (Or.inl rfl) ?_
        refine wc_vreturn dX0_acts_54 rfl ?_
        have hW4 := hW2.fld (j := 2) (p := 5) (v := r) (Or.inl ⟨rfl, rfl⟩) h20 h2m
        have hF4 := FrA.sM (m := m) (j := 2) (v := r) ⟨hr.1, by omega⟩ (hW2.mem h20 h2m).1.1
        rw [hF2.mn] at hW4 hF4
        refine ⟨rfl, hF2.tr hF4, ?_⟩
        unfold actF
        rw [if_neg (by omega), if_neg hwn, if_neg hwe, ← hrow]
        exact hW4
  ·
    have hwp : 0 ≤ wayF (stpW w0 w m) := by
      unfold wcF at c7
      split at c7
      · rename_i q; exact q
      · omega
    have hat : stpW w0 w m (wayF (stpW w0 w m)) = true := by
      rcases fstI_rng (stpW w0 w m) 4 0 (by omega) with e | ⟨-, -, e, -⟩
      · unfold wayF at hwp; omega
      · exact e
    have hwc : wcF w m (stpW w0 w m) = besF (celF w m) (wayF (stpW w0 w m)) := by unfold wcF; rw [if_pos hwp]
    rw [hwc]
    have hbs := besF_rng (celF w m) (wayF (stpW w0 w m))
    have hat2 := stp_iff.mp hat
    have hcs := cc_steps (c := besF (celF w m) (wayF (stpW w0 w m))) h hI hm ⟨hat2.1.1, hbs.2⟩ hat2.2
    refine wc_aload_n dX0_acts_10 rfl ?_
    refine wc_aload_n dX0_acts_11 rfl ?_
    refine wc_iload_n dX0_acts_12 rfl ?_
    refine wc_call dX0_acts_13 rfl (hcs) (by omega) (hx_V (kV0_153 rfl) rfl rfl rfl rfl) ?_
    rintro _ _ ⟨rfl, hF2, hW2⟩
    refine wc_aload_n dX0_acts_16 rfl ?_
    refine wc_getC dX0_acts_17 (kF0_19 rfl) rfl rfl ?_
    refine wc_getC dX0_acts_20 (kF0_141 rfl) rfl rfl ?_
    refine wc_iconst dX0_acts_23 ?_
    refine wc_dup2 dX0_acts_24 ?_
    refine wc_iaload dX0_acts_25 rfl rfl rfl ⟨by omega, by omega⟩ _ rfl ?_
    rw [hW2.acc (k := 1) (by omega)]
    refine wc_iconst dX0_acts_26 ?_
    refine wc_iadd dX0_acts_27 ?_
    refine wc_iastore dX0_acts_28 rfl ⟨by decide, Or.inl (by decide)⟩ rfl ⟨by omega, by omega⟩ _ rfl ?_
    have hW3 := hW2.cnt (k := 1) (v := goesF w m (besF (celF w m) (wayF (stpW w0 w m))) 5 + 1) (by rw [hx1]; exact h0) (by omega)
    have hF3 := hF2.tr (FrA.s105 (i := (1 : Int).toNat) (v := goesF w m (besF (celF w m) (wayF (stpW w0 w m))) 5 + 1))
    have hmn2 := hF3.mn m
    have h30 : updW (goesF w m (besF (celF w m) (wayF (stpW w0 w m)))) (4 + 1 : Int).toNat (goesF w m (besF (celF w m) (wayF (stpW w0 w m))) 5 + 1) 0 ≤ 10 := by
      rw [upd_ne (by omega), hx1]
      exact h0
    have hm3 : isM (updW (goesF w m (besF (celF w m) (wayF (stpW w0 w m)))) (4 + 1 : Int).toNat (goesF w m (besF (celF w m) (wayF (stpW w0 w m))) 5 + 1)) m := by
      refine (isM_upd (by rw [hx1]; exact h0) ⟨by omega, fun m' a b => by omega⟩ m).mpr ?_
      rw [goes_alt hr.1]
      exact (isM_upd (by rw [upd_ne (by omega)]; rw [celW_0 hr.1]; exact h0) (fldI hr (p := 1) (by omega)) m).mpr ((isM_upd (by rw [celW_0 hr.1]; exact h0) (fldI hr (p := 2) (by omega)) m).mpr ((isM_cel h0 hm hat2.1.1 m).mpr hm))
    have hW4 := hW3.fld (j := 2) (p := 5) (v := 0) (Or.inl ⟨rfl, rfl⟩) h30 hm3
    have hF4 := FrA.sM (t := stC _ 105 (1 : Int).toNat (goesF w m (besF (celF w m) (wayF (stpW w0 w m))) 5 + 1)) (m := m) (j := 2) (v := 0) ⟨hr.1, by omega⟩ (hW3.mem h30 hm3).1.1
    rw [hmn2] at hW4 hF4
    refine wc_aload_n dX0_acts_29 rfl ?_
    refine wc_iconst dX0_acts_30 ?_
    refine wc_putI dX0_acts_31 (kF0_170 rfl) rfl (by rw [← hmn2]; exact (hW3.mem h30 hm3).kd) rfl (by rw [← hmn2]; exact hW3.wr h30 hm3) (Or.inl rfl) ?_
    refine wc_vreturn dX0_acts_34 rfl ?_
    refine ⟨rfl, hF3.tr hF4, ?_⟩
    unfold actF
    rw [if_neg (by omega), if_pos hwp]
    exact hW4
end AC4
