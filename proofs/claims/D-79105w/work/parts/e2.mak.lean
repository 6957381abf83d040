/-! THE CLASS'S METHODS, 23: rounds made, forming, cells noted -/
set_option maxRecDepth 100000
/-- the class stands as the row says, and the row is in order -/
def SI (w : Nat → Int) (C : Int) (t : CT) : Prop := St w t ∧ IR w ∧ WS w ∧ SH w ∧ bdW C w
section MAK
variable {w w0 w1 wb w' : Nat → Int} {τ t t0 u : CT} {a b m c v C N : Int} {d p q n k s x : Nat} {Q : Option AV → CT → Prop}
theorem SI.hw (h : SI w C t) (hC : C < 2000000000) : HW w := ⟨h.2.2.1, fun i => by have := h.2.2.2.2 i; omega, h.2.1.2.2.1⟩
theorem SH.sw (h : SH w) (s : SW w w') : SH w' := fun x x0 x1 => by
  have := h x x0 x1
  unfold sltF ancF at *
  rw [s.1 _ (by omega), s.1 _ (by omega)]
  exact this
theorem SI.frs (h : SI w C τ) (g : FrS τ t) : SI w C t := ⟨g.st h.1, h.2⟩
/-- a round, as a step of what stands -/
theorem cc_roundS (h : SI w C τ) (hC : 300 ≤ C ∧ C < 900000000) (hl : 0 ≤ ledF w) : Ct kap 70 rX0_round [.inr 10] τ (fun v u => none = v ∧ FrW τ u ∧ SI (roundF w) (C + 100) u ∧ SW w (roundF w) ∧ (nvC u ≤ nvC τ + 13 ∧ uC u ≤ uC τ + 64)) := by
  obtain ⟨hSt, hI, hS, hH, hb⟩ := h
  refine (cc_round hSt hI hS hH hb hC hl).mono (fun v u ⟨h1, h2, h3, ⟨h4, h5, h6⟩, h7⟩ => ⟨h1, h2, ⟨h2.st hSt hH (fun i hi => h5.1 i (by omega)) h3, h4, hS.sw h5, hH.sw h5, h6⟩, h5, h7⟩)
theorem cc_makes_loop (hd : 71 ≤ d) (hN : N ≤ 100) : ∀ (k : Nat) (i : Int) (w : Nat → Int) (C : Int) (t : CT), i + k = N → 0 ≤ i → SI w C t → 300 ≤ C → C + 100 * k < 900000000 → 0 ≤ ledF w →
    (∀ u, FrW t u → SI (rndsF k w) (C + 100 * k) u → SW w (rndsF k w) → (nvC u ≤ nvC t + 13 * k ∧ uC u ≤ uC t + 64 * k) → Q none u) → Wc kap d rX0_makes 2 [some (.inr 10), some (.inl N), some (.inl i)] [] t (nQ Q) := by
  intro k
  induction k with
  | zero =>
    intro i w C t hi h0 h hC hC2 hl K
    refine wc_iload_n dX0_makes_2 rfl ?_
    refine wc_iload_n dX0_makes_3 rfl ?_
    refine wc_icmp dX0_makes_4 (cB_ge (show rng _ by omega) (show rng _ by omega)) 17 rfl (fun c4 => ?_) (fun c4 => ?_)
    ·
      refine wc_vreturn dX0_makes_17 rfl ?_
      exact K t FrW.rf ⟨h.1, h.2.1, h.2.2.1, h.2.2.2.1, h.2.2.2.2.mono (by omega)⟩ (SW.of SC.rf (fun m m0 m1 => (h.2.2.1.2.2.1 m m0 m1).2)) ⟨by omega, by omega⟩
    ·
      omega
  | succ k ih =>
    intro i w C t hi h0 h hC hC2 hl K
    refine wc_iload_n dX0_makes_2 rfl ?_
    refine wc_iload_n dX0_makes_3 rfl ?_
    refine wc_icmp dX0_makes_4 (cB_ge (show rng _ by omega) (show rng _ by omega)) 17 rfl (fun c4 => ?_) (fun c4 => ?_)
    ·
      omega
    ·
      refine wc_aload_n dX0_makes_7 rfl ?_
      refine wc_call dX0_makes_8 rfl (cc_roundS h ⟨hC, by omega⟩ hl) (by omega) (hx_V (kV0_340 rfl) rfl rfl rfl rfl) ?_
      rintro _ _ ⟨rfl, hF, hS2, hsw, hb⟩
      refine wc_iinc dX0_makes_11 rfl ?_
      refine wc_goto dX0_makes_14 2 rfl ?_
      refine ih (i + 1) _ (C + 100) _ (by omega) (by omega) hS2 (by omega) (by omega) (by rw [hsw.led h.2.1.1.2]; exact hl) (fun u f1 f2 f3 f4 => K u (hF.tr f1) ?_ (hsw.tr f3) ⟨by omega, by omega⟩)
      exact ⟨f2.1, f2.2.1, f2.2.2.1, f2.2.2.2.1, f2.2.2.2.2.mono (by omega)⟩
theorem cc_makes (h : SI w C τ) (hN : 0 ≤ N ∧ N ≤ 100) (hC : 300 ≤ C ∧ C + 10000 < 900000000) (hl : 0 ≤ ledF w) : Ct kap 71 rX0_makes [.inr 10, .inl N] τ (fun v u => none = v ∧ FrW τ u ∧ SI (rndsF N.toNat w) (C + 100 * N) u ∧ SW w (rndsF N.toNat w) ∧ (nvC u ≤ nvC τ + 13 * N.toNat ∧ uC u ≤ uC τ + 64 * N.toNat)) := by
  intro d hd
  refine wc_iconst dX0_makes_0 ?_
  refine wc_istore_n dX0_makes_1 rfl ?_
  refine cc_makes_loop hd hN.2 N.toNat 0 w C τ (by omega) (by omega) h hC.1 (by omega) hl (fun u f1 f2 f3 f4 => ⟨rfl, f1, ?_, f3, f4⟩)
  rw [Int.toNat_of_nonneg hN.1] at f2
  exact f2
theorem cc_forms_loop (hd : 71 ≤ d) (hN : 0 ≤ N ∧ N ≤ 100) : ∀ (k : Nat) (i : Int) (w : Nat → Int) (C : Int) (t : CT), i + k = N + 1 → 0 ≤ i → SI w C t → 300 ≤ C → C + 100 * k < 900000000 → 0 ≤ ledF w →
    (∀ u, FrW t u → (nvC u ≤ nvC t + 23 * k ∧ uC u ≤ uC t + 104 * k) → Q (some (.inl (frmF k i w))) u) → Wc kap d rX0_formsWithin 2 [some (.inr 10), some (.inl N), some (.inl i)] [] t (nQ Q) := by
  intro k
  induction k with
  | zero =>
    intro i w C t hi h0 h hC hC2 hl K
    refine wc_iload_n dX0_formsWithin_2 rfl ?_
    refine wc_iload_n dX0_formsWithin_3 rfl ?_
    refine wc_icmp dX0_formsWithin_4 (cB_gt (show rng _ by omega) (show rng _ by omega)) 31 rfl (fun c4 => ?_) (fun c4 => ?_)
    ·
      refine wc_bipush dX0_formsWithin_31 (by decide) ?_
      refine wc_ireturn dX0_formsWithin_33 rfl ?_
      exact K t FrW.rf ⟨by omega, by omega⟩
    ·
      omega
  | succ k ih =>
    intro i w C t hi h0 h hC hC2 hl K
    have hg : i ≤ N := by omega
    refine wc_iload_n dX0_formsWithin_2 rfl ?_
    refine wc_iload_n dX0_formsWithin_3 rfl ?_
    refine wc_icmp dX0_formsWithin_4 (cB_gt (show rng _ by omega) (show rng _ by omega)) 31 rfl (fun c4 => ?_) (fun c4 => ?_)
    ·
      omega
    ·
      refine wc_aload_n dX0_formsWithin_7 rfl ?_
      refine wc_call dX0_formsWithin_8 rfl (cc_isFormed (h.hw (by omega)) h.1) (by omega) (hx_V (kV0_371 rfl) rfl rfl rfl rfl) ?_
      rintro _ _ ⟨hG, ⟨h8, rfl⟩ | ⟨h8, rfl⟩⟩
      ·
        refine wc_ifF dX0_formsWithin_11 (by decide) 16 rfl ?_
        refine wc_iload_n dX0_formsWithin_14 rfl ?_
        refine wc_ireturn dX0_formsWithin_15 rfl ?_
        have := K _ hG.1.toW ⟨by have := hG.2.2.2.1; omega, by have := hG.2.2.2.2; omega⟩
        rw [frmF_y h8] at this
        exact this
      ·
        refine wc_ifT dX0_formsWithin_11 (by decide) 16 rfl ?_
        refine wc_iload_n dX0_formsWithin_16 rfl ?_
        refine wc_iload_n dX0_formsWithin_17 rfl ?_
        refine wc_icmp dX0_formsWithin_18 (cB_ge (show rng _ by omega) (show rng _ by omega)) 25 rfl (fun c18 => ?_) (fun c18 => ?_)
        ·
          refine wc_iinc dX0_formsWithin_25 rfl ?_
          refine wc_goto dX0_formsWithin_28 2 rfl ?_
          have hk0 : k = 0 := by omega
          subst hk0
          have hg1 := hG.2.2.2
          refine ih (i + 1) w C _ (by omega) (by omega) (h.frs hG.1) hC (by omega) hl (fun u f1 f2 => ?_)
          have := K u (hG.1.toW.tr f1) ⟨by omega, by omega⟩
          rw [frmF_n h8] at this
          exact this
        ·
          refine wc_aload_n dX0_formsWithin_21 rfl ?_
          refine wc_call dX0_formsWithin_22 rfl (cc_roundS (h.frs hG.1) ⟨hC, by omega⟩ hl) (by omega) (hx_V (kV0_340 rfl) rfl rfl rfl rfl) ?_
          rintro _ _ ⟨rfl, hF, hS2, hsw, hb⟩
          refine wc_iinc dX0_formsWithin_25 rfl ?_
          refine wc_goto dX0_formsWithin_28 2 rfl ?_
          refine ih (i + 1) _ (C + 100) _ (by omega) (by omega) hS2 (by omega) (by omega) (by rw [hsw.led h.2.1.1.2]; exact hl) (fun u f1 f2 => ?_)
          have hg1 := hG.2.2.2
          have := K u ((hG.1.toW.tr hF).tr f1) ⟨by omega, by omega⟩
          rw [frmF_n h8] at this
          exact this
theorem cc_formsWithin (h : SI w C τ) (hN : 0 ≤ N ∧ N ≤ 40) (hC : 300 ≤ C ∧ C + 10000 < 900000000) (hl : 0 ≤ ledF w) : Ct kap 71 rX0_formsWithin [.inr 10, .inl N] τ (fun v u => some (.inl (frmF (N + 1).toNat 0 w)) = v ∧ FrW τ u ∧ (nvC u ≤ nvC τ + 1000 ∧ uC u ≤ uC τ + 5000)) := by
  intro d hd
  refine wc_iconst dX0_formsWithin_0 ?_
  refine wc_istore_n dX0_formsWithin_1 rfl ?_
  exact cc_forms_loop hd ⟨hN.1, by omega⟩ (N + 1).toNat 0 w C τ (by omega) (by omega) h hC.1 (by omega) hl (fun u f1 f2 => ⟨rfl, f1, by omega, by omega⟩)
/-- cells are noted -/
theorem cc_notes_loop (h0 : w 0 ≤ 10) (hW0 : Wd w τ) : ∀ (k : Nat) (m : Int) (t : CT), m + k = 10 → 0 ≤ m → t.1 = τ.1 → t.2.1 = τ.2.1 → (∀ y, y ≠ 22 → sg t y = sg τ y) → (∀ m', 0 ≤ m' → m' < m → sg t 22 m'.toNat = cwF w m') →
    (∀ u, u.1 = τ.1 → u.2.1 = τ.2.1 → (∀ y, y ≠ 22 → sg u y = sg τ y) → (∀ m', 0 ≤ m' → m' < 10 → sg u 22 m'.toNat = cwF w m') → Q none u) → Wc kap d rX0_notesCells 2 [some (.inr 10), some (.inl m)] [] t (nQ Q) := by
  intro k
  induction k with
  | zero =>
    intro m t hm m0 h1 h2 h3 h4 K
    have e : m = 10 := by omega
    subst e
    refine wc_iload_n dX0_notesCells_2 rfl ?_
    refine wc_bipush dX0_notesCells_3 (by decide) ?_
    refine wc_icmp dX0_notesCells_5 (cB_ge ⟨by omega, by omega⟩ ⟨by omega, by omega⟩) 48 rfl (fun c5 => ?_) (fun c5 => ?_)
    ·
      refine wc_vreturn dX0_notesCells_48 rfl ?_
      exact K t h1 h2 h3 h4
    ·
      omega
  | succ k ih =>
    intro m t hm m0 h1 h2 h3 h4 K
    have emn : (sg t 103 m.toNat).toNat = mnC τ m := by unfold mnC; rw [h3 103 (by omega)]
    have hkd : ∀ y, kd kap t y = kd kap τ y := fun y => by unfold kd; rw [h2]
    have hnx : ∀ v, v = cwF w m → Wc kap d rX0_notesCells 2 [some (.inr 10), some (.inl (m + 1))] [] (stC t 22 m.toNat v) (nQ Q) := fun v hv => by
      refine ih (m + 1) _ (by omega) (by omega) h1 h2 (fun y hy => by rw [sg_st' hy]; exact h3 y hy) (fun m' a b => ?_) K
      rw [sg_st]
      by_cases e : m' = m
      · rw [if_pos (by rw [e]), hv, e]
      · rw [if_neg (by omega)]; exact h4 m' a (by omega)
    by_cases hmm : isM w m
    · have hM := hW0.mem h0 hmm
      have hcw : cwF w m = celF w m := by unfold cwF; rw [if_pos hmm]
      refine wc_iload_n dX0_notesCells_2 rfl ?_
      refine wc_bipush dX0_notesCells_3 (by decide) ?_
      refine wc_icmp dX0_notesCells_5 (cB_ge ⟨by omega, by omega⟩ ⟨by omega, by omega⟩) 48 rfl (fun c5 => ?_) (fun c5 => ?_)
      ·
        omega
      ·
        refine wc_aload_n dX0_notesCells_8 rfl ?_
        refine wc_getC dX0_notesCells_9 (kF0_266 rfl) rfl rfl ?_
        refine wc_iload_n dX0_notesCells_12 rfl ?_
        refine wc_aload_n dX0_notesCells_13 rfl ?_
        refine wc_getC dX0_notesCells_14 (kF0_19 rfl) rfl rfl ?_
        refine wc_getC dX0_notesCells_17 (kF0_80 rfl) rfl rfl ?_
        refine wc_iload_n dX0_notesCells_20 rfl ?_
        refine wc_aaload (y := mnC τ m) dX0_notesCells_21 rfl rfl rfl ⟨by omega, by omega⟩ emn ?_
        refine wc_ifnonnull dX0_notesCells_22 (Or.inr (by rw [hkd, hM.kd]; rfl)) 29 rfl (fun c22 => ?_) (fun c22 => ?_)
        ·
          refine wc_aload_n dX0_notesCells_29 rfl ?_
          refine wc_getC dX0_notesCells_30 (kF0_19 rfl) rfl rfl ?_
          refine wc_getC dX0_notesCells_33 (kF0_80 rfl) rfl rfl ?_
          refine wc_iload_n dX0_notesCells_36 rfl ?_
          refine wc_aaload (y := mnC τ m) dX0_notesCells_37 rfl rfl rfl ⟨by omega, by omega⟩ emn ?_
          refine wc_getI dX0_notesCells_38 (kF0_49 rfl) (by rw [hkd]; exact hM.kd) rfl ?_
          rw [h3 _ (by have := hM.1.1; omega), hM.2.2.1]
          refine wc_iastore dX0_notesCells_41 rfl ⟨by decide, Or.inl (by decide)⟩ rfl ⟨by omega, by omega⟩ _ rfl ?_
          refine wc_iinc dX0_notesCells_42 rfl ?_
          refine wc_goto dX0_notesCells_45 2 rfl ?_
          exact hnx _ hcw.symm
        ·
          exact absurd c22 (by have := hM.1.1; omega)
    · have hz : mnC τ m = 0 := by unfold mnC; rw [hW0.non hmm ⟨m0, by omega⟩]; rfl
      have hcw : cwF w m = -1 := by unfold cwF; rw [if_neg hmm]
      refine wc_iload_n dX0_notesCells_2 rfl ?_
      refine wc_bipush dX0_notesCells_3 (by decide) ?_
      refine wc_icmp dX0_notesCells_5 (cB_ge ⟨by omega, by omega⟩ ⟨by omega, by omega⟩) 48 rfl (fun c5 => ?_) (fun c5 => ?_)
      ·
        omega
      ·
        refine wc_aload_n dX0_notesCells_8 rfl ?_
        refine wc_getC dX0_notesCells_9 (kF0_266 rfl) rfl rfl ?_
        refine wc_iload_n dX0_notesCells_12 rfl ?_
        refine wc_aload_n dX0_notesCells_13 rfl ?_
        refine wc_getC dX0_notesCells_14 (kF0_19 rfl) rfl rfl ?_
        refine wc_getC dX0_notesCells_17 (kF0_80 rfl) rfl rfl ?_
        refine wc_iload_n dX0_notesCells_20 rfl ?_
        refine wc_aaload (y := mnC τ m) dX0_notesCells_21 rfl rfl rfl ⟨by omega, by omega⟩ emn ?_
        refine wc_ifnonnull dX0_notesCells_22 (Or.inl hz) 29 rfl (fun c22 => ?_) (fun c22 => ?_)
        ·
          exact absurd hz c22
        ·
          refine wc_iconst dX0_notesCells_25 ?_
          refine wc_goto dX0_notesCells_26 41 rfl ?_
          refine wc_iastore dX0_notesCells_41 rfl ⟨by decide, Or.inl (by decide)⟩ rfl ⟨by omega, by omega⟩ _ rfl ?_
          refine wc_iinc dX0_notesCells_42 rfl ?_
          refine wc_goto dX0_notesCells_45 2 rfl ?_
          exact hnx _ hcw.symm
/-- one scratch array changes -/
theorem FrQ.st3 (g : FrQ x τ u) (hx : x < 100 ∧ x ≠ 18 ∧ x ≠ 3) (h : St w τ) : St w u := by
  have e : ∀ y, y ≠ x → sg u y = sg τ y := g.2.2
  have e0 : n0C u = n0C τ := by unfold n0C; rw [g.1]
  have ev : nvC u = nvC τ := by unfold nvC; rw [g.1]
  obtain ⟨⟨⟨h1, h2, h3, h4, h5, h6⟩, h7⟩, hT, hSh⟩ := h
  refine ⟨⟨⟨fun c c0 c1 => by rw [e 101 (by omega), e 102 (by omega)]; exact h1 c c0 c1, fun m m0 m1 => ?_, fun k k0 k1 => by rw [e 105 (by omega)]; exact h3 k k0 k1, by rw [e 100 (by omega)]; exact ⟨h4, h5, h6⟩⟩, fun m hm m0 m1 => ?_⟩, hT.of e0 (by omega) (e 18 (by omega)) (fun y _ _ => by rw [g.2.1]), fun s s0 s1 => ?_⟩
  · rw [e 103 (by omega)]
    refine ⟨fun hm => ?_, (h2 m m0 m1).2⟩
    obtain ⟨⟨a1, a2, a3⟩, b⟩ := (h2 m m0 m1).1 hm
    refine ⟨⟨a1, by omega, by rw [g.2.1]; exact a3⟩, ?_⟩
    rw [e _ (by omega)]
    exact b
  · have := h7 m hm m0 m1
    unfold mnC
    rw [e 103 (by omega)]
    exact wrC_wk this e0
  · have a := hSh s s0 s1
    rw [e 104 (by omega)]
    exact ⟨fun q => (a.1 q).fz e0 (fun y y1 y2 => ⟨by rw [g.2.1], e y (by omega)⟩), a.2⟩
theorem FrQ.si (g : FrQ x τ u) (hx : x < 100 ∧ x ≠ 18 ∧ x ≠ 3) (h : SI w C τ) : SI w C u := ⟨g.st3 hx h.1, h.2⟩
theorem cc_notesCells (h0 : w 0 ≤ 10) (hW0 : Wd w τ) : Ct kap 0 rX0_notesCells [.inr 10] τ (fun v u => none = v ∧ FrQ 22 τ u ∧ (∀ m', 0 ≤ m' → m' < 10 → sg u 22 m'.toNat = cwF w m')) := by
  intro d hd
  refine wc_iconst dX0_notesCells_0 ?_
  refine wc_istore_n dX0_notesCells_1 rfl ?_
  exact cc_notes_loop h0 hW0 10 0 τ (by omega) (by omega) rfl rfl (fun _ _ => rfl) (fun m' a b => by omega) (fun u f1 f2 f3 f4 => ⟨rfl, ⟨f1, f2, f3⟩, f4⟩)
theorem cc_elsewhere_loop {cw : Int → Int} (hW : Wd w t) (h0 : w 0 ≤ 10) (hcl : ∀ m, 0 ≤ m → m ≤ 9 → celF w m < 120) (hcw : ∀ m', 0 ≤ m' → m' < 10 → sg t 22 m'.toNat = cw m') (hcr : ∀ m, -1 ≤ cw m ∧ cw m < 200) (hd : 1 ≤ d) : ∀ (k : Nat) (m a : Int), m + k = 10 → 0 ≤ m → Wc kap d rX0_elsewhere 4 [some (.inr 10), some (.inl a), some (.inl m)] [] t (nQ (fun v u => some (.inl (a + movF w cw k m)) = v ∧ t = u)) := by
  intro k
  induction k with
  | zero =>
    intro m a hm m0
    refine wc_iload_n dX0_elsewhere_4 rfl ?_
    refine wc_bipush dX0_elsewhere_5 (by decide) ?_
    refine wc_icmp dX0_elsewhere_7 (cB_ge ⟨by omega, by omega⟩ ⟨by omega, by omega⟩) 60 rfl (fun c7 => ?_) (fun c7 => ?_)
    ·
      refine wc_iload_n dX0_elsewhere_60 rfl ?_
      refine wc_ireturn dX0_elsewhere_61 rfl ?_
      exact ⟨by simp [movF], rfl⟩
    ·
      omega
  | succ k ih =>
    intro m a hm m0
    by_cases hmm : isM w m
    · have hM := hW.mem h0 hmm
      have hc0 := hmm.2
      have hc1 := hcl m m0 (by omega)
      have hcm := hcr m
      have hc0' : 0 ≤ celF w m := hc0
      refine wc_iload_n dX0_elsewhere_4 rfl ?_
      refine wc_bipush dX0_elsewhere_5 (by decide) ?_
      refine wc_icmp dX0_elsewhere_7 (cB_ge ⟨by omega, by omega⟩ ⟨by omega, by omega⟩) 60 rfl (fun c7 => ?_) (fun c7 => ?_)
      ·
        omega
      ·
        refine wc_iload_n dX0_elsewhere_10 rfl ?_
        refine wc_aload_n dX0_elsewhere_11 rfl ?_
        refine wc_getC dX0_elsewhere_12 (kF0_19 rfl) rfl rfl ?_
        refine wc_getC dX0_elsewhere_15 (kF0_80 rfl) rfl rfl ?_
        refine wc_iload_n dX0_elsewhere_18 rfl ?_
        refine wc_aaload dX0_elsewhere_19 rfl rfl rfl ⟨by omega, by omega⟩ rfl ?_
        refine wc_ifnull dX0_elsewhere_20 (Or.inr (by rw [hM.kd]; rfl)) 48 rfl (fun c20 => ?_) (fun c20 => ?_)
        ·
          exact absurd c20 (by have := hM.1.1; unfold mnC at this; omega)
        ·
          refine wc_aload_n dX0_elsewhere_23 rfl ?_
          refine wc_getC dX0_elsewhere_24 (kF0_19 rfl) rfl rfl ?_
          refine wc_getC dX0_elsewhere_27 (kF0_80 rfl) rfl rfl ?_
          refine wc_iload_n dX0_elsewhere_30 rfl ?_
          refine wc_aaload dX0_elsewhere_31 rfl rfl rfl ⟨by omega, by omega⟩ rfl ?_
          refine wc_getI dX0_elsewhere_32 (kF0_49 rfl) hM.kd rfl ?_
          rw [hM.2.2.1]
          refine wc_aload_n dX0_elsewhere_35 rfl ?_
          refine wc_getC dX0_elsewhere_36 (kF0_266 rfl) rfl rfl ?_
          refine wc_iload_n dX0_elsewhere_39 rfl ?_
          refine wc_iaload dX0_elsewhere_40 rfl rfl rfl ⟨by omega, by omega⟩ _ rfl ?_
          rw [hcw m m0 (by omega)]
          refine wc_icmp dX0_elsewhere_41 (cB_eq (show rng _ by omega) (show rng _ by omega)) 48 rfl (fun c41 => ?_) (fun c41 => ?_)
          ·
            refine wc_iconst dX0_elsewhere_48 ?_
            refine wc_call dX0_elsewhere_49 rfl (cc_bit (Or.inl rfl)) (by omega) (hx_S (kS0_112 rfl) (kSn0_112 rfl) rfl rfl) ?_
            rintro _ _ ⟨rfl, rfl⟩
            refine wc_iadd dX0_elsewhere_52 ?_
            refine wc_istore_n dX0_elsewhere_53 rfl ?_
            refine wc_iinc dX0_elsewhere_54 rfl ?_
            refine wc_goto dX0_elsewhere_57 4 rfl ?_
            refine (ih _ _ (by omega) (by omega)).mn (fun v u q => ⟨?_, q.2⟩)
            rw [← q.1, movF, if_neg (fun q => q.2 c41), Int.add_assoc]
          ·
            refine wc_iconst dX0_elsewhere_44 ?_
            refine wc_goto dX0_elsewhere_45 49 rfl ?_
            refine wc_call dX0_elsewhere_49 rfl (cc_bit (Or.inr rfl)) (by omega) (hx_S (kS0_112 rfl) (kSn0_112 rfl) rfl rfl) ?_
            rintro _ _ ⟨rfl, rfl⟩
            refine wc_iadd dX0_elsewhere_52 ?_
            refine wc_istore_n dX0_elsewhere_53 rfl ?_
            refine wc_iinc dX0_elsewhere_54 rfl ?_
            refine wc_goto dX0_elsewhere_57 4 rfl ?_
            refine (ih _ _ (by omega) (by omega)).mn (fun v u q => ⟨?_, q.2⟩)
            rw [← q.1, movF, if_pos ⟨hmm, c41⟩, Int.add_assoc]
    · have hz : mnC t m = 0 := by unfold mnC; rw [hW.non hmm ⟨m0, by omega⟩]; rfl
      refine wc_iload_n dX0_elsewhere_4 rfl ?_
      refine wc_bipush dX0_elsewhere_5 (by decide) ?_
      refine wc_icmp dX0_elsewhere_7 (cB_ge ⟨by omega, by omega⟩ ⟨by omega, by omega⟩) 60 rfl (fun c7 => ?_) (fun c7 => ?_)
      ·
        omega
      ·
        refine wc_iload_n dX0_elsewhere_10 rfl ?_
        refine wc_aload_n dX0_elsewhere_11 rfl ?_
        refine wc_getC dX0_elsewhere_12 (kF0_19 rfl) rfl rfl ?_
        refine wc_getC dX0_elsewhere_15 (kF0_80 rfl) rfl rfl ?_
        refine wc_iload_n dX0_elsewhere_18 rfl ?_
        refine wc_aaload dX0_elsewhere_19 rfl rfl rfl ⟨by omega, by omega⟩ rfl ?_
        refine wc_ifnull dX0_elsewhere_20 (Or.inl hz) 48 rfl (fun c20 => ?_) (fun c20 => ?_)
        ·
          refine wc_iconst dX0_elsewhere_48 ?_
          refine wc_call dX0_elsewhere_49 rfl (cc_bit (Or.inl rfl)) (by omega) (hx_S (kS0_112 rfl) (kSn0_112 rfl) rfl rfl) ?_
          rintro _ _ ⟨rfl, rfl⟩
          refine wc_iadd dX0_elsewhere_52 ?_
          refine wc_istore_n dX0_elsewhere_53 rfl ?_
          refine wc_iinc dX0_elsewhere_54 rfl ?_
          refine wc_goto dX0_elsewhere_57 4 rfl ?_
          refine (ih _ _ (by omega) (by omega)).mn (fun v u q => ⟨?_, q.2⟩)
          rw [← q.1, movF, if_neg (fun q => hmm q.1), Int.add_assoc]
        ·
          exact absurd hz c20
theorem cc_elsewhere {cw : Int → Int} (hW : Wd w t) (h0 : w 0 ≤ 10) (hcl : ∀ m, 0 ≤ m → m ≤ 9 → celF w m < 120) (hcw : ∀ m', 0 ≤ m' → m' < 10 → sg t 22 m'.toNat = cw m') (hcr : ∀ m, -1 ≤ cw m ∧ cw m < 200) : Cf kap 1 rX0_elsewhere [.inr 10] t (some (.inl (movF w cw 10 0))) t := by
  intro d hd
  refine wc_iconst dX0_elsewhere_0 ?_
  refine wc_istore_n dX0_elsewhere_1 rfl ?_
  refine wc_iconst dX0_elsewhere_2 ?_
  refine wc_istore_n dX0_elsewhere_3 rfl ?_
  refine (cc_elsewhere_loop hW h0 hcl hcw hcr hd 10 0 0 (by omega) (by omega)).mn (fun v u q => ⟨?_, q.2⟩)
  rw [← q.1, Int.zero_add]
end MAK
