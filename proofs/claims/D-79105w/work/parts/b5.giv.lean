/-! THE CLASS'S METHODS, 8: places given -/
set_option maxRecDepth 100000
def gC (x : Int) : Int := if x < 0 then -5 else x
/-- sums known and slots given change -/
def FrG2 (t u : CT) : Prop := u.1 = t.1 ∧ u.2.1 = t.2.1 ∧ ∀ v, ¬ (30 ≤ v ∧ v < 40) → v ≠ 15 → sg u v = sg t v
abbrev pkF (w : Nat → Int) (k : Nat) (A : Int) : Int → Bool := pickF (wofF w (9 - k)) (wthF (wofF w) (nN w) k) A (wthF (wofF w) (nN w) (k + 1) A)
section GIV
variable {w : Nat → Int} {τ t u : CT} {m c v p s A T : Int} {d k y : Nat} {Q : Option AV → CT → Prop} {g : GS}
theorem FrC.g2 (h : FrC t u) : FrG2 t u := ⟨h.1, h.2.1, fun v hv _ => h.2.2 v hv⟩
theorem FrG2.tr {x : CT} (h : FrG2 t u) (g : FrG2 u x) : FrG2 t x := ⟨g.1.trans h.1, g.2.1.trans h.2.1, fun v hv h15 => (g.2.2 v hv h15).trans (h.2.2 v hv h15)⟩
theorem FrG2.s15 {i : Nat} : FrG2 t (stC t 15 i v) := ⟨rfl, rfl, fun y _ hy => sg_st' hy⟩
theorem FrG2.frs (h : FrG2 t u) : FrS t u := by
  obtain ⟨h1, h2, h3⟩ := h
  have e0 : n0C u = n0C t := by unfold n0C; rw [h1]
  have ev : nvC u = nvC t := by unfold nvC; rw [h1]
  exact ⟨⟨e0, by omega⟩, fun v hv => h3 v (by omega) (by omega), fun j _ _ => by rw [h3 10 (by omega) (by omega)], fun y y1 y2 => ⟨by rw [h2], fun _ => h3 y (by omega) (by omega)⟩, h3 18 (by omega) (by omega), fun y y1 y2 => ⟨by rw [h2], h3 y (by omega) (by omega)⟩⟩
theorem CX.s15 {i : Nat} (hS : WS w) (h : CX w t) : CX w (stC t 15 i v) := by
  have g : FrG2 t (stC t 15 i v) := FrG2.s15
  refine ⟨g.frs.st h.1, h.2.1.of hS (fun v hv => g.2.2 v (by omega) (by omega)) (by rw [g.2.2 10 (by omega) (by omega)]) (by rw [g.2.2 10 (by omega) (by omega)]), fun j hj hc T T0 T1 => ?_⟩
  rw [sg_st' (by omega)]
  exact h.2.2 j hj hc T T0 T1
theorem ChN.g2 (g : FrG2 t u) : ∀ {k y : Nat}, ChN w t k y → ChN w u k y := by
  intro k
  induction k with
  | zero => intro y h; exact h
  | succ k ih =>
    intro y h
    refine ⟨fun hc => ?_, fun hc => ih (h.2 hc)⟩
    obtain ⟨⟨h1, h2, h3⟩, h4, h5, h6, h7⟩ := h.1 hc
    have e := g.2.2 y (by omega) (by omega)
    have em := g.2.2 103 (by omega) (by omega)
    unfold mnC at *
    rw [e, em, g.2.1]
    exact ⟨⟨h1, by unfold nvC at *; rw [g.1]; exact h2, h3⟩, h4, h5, h6, ih h7⟩
/-- the class's slots are the model's -/
def SlR (f : Int → Int) (t : CT) : Prop := ∀ m : Int, 0 ≤ m → m < 10 → sg t 15 m.toNat = gC (f m)
theorem gr1_non (h : ¬ isC w k) : gr1F (wofF w) (nN w) k g = g := by
  unfold gr1F
  have hp : ∀ s, pickF (wofF w (9 - k)) (wthF (wofF w) (nN w) k) g.1 (wthF (wofF w) (nN w) (k + 1) g.1) s = false := fun s => by
    unfold pickF
    rw [decide_eq_false_iff_not]
    exact fun q => q.2.1 (wof_non h)
  rcases fstI_rng (pickF (wofF w (9 - k)) (wthF (wofF w) (nN w) k) g.1 (wthF (wofF w) (nN w) (k + 1) g.1)) (nN w) 0 (by omega) with e | ⟨-, -, e, -⟩
  · rw [e, if_pos (by omega)]
  · rw [hp] at e; cases e
theorem gives_20 (hW : HW w) (hl : 0 ≤ ledF w) (hk : k ≤ 9) (hc : isC w k) (hB : BR w (nN w) T A) (hd : 4 * k + 4 ≤ d) : ∀ (n : Nat) (j : Nat) (t : CT), CX w t → ChN w t (k + 1) y → (n : Int) + j = nC w →
    (∀ u, FrC t u → CX w u → Wc kap d rX8_gives 62 [some (.inr y), some (.inl T), some (.inl (coF w (nN w) (k + 1) A)), some (.inl (gC (fstI (pkF w k A) (nN w) 0))), some (.inl (-1))] [] u (nQ Q)) →
    Wc kap d rX8_gives 20 [some (.inr y), some (.inl T), some (.inl (coF w (nN w) (k + 1) A)), some (.inl (gC (fstI (pkF w k A) j n))), some (.inl ((n : Int) - 1))] [] t (nQ Q) := by
  have hn10 := nC_le hW.1
  have hne : nC w = (nN w : Int) := by
    have := hW.1.2.2.2.1
    unfold nC nN
    rw [if_neg (by omega)]
    omega
  intro n
  induction n with
  | zero =>
    intro j t hX hN hj K
    have e : j = nN w := by omega
    subst e
    refine wc_iload dX8_gives_20 rfl ?_
    refine wc_if dX8_gives_22 (cB_lt ⟨by omega, by omega⟩ ⟨by omega, by omega⟩) 62 rfl (fun c22 => ?_) (fun c22 => ?_)
    ·
      exact K t FrC.rf hX
    ·
      omega
  | succ n ihn =>
    intro j t hX hN hj K
    obtain ⟨⟨y1, y2, y3⟩, g0, g2, g3, g4⟩ := hN.1 hc
    have ky : kd kap t y = some chK := kd_dyn y1 y3
    have hcl : celF w (9 - k) < 120 := (hW.1.2.2.1 _ (by omega) (by omega)).2
    have hsb := hB.2.2 (n : Int) (by omega) (by omega)
    have hb01 := bit01 A n
    have hnc := nk_c hc
    have e1 : (((n + 1 : Nat) : Int) - 1) = (n : Int) := by omega
    rw [e1]
    have hno : pkF w k A n = false → ∀ t, CX w t → ChN w t (k + 1) y → (∀ u, FrC t u → CX w u → Wc kap d rX8_gives 62 [some (.inr y), some (.inl T), some (.inl (coF w (nN w) (k + 1) A)), some (.inl (gC (fstI (pkF w k A) (nN w) 0))), some (.inl (-1))] [] u (nQ Q)) → Wc kap d rX8_gives 20 [some (.inr y), some (.inl T), some (.inl (coF w (nN w) (k + 1) A)), some (.inl (gC (fstI (pkF w k A) j ((n + 1 : Nat) : Int)))), some (.inl ((n : Int) + -1))] [] t (nQ Q) := fun hp t hX hN K => by
      have := ihn (j + 1) t hX hN (by omega) K
      rw [show fstI (pkF w k A) (j + 1) n = fstI (pkF w k A) j ((n + 1 : Nat) : Int) by
        show (if pkF w k A n = true then (n : Int) else fstI (pkF w k A) j (n + 1)) = _
        rw [if_neg (by rw [hp]; decide)]
        rfl] at this
      exact this
    have hyes : pkF w k A n = true → ∀ t, CX w t → ChN w t (k + 1) y → (∀ u, FrC t u → CX w u → Wc kap d rX8_gives 62 [some (.inr y), some (.inl T), some (.inl (coF w (nN w) (k + 1) A)), some (.inl (gC (fstI (pkF w k A) (nN w) 0))), some (.inl (-1))] [] u (nQ Q)) → Wc kap d rX8_gives 20 [some (.inr y), some (.inl T), some (.inl (coF w (nN w) (k + 1) A)), some (.inl (n : Int)), some (.inl ((n : Int) + -1))] [] t (nQ Q) := fun hp t hX hN K => by
      have := ihn (j + 1) t hX hN (by omega) K
      rw [show gC (fstI (pkF w k A) (j + 1) n) = (n : Int) by
        show gC (if pkF w k A n = true then (n : Int) else fstI (pkF w k A) j (n + 1)) = _
        rw [if_pos hp]
        unfold gC
        rw [if_neg (by omega)]] at this
      exact this
    refine wc_iload dX8_gives_20 rfl ?_
    refine wc_if dX8_gives_22 (cB_lt ⟨by omega, by omega⟩ ⟨by omega, by omega⟩) 62 rfl (fun c22 => ?_) (fun c22 => ?_)
    ·
      omega
    ·
      refine wc_aload_n dX8_gives_25 rfl ?_
      refine wc_getR (y := 10) dX8_gives_26 (kF8_3 rfl) ky rfl g3 ?_
      refine wc_iload dX8_gives_29 rfl ?_
      refine wc_iload_n dX8_gives_31 rfl ?_
      refine wc_aload_n dX8_gives_32 rfl ?_
      refine wc_getR (y := mnC t (9 - k)) dX8_gives_33 (kF8_15 rfl) ky rfl g0 ?_
      refine wc_call dX8_gives_36 rfl (cc_isGiveable hX.1 hX.2.1 hW.1.1.2 hc.1 hcl ⟨by omega, by omega⟩ (by omega) hB.1) (by omega) (hx_V (kV8_56 rfl) rfl rfl rfl rfl) ?_
      rintro _ _ ⟨rfl, ⟨h36, rfl⟩ | ⟨h36, rfl⟩⟩
      ·
        refine wc_ifF dX8_gives_39 (by decide) 56 rfl ?_
        refine wc_aload_n dX8_gives_42 rfl ?_
        refine wc_iload dX8_gives_43 rfl ?_
        refine wc_iload_n dX8_gives_45 rfl ?_
        refine wc_call dX8_gives_46 rfl (cc_with hW hl (cc_best hW hl k (by omega)) hk hc hX hN hB ⟨by omega, by omega⟩ h36) (by omega) (hx_V (kV8_60 rfl) rfl ky rfl rfl) ?_
        rintro _ _ ⟨rfl, hF, hC⟩
        have hfr := fr_rng (x := celF w (9 - k)) h36.1
        have hA1 : bitF A n = 1 := hsb.mpr ⟨h36.1, h36.2.1⟩
        have hwv : wofF w (9 - k) n = 10000 - frF w n (celF w (9 - k)) := by
          unfold wofF
          rw [if_pos ⟨hc.1, hc.2, h36.1⟩, if_neg (by omega)]
        have hpk : pkF w k A n = true ↔ frF w n (celF w (9 - k)) + coF w (nN w) k (clrF A n) = coF w (nN w) (k + 1) A := by
          unfold pkF pickF coF
          rw [decide_eq_true_eq, hwv, hnc]
          omega
        refine wc_iload_n dX8_gives_49 rfl ?_
        refine wc_icmp dX8_gives_50 (cB_ne (show rng _ by have := co_r (w := w) (A := clrF A n) (k := k) (n := nN w); have := fr_rng (x := celF w (9 - k)) h36.1; omega) (show rng _ by have := co_r (w := w) (A := A) (k := k + 1) (n := nN w); omega)) 56 rfl (fun c50 => ?_) (fun c50 => ?_)
        ·
          refine wc_iinc dX8_gives_56 rfl ?_
          refine wc_goto dX8_gives_59 20 rfl ?_
          exact hno (by rcases hq : pkF w k A n with _ | _; rfl; exact absurd (hpk.mp hq) c50) _ hC (hN.fr hF) (fun u a b => K u (hF.tr a) b)
        ·
          refine wc_iload dX8_gives_53 rfl ?_
          refine wc_istore_n dX8_gives_55 rfl ?_
          refine wc_iinc dX8_gives_56 rfl ?_
          refine wc_goto dX8_gives_59 20 rfl ?_
          exact hyes (hpk.mpr (Classical.not_not.mp c50)) _ hC (hN.fr hF) (fun u a b => K u (hF.tr a) b)
      ·
        refine wc_ifT dX8_gives_39 (by decide) 56 rfl ?_
        refine wc_iinc dX8_gives_56 rfl ?_
        refine wc_goto dX8_gives_59 20 rfl ?_
        refine hno ?_ t hX hN K
        unfold pkF pickF
        rw [decide_eq_false_iff_not]
        intro q
        have hb1 : bitF A n = 1 := by omega
        have hs2 := hsb.mp hb1
        refine h36 ⟨hs2.1, hs2.2, ?_⟩
        have := q.2.1
        unfold wofF at this
        rw [if_pos ⟨hc.1, hc.2, hs2.1⟩] at this
        split at this
        · exact absurd rfl this
        · omega
/-- what 'gives' of a chain does -/
def GivP (w : Nat → Int) (k : Nat) : Prop := ∀ (y : Nat) (t : CT) (T A : Int) (g : GS), y ≠ 0 → CX w t → ChN w t k y → BR w (nN w) T A → g.1 = A → (∀ j : Nat, j < k → g.2.2.2 (9 - j) = -1) → SlR g.2.2.2 t → Ct kap (5 * k) rX8_gives [.inr y, .inl T] t (fun v u => none = v ∧ FrG2 t u ∧ CX w u ∧ SlR (grF (wofF w) (nN w) k g).2.2.2 u)
theorem gr_of0 : ∀ (k : Nat) (g : GS), ChN w t k 0 → grF (wofF w) (nN w) k g = g := by
  intro k
  induction k with
  | zero => intro g _; rfl
  | succ k ih =>
    intro g h
    have hc : ¬ isC w k := fun hc => by have := (h.1 hc).1.1; omega
    show grF (wofF w) (nN w) k (gr1F (wofF w) (nN w) k g) = g
    rw [gr1_non hc]
    exact ih g (h.2 hc)
theorem giv_step (hW : HW w) (hl : 0 ≤ ledF w) (hk : k ≤ 9) (ih : GivP w k) : GivP w (k + 1) := by
  intro y t T A g hy hX hN hB hg hg1 hR
  by_cases hc : isC w k
  · obtain ⟨⟨y1, y2, y3⟩, g0, g2, g3, g4⟩ := hN.1 hc
    have ky : kd kap t y = some chK := kd_dyn y1 y3
    have hn10 := nC_le hW.1
    have hne : nC w = (nN w : Int) := by
      have := hW.1.2.2.2.1
      unfold nC nN
      rw [if_neg (by omega)]
      omega
    intro d hd
    refine wc_aload_n dX8_gives_0 rfl ?_
    refine wc_iload_n dX8_gives_1 rfl ?_
    refine wc_call dX8_gives_2 rfl (cc_sum hW hl hk (cc_best hW hl k (by omega)) hX hN hB hc) (by omega) (hx_V (kV8_69 rfl) rfl ky rfl rfl) ?_
    rintro _ _ ⟨rfl, hF, hC⟩
    refine wc_istore_n dX8_gives_5 rfl ?_
    refine wc_bipush dX8_gives_6 (by decide) ?_
    refine wc_istore_n dX8_gives_8 rfl ?_
    refine wc_aload_n dX8_gives_9 rfl ?_
    refine wc_getR (y := 10) dX8_gives_10 (kF8_3 rfl) (kd_dyn y1 (by rw [hF.2.1]; exact y3)) rfl (by rw [hF.2.2 y (by omega)]; exact g3) ?_
    refine wc_getI dX8_gives_13 (kF8_53 rfl) rfl rfl ?_
    refine wc_iconst dX8_gives_16 ?_
    rw [hC.2.1.2.1]
    refine wc_isub dX8_gives_17 ?_
    refine wc_istore dX8_gives_18 rfl ?_
    have hNf := hN.fr hF
    have e9 : nC w - 1 = ((nN w : Nat) : Int) - 1 := by omega
    rw [e9]
    refine gives_20 (A := A) hW hl hk hc hB (by omega) (nN w) 0 _ hC hNf (by omega) (fun u hF2 hC2 => ?_)
    have hN2 := hNf.fr hF2
    obtain ⟨⟨z1, z2, z3⟩, f0, f2, f3, f4⟩ := hN2.1 hc
    have kz : kd kap u y = some chK := kd_dyn z1 z3
    have hM := hC2.1.1.mem hW.1.1.2 hc.1
    have hkm := hM.kd (T := kap)
    have hRu : SlR g.2.2.2 u := fun m m0 m1 => by rw [hF2.2.2 15 (by omega), hF.2.2 15 (by omega)]; exact hR m m0 m1
    have hpr := fstI_rng (pkF w k A) (nN w) 0 (by omega)
    have hgc : gC (fstI (pkF w k A) (nN w) 0) = -5 ∧ fstI (pkF w k A) (nN w) 0 < 0 ∨ gC (fstI (pkF w k A) (nN w) 0) = fstI (pkF w k A) (nN w) 0 ∧ 0 ≤ fstI (pkF w k A) (nN w) 0 ∧ fstI (pkF w k A) (nN w) 0 < 10 := by
      unfold gC
      rcases hpr with e | ⟨e1, e2, -, -⟩
      · left; rw [if_pos (by omega)]; exact ⟨rfl, by omega⟩
      · right; rw [if_neg (by omega)]; exact ⟨rfl, e1, by omega⟩
    have hNz := hN2.g2 (FrG2.s15 (i := (9 - (k : Int)).toNat) (v := gC (fstI (pkF w k A) (nN w) 0)))
    obtain ⟨-, -, -, -, k4⟩ := hNz.1 hc
    have kz2 : kd kap (stC u 15 (9 - (k : Int)).toNat (gC (fstI (pkF w k A) (nN w) 0))) y = some chK := kz
    have hCz := hC2.s15 (i := (9 - (k : Int)).toNat) (v := gC (fstI (pkF w k A) (nN w) 0)) hW.1
    have hFz : FrG2 t (stC u 15 (9 - (k : Int)).toNat (gC (fstI (pkF w k A) (nN w) 0))) := (hF.tr hF2).g2.tr FrG2.s15
    have hRz : SlR (gr1F (wofF w) (nN w) k g).2.2.2 (stC u 15 (9 - (k : Int)).toNat (gC (fstI (pkF w k A) (nN w) 0))) := fun m m0 m1 => by
      have hr := hRu m m0 m1
      rw [sg_st]
      unfold gr1F
      rw [hg]
      rcases hgc with ⟨q1, q2⟩ | ⟨q1, q2, q3⟩
      · rw [if_pos q2]
        by_cases e : m = 9 - k
        · subst e
          rw [if_pos rfl, q1, hg1 k (by omega)]
          rfl
        · rw [if_neg (by omega), hr]
      · rw [if_neg (show ¬ fstI (pkF w k A) (nN w) 0 < 0 by omega)]
        dsimp only
        by_cases e : m = 9 - k
        · rw [if_pos (by rw [e]), if_pos e]
        · rw [if_neg (by omega), if_neg e, hr]
    have hg2 : ∀ j : Nat, j < k → (gr1F (wofF w) (nN w) k g).2.2.2 (9 - j) = -1 := fun j hj => by
      unfold gr1F
      split
      · exact hg1 j (by omega)
      · dsimp only
        rw [if_neg (by omega)]
        exact hg1 j (by omega)
    have hg3 : fstI (pkF w k A) (nN w) 0 < 0 → (gr1F (wofF w) (nN w) k g).1 = A := fun q => by
      unfold gr1F
      rw [hg, if_pos q]
      exact hg
    have hg4 : 0 ≤ fstI (pkF w k A) (nN w) 0 → (gr1F (wofF w) (nN w) k g).1 = clrF A (fstI (pkF w k A) (nN w) 0) := fun q => by
      unfold gr1F
      rw [hg, if_neg (show ¬ fstI (pkF w k A) (nN w) 0 < 0 by omega)]
    refine wc_aload_n dX8_gives_62 rfl ?_
    refine wc_getR (y := 10) dX8_gives_63 (kF8_3 rfl) kz rfl f3 ?_
    refine wc_getC dX8_gives_66 (kF8_73 rfl) rfl rfl ?_
    refine wc_aload_n dX8_gives_69 rfl ?_
    refine wc_getR (y := mnC u (9 - k)) dX8_gives_70 (kF8_15 rfl) kz rfl f0 ?_
    refine wc_getI dX8_gives_73 (kF8_27 rfl) hkm rfl ?_
    rw [hM.2.1]
    refine wc_iload_n dX8_gives_76 rfl ?_
    refine wc_iastore dX8_gives_77 rfl ⟨by decide, Or.inl (by decide)⟩ rfl ⟨by omega, by omega⟩ _ rfl ?_
    refine wc_aload_n dX8_gives_78 rfl ?_
    refine wc_getR dX8_gives_79 (kF8_19 rfl) kz2 rfl rfl ?_
    refine wc_ifnull dX8_gives_82 (by rcases k4.nn with e | e; exact Or.inl e; exact Or.inr (by rw [kd_dyn e.1 e.2]; rfl)) 105 rfl (fun c82 => ?_) (fun c82 => ?_)
    ·
      refine wc_vreturn dX8_gives_105 rfl ?_
      rw [c82] at k4
      refine ⟨rfl, hFz, hCz, ?_⟩
      show SlR (grF (wofF w) (nN w) k (gr1F (wofF w) (nN w) k g)).2.2.2 _
      rw [gr_of0 k _ k4]
      exact hRz
    ·
      refine wc_aload_n dX8_gives_85 rfl ?_
      refine wc_getR dX8_gives_86 (kF8_19 rfl) kz2 rfl rfl ?_
      refine wc_iload_n dX8_gives_89 rfl ?_
      refine wc_if dX8_gives_90 (cB_ge (show rng _ by omega) ⟨by omega, by omega⟩) 97 rfl (fun c90 => ?_) (fun c90 => ?_)
      ·
        refine wc_iload_n dX8_gives_97 rfl ?_
        refine wc_iconst dX8_gives_98 ?_
        refine wc_iload_n dX8_gives_99 rfl ?_
        refine wc_shl1 dX8_gives_100 ⟨by omega, by omega⟩ ?_
        refine wc_or1 dX8_gives_101 hB.1 ⟨by omega, by omega⟩ ?_
        refine wc_call dX8_gives_102 rfl (ih _ _ _ _ (gr1F (wofF w) (nN w) k g) c82 hCz k4 (hB.step ⟨by omega, by omega⟩) (by rw [hg4 (by omega)]; rcases hgc with q | q; omega; rw [q.1]) hg2 hRz) (by omega) (hx_V (kV8_76 rfl) rfl (by rcases k4.nn with e | e; exact absurd e c82; exact kd_dyn e.1 e.2) rfl rfl) ?_
        rintro _ _ ⟨rfl, hG, hC3, hR3⟩
        refine wc_vreturn dX8_gives_105 rfl ?_
        exact ⟨rfl, hFz.tr hG, hC3, hR3⟩
      ·
        refine wc_iload_n dX8_gives_93 rfl ?_
        refine wc_goto dX8_gives_94 102 rfl ?_
        refine wc_call dX8_gives_102 rfl (ih _ _ T A (gr1F (wofF w) (nN w) k g) c82 hCz k4 hB (hg3 (by omega)) hg2 hRz) (by omega) (hx_V (kV8_76 rfl) rfl (by rcases k4.nn with e | e; exact absurd e c82; exact kd_dyn e.1 e.2) rfl rfl) ?_
        rintro _ _ ⟨rfl, hG, hC3, hR3⟩
        refine wc_vreturn dX8_gives_105 rfl ?_
        exact ⟨rfl, hFz.tr hG, hC3, hR3⟩
  · have h1 := ih y t T A g hy hX (hN.2 hc) hB hg (fun j hj => hg1 j (by omega)) hR
    rw [show grF (wofF w) (nN w) (k + 1) g = grF (wofF w) (nN w) k g by
      show grF (wofF w) (nN w) k (gr1F (wofF w) (nN w) k g) = _
      rw [gr1_non hc]]
    exact fun d hd => h1 d (by omega)
theorem giv_zero : GivP w 0 := fun y t T A g hy hX hN _ _ _ _ => absurd hN hy
theorem giv_all (hW : HW w) (hl : 0 ≤ ledF w) : ∀ k, k ≤ 10 → GivP w k := by
  intro k
  induction k with
  | zero => intro _; exact giv_zero
  | succ k ih => intro hk; exact giv_step hW hl (by omega) (ih (by omega))
end GIV
