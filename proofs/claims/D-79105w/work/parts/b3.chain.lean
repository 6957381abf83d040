/-! THE CLASS'S METHODS, 6: the chain's least sums -/
set_option maxRecDepth 100000
abbrev chK : CK := ckO 8 [some none, some none, some none, some none]
abbrev isC (w : Nat → Int) (k : Nat) : Prop := isM w (9 - k) ∧ (9 - (k : Int)) ≠ ledF w
def ChN (w : Nat → Int) (t : CT) : Nat → Nat → Prop
  | 0, y => y = 0
  | k + 1, y => (isC w k → (110 ≤ y ∧ y < nvC t ∧ t.2.1 y = some chK) ∧ (sg t y 0).toNat = mnC t (9 - k) ∧ (sg t y 2).toNat = 30 + (9 - k) ∧ (sg t y 3).toNat = 10 ∧ ChN w t k (sg t y 1).toNat) ∧ (¬ isC w k → ChN w t k y)
/-- only the sums known change -/
def FrC (t u : CT) : Prop := u.1 = t.1 ∧ u.2.1 = t.2.1 ∧ ∀ v, ¬ (30 ≤ v ∧ v < 40) → sg u v = sg t v
abbrev nN (w : Nat → Int) : Nat := (sltF w (w 3)).toNat
def MI (w : Nat → Int) (t : CT) : Prop := ∀ j : Nat, j < 10 → isC w j → ∀ T : Int, 0 ≤ T → T < 1024 → (-200000 ≤ sg t (30 + (9 - j)) T.toNat ∧ sg t (30 + (9 - j)) T.toNat ≤ 200000) ∧ (0 ≤ sg t (30 + (9 - j)) T.toNat → ∀ A, BR w (nN w) T A → sg t (30 + (9 - j)) T.toNat = coF w (nN w) (j + 1) A)
def CX (w : Nat → Int) (t : CT) : Prop := St w t ∧ PLs w t ∧ MI w t
section CHN
variable {w : Nat → Int} {τ t u : CT} {m c v p s A T : Int} {d k y : Nat} {Q : Option AV → CT → Prop}
theorem FrC.rf : FrC t t := ⟨rfl, rfl, fun _ _ => rfl⟩
theorem FrC.tr {x : CT} (h : FrC t u) (g : FrC u x) : FrC t x := ⟨g.1.trans h.1, g.2.1.trans h.2.1, fun v hv => (g.2.2 v hv).trans (h.2.2 v hv)⟩
theorem FrC.st {x i : Nat} {v : Int} (hx : 30 ≤ x ∧ x < 40) : FrC t (stC t x i v) := ⟨rfl, rfl, fun y hy => sg_st' (fun e => hy (by omega))⟩
theorem FrC.frs (h : FrC t u) : FrS t u := by
  obtain ⟨h1, h2, h3⟩ := h
  have e0 : n0C u = n0C t := by unfold n0C; rw [h1]
  have ev : nvC u = nvC t := by unfold nvC; rw [h1]
  exact ⟨⟨e0, by omega⟩, fun v hv => h3 v (by omega), fun j _ _ => by rw [h3 10 (by omega)], fun y y1 y2 => ⟨by rw [h2], fun _ => h3 y (by omega)⟩, h3 18 (by omega), fun y y1 y2 => ⟨by rw [h2], h3 y (by omega)⟩⟩
theorem PL.of {n : Int} (hn : n ≤ 10) (h : PL w n t) (g : ∀ v, v = 13 ∨ (40 ≤ v ∧ v < 50) → sg u v = sg t v) : PL w n u := fun k k0 k1 => by
  rw [g 13 (Or.inl rfl), g (40 + k.toNat) (Or.inr (by omega))]
  exact h k k0 k1
theorem nC_le (hS : WS w) : nC w ≤ 10 := by
  have := hS.2.2.2.1
  unfold nC
  split <;> omega
theorem PLs.of (hS : WS w) (h : PLs w t) (g : ∀ v, v = 13 ∨ (40 ≤ v ∧ v < 50) → sg u v = sg t v) (g6 : sg u 10 6 = sg t 10 6) (g7 : sg u 10 7 = sg t 10 7) : PLs w u := ⟨h.1.of (nC_le hS) g, by rw [g6]; exact h.2.1, by rw [g7]; exact h.2.2⟩
theorem CX.fr (hS : WS w) (h : CX w t) (g : FrC t u) (hm : MI w u) : CX w u := ⟨g.frs.st h.1, h.2.1.of hS (fun v hv => g.2.2 v (by omega)) (by rw [g.2.2 10 (by omega)]) (by rw [g.2.2 10 (by omega)]), hm⟩
theorem ChN.fr (g : FrC t u) : ∀ {k y : Nat}, ChN w t k y → ChN w u k y := by
  intro k
  induction k with
  | zero => intro y h; exact h
  | succ k ih =>
    intro y h
    refine ⟨fun hc => ?_, fun hc => ih (h.2 hc)⟩
    obtain ⟨⟨h1, h2, h3⟩, h4, h5, h6, h7⟩ := h.1 hc
    have e := g.2.2 y (by omega)
    have em := g.2.2 103 (by omega)
    unfold mnC at *
    rw [e, em, g.2.1]
    exact ⟨⟨h1, by unfold nvC at *; rw [g.1]; exact h2, h3⟩, h4, h5, h6, ih h7⟩
theorem ChN.nn : ∀ {k y : Nat}, ChN w t k y → y = 0 ∨ (110 ≤ y ∧ t.2.1 y = some chK) := by
  intro k
  induction k with
  | zero => intro y h; exact Or.inl h
  | succ k ih =>
    intro y h
    by_cases hc : isC w k
    · have := (h.1 hc).1
      exact Or.inr ⟨this.1, this.2.2⟩
    · exact ih (h.2 hc)
theorem plc_lt (w : Nat → Int) (s : Int) : pl0F w s < 120 := by
  unfold pl0F plcF
  split
  · omega
  · split
    · omega
    · split <;> omega
theorem fr_rng {x : Int} (h : 0 ≤ pl0F w s) : -1 ≤ frF w s x ∧ frF w s x < 120 := bfsF_rng _ ⟨h, plc_lt w s⟩ x
theorem wof_r (m s : Int) : 0 ≤ wofF w m s ∧ wofF w m s ≤ 10000 := by
  unfold wofF
  split
  · rename_i h
    have := fr_rng (x := celF w m) h.2.2
    split <;> omega
  · omega
theorem co_r {k : Nat} {n : Nat} : -10000 * k ≤ coF w n k A ∧ coF w n k A ≤ 10000 * k := by
  unfold coF
  have a := nk_rng w k
  have b := wth_rng (v := wofF w) (n := n) wof_r k A
  omega
/-- a place may be given -/
theorem cc_isGiveable (h : St w t) (hP : PLs w t) (h0 : w 0 ≤ 10) (hm : isM w m) (hc : celF w m < 120) (hs : 0 ≤ s ∧ s < nC w) (hs2 : s < 10) (hT : 0 ≤ T ∧ T < 1024) : Cb kap 0 rX0_isGiveable [.inr 10, .inl s, .inl T, .inr (mnC t m)] t (0 ≤ pl0F w s ∧ bitF T s = 0 ∧ 0 ≤ frF w s (celF w m)) := by
  intro d hd
  have hM := h.1.mem h0 hm
  have hk := hM.kd (T := kap)
  have hp := hP.1 s hs.1 hs.2
  have hpl := plc_lt w s
  have hkf : kd kap t (40 + s.toNat) = some (ckI 0 120) := kap_from (by omega)
  have hcm : 0 ≤ celF w m := hm.2
  have hb := bit01 T s
  have hpr : -1 ≤ pl0F w s := by
    unfold pl0F plcF
    split
    · omega
    · split
      · omega
      · split <;> omega
  refine wc_aload_n dX0_isGiveable_0 rfl ?_
  refine wc_getC dX0_isGiveable_1 (kF0_42 rfl) rfl rfl ?_
  refine wc_iload_n dX0_isGiveable_4 rfl ?_
  refine wc_iaload dX0_isGiveable_5 rfl rfl rfl ⟨by omega, by omega⟩ _ rfl ?_
  rw [hp.1]
  refine wc_if dX0_isGiveable_6 (cB_lt (show rng _ by omega) ⟨by omega, by omega⟩) 37 rfl (fun c6 => ?_) (fun c6 => ?_)
  ·
    refine wc_iconst dX0_isGiveable_37 ?_
    refine wc_breturn dX0_isGiveable_38 rfl (by omega) ?_
    exact ⟨rfl, Or.inr ⟨fun q => by omega, rfl⟩⟩
  ·
    refine wc_iload_n dX0_isGiveable_9 rfl ?_
    refine wc_iload_n dX0_isGiveable_10 rfl ?_
    refine wc_shr dX0_isGiveable_11 hT ⟨hs.1, hs2⟩ ?_
    refine wc_iconst dX0_isGiveable_12 ?_
    refine wc_and1 dX0_isGiveable_13 (b_rng hT ⟨hs.1, hs2⟩).2.2.2 ?_
    rw [show T / 2 ^ s.toNat % 2 = bitF T s from rfl]
    refine wc_if dX0_isGiveable_14 (cB_ne (show rng _ by omega) ⟨by omega, by omega⟩) 37 rfl (fun c14 => ?_) (fun c14 => ?_)
    ·
      refine wc_iconst dX0_isGiveable_37 ?_
      refine wc_breturn dX0_isGiveable_38 rfl (by omega) ?_
      exact ⟨rfl, Or.inr ⟨fun q => c14 q.2.1, rfl⟩⟩
    ·
      refine wc_aload_n dX0_isGiveable_17 rfl ?_
      refine wc_getC dX0_isGiveable_18 (kF0_45 rfl) rfl rfl ?_
      refine wc_iload_n dX0_isGiveable_21 rfl ?_
      refine wc_aaloadC dX0_isGiveable_22 rfl rfl rfl ⟨by omega, by omega⟩ (if_pos (by omega)) ?_
      refine wc_aload_n dX0_isGiveable_23 rfl ?_
      refine wc_getI dX0_isGiveable_24 (kF0_49 rfl) hk rfl ?_
      rw [hM.2.2.1]
      refine wc_iaload dX0_isGiveable_27 hkf rfl rfl ⟨hcm, by omega⟩ _ rfl ?_
      rw [hp.2 (by omega) _ hcm hc]
      have hfr := fr_rng (w := w) (s := s) (x := celF w m) (by omega)
      have hen := en_rng (f := frF w s) (i := celF w m) (by omega)
      have hef := en_far (f := frF w s) (i := celF w m) (by omega)
      refine wc_ldcN 16777216 dX0_isGiveable_28 (kK0_18 rfl) (by decide) ?_
      refine wc_icmp dX0_isGiveable_30 (cB_ge (show rng _ by omega) ⟨by omega, by omega⟩) 37 rfl (fun c30 => ?_) (fun c30 => ?_)
      ·
        refine wc_iconst dX0_isGiveable_37 ?_
        refine wc_breturn dX0_isGiveable_38 rfl (by omega) ?_
        exact ⟨rfl, Or.inr ⟨fun q => by omega, rfl⟩⟩
      ·
        refine wc_iconst dX0_isGiveable_33 ?_
        refine wc_goto dX0_isGiveable_34 38 rfl ?_
        refine wc_breturn dX0_isGiveable_38 rfl (by omega) ?_
        exact ⟨rfl, Or.inl ⟨⟨by omega, by omega, by omega⟩, rfl⟩⟩
end CHN
