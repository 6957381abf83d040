/-! THE CLASS'S METHODS, 7: sums of the chain -/
set_option maxRecDepth 100000
section SUM
variable {w : Nat → Int} {τ t u : CT} {m c v p s A T : Int} {d k y : Nat} {Q : Option AV → CT → Prop}
/-- what the conditions on the row are, when there is a leader -/
def HW (w : Nat → Int) : Prop := WS w ∧ (∀ i, rng (w i)) ∧ BitO w
/-- the least sum of the last k -/
def SumP (w : Nat → Int) (k : Nat) : Prop := ∀ (y : Nat) (t : CT) (T A : Int), CX w t → ChN w t k y → BR w (nN w) T A → Ct kap (4 * k) rX0_best [.inr y, .inl T] t (fun v u => some (.inl (coF w (nN w) k A)) = v ∧ FrC t u ∧ CX w u)
theorem nk_c (h : isC w k) : nkF w (k + 1) = nkF w k + 1 := by
  show nkF w k + (if isM w (9 - k) ∧ (9 - (k : Int)) ≠ ledF w then 1 else 0) = _
  rw [if_pos h]
theorem cc_with (hW : HW w) (hl : 0 ≤ ledF w) (ih : SumP w k) (hk : k ≤ 9) (hc : isC w k) (hX : CX w t) (hN : ChN w t (k + 1) y) (hB : BR w (nN w) T A) (hs : 0 ≤ s ∧ s < nC w) (hg : 0 ≤ pl0F w s ∧ bitF T s = 0 ∧ 0 ≤ frF w s (celF w (9 - k))) : Ct kap (4 * k + 1) rX8_with [.inr y, .inl s, .inl T] t (fun v u => some (.inl (frF w s (celF w (9 - k)) + coF w (nN w) k (clrF A s))) = v ∧ FrC t u ∧ CX w u) := by
  intro d hd
  obtain ⟨⟨y1, y2, y3⟩, g0, g2, g3, g4⟩ := hN.1 hc
  have hn10 := nC_le hW.1
  have ky : kd kap t y = some chK := kd_dyn y1 y3
  have hM := hX.1.1.mem hW.1.1.2 hc.1
  have hkm := hM.kd (T := kap)
  have hp := hX.2.1.1 s hs.1 hs.2
  have hkf : kd kap t (40 + s.toNat) = some (ckI 0 120) := kap_from (by omega)
  have hcm : 0 ≤ celF w (9 - k) := hc.1.2
  have hcl : celF w (9 - k) < 120 := (hW.1.2.2.1 _ (by omega) (by omega)).2
  have hef : enF (frF w s) (celF w (9 - k)) = frF w s (celF w (9 - k)) := by unfold enF; rw [if_neg (by omega)]
  refine wc_aload_n dX8_with_0 rfl ?_
  refine wc_getR (y := 10) dX8_with_1 (kF8_3 rfl) ky rfl g3 ?_
  refine wc_getC dX8_with_4 (kF8_43 rfl) rfl rfl ?_
  refine wc_iload_n dX8_with_7 rfl ?_
  refine wc_aaloadC dX8_with_8 rfl rfl rfl ⟨by omega, by omega⟩ (if_pos (by omega)) ?_
  refine wc_aload_n dX8_with_9 rfl ?_
  refine wc_getR (y := mnC t (9 - k)) dX8_with_10 (kF8_15 rfl) ky rfl g0 ?_
  refine wc_getI dX8_with_13 (kF8_46 rfl) hkm rfl ?_
  rw [hM.2.2.1]
  refine wc_iaload dX8_with_16 hkf rfl rfl ⟨hcm, by omega⟩ _ rfl ?_
  rw [hp.2 hg.1 _ hcm hcl, hef]
  refine wc_aload_n dX8_with_17 rfl ?_
  refine wc_getR dX8_with_18 (kF8_19 rfl) ky rfl rfl ?_
  refine wc_iload_n dX8_with_21 rfl ?_
  refine wc_iconst dX8_with_22 ?_
  refine wc_iload_n dX8_with_23 rfl ?_
  refine wc_shl1 dX8_with_24 ⟨hs.1, by omega⟩ ?_
  refine wc_or1 dX8_with_25 hB.1 ⟨hs.1, by omega⟩ ?_
  refine wc_call dX8_with_26 rfl (ih _ t _ _ hX g4 (hB.step ⟨hs.1, by omega⟩)) (by omega) (hx_S (kS8_49 rfl) (kSn8_49 rfl) rfl rfl) ?_
  rintro _ _ ⟨rfl, hF, hC⟩
  refine wc_iadd dX8_with_29 ?_
  refine wc_ireturn dX8_with_30 rfl ?_
  exact ⟨rfl, hF, hC⟩
/-- the loop over the slots -/
theorem cc_sum_31 (hW : HW w) (hl : 0 ≤ ledF w) (ih : SumP w k) (hk : k ≤ 9) (hc : isC w k) (hB : BR w (nN w) T A) (hd : 4 * k + 3 ≤ d) : ∀ (j : Nat) (s most : Int) (t : CT), s + j = nC w → 0 ≤ s → CX w t → ChN w t (k + 1) y → (0 ≤ most ∧ most ≤ 200000) →
    (∀ u, FrC t u → CX w u → Wc kap d rX8_sum 75 [some (.inr y), some (.inl T), some (.inl (10000 * nkF w (k + 1) - bstF (wofF w (9 - k)) (wthF (wofF w) (nN w) k) A j s most)), some (.inl (nC w))] [] u (nQ Q)) →
    Wc kap d rX8_sum 31 [some (.inr y), some (.inl T), some (.inl (10000 * nkF w (k + 1) - most)), some (.inl s)] [] t (nQ Q) := by
  have hn10 := nC_le hW.1
  intro j
  induction j with
  | zero =>
    intro s most t hs h0 hX hN hm K
    obtain ⟨⟨y1, y2, y3⟩, g0, g2, g3, g4⟩ := hN.1 hc
    have ky : kd kap t y = some chK := kd_dyn y1 y3
    have e : s = nC w := by omega
    subst e
    refine wc_iload_n dX8_sum_31 rfl ?_
    refine wc_aload_n dX8_sum_32 rfl ?_
    refine wc_getR (y := 10) dX8_sum_33 (kF8_3 rfl) ky rfl g3 ?_
    refine wc_getI dX8_sum_36 (kF8_53 rfl) rfl rfl ?_
    rw [hX.2.1.2.1]
    refine wc_icmp dX8_sum_39 (cB_ge (show rng _ by omega) (show rng _ by omega)) 75 rfl (fun c39 => ?_) (fun c39 => ?_)
    ·
      exact K t FrC.rf hX
    ·
      omega
  | succ j ihj =>
    intro s most t hs h0 hX hN hm K
    obtain ⟨⟨y1, y2, y3⟩, g0, g2, g3, g4⟩ := hN.1 hc
    have ky : kd kap t y = some chK := kd_dyn y1 y3
    have hcl : celF w (9 - k) < 120 := (hW.1.2.2.1 _ (by omega) (by omega)).2
    have hnk := nk_rng w (k + 1)
    have hsb := hB.2.2 s h0 (by unfold nN nC at *; split at hs <;> omega)
    have hb01 := bit01 A s
    have hskip : (bitF A s = 0 ∨ wofF w (9 - k) s = 0) → Wc kap d rX8_sum 31 [some (.inr y), some (.inl T), some (.inl (10000 * nkF w (k + 1) - most)), some (.inl (s + 1))] [] t (nQ Q) := fun he => by
      refine ihj (s + 1) most t (by omega) (by omega) hX hN hm (fun u a b => ?_)
      have := K u a b
      rw [bstF, if_pos he] at this
      exact this
    have hwo : ∀ hp : 0 ≤ pl0F w s, wofF w (9 - k) s = if frF w s (celF w (9 - k)) < 0 then 0 else 10000 - frF w s (celF w (9 - k)) := fun hp => by
      unfold wofF
      rw [if_pos ⟨hc.1, hc.2, hp⟩]
    refine wc_iload_n dX8_sum_31 rfl ?_
    refine wc_aload_n dX8_sum_32 rfl ?_
    refine wc_getR (y := 10) dX8_sum_33 (kF8_3 rfl) ky rfl g3 ?_
    refine wc_getI dX8_sum_36 (kF8_53 rfl) rfl rfl ?_
    rw [hX.2.1.2.1]
    refine wc_icmp dX8_sum_39 (cB_ge (show rng _ by omega) (show rng _ by omega)) 75 rfl (fun c39 => ?_) (fun c39 => ?_)
    ·
      omega
    ·
      refine wc_aload_n dX8_sum_42 rfl ?_
      refine wc_getR (y := 10) dX8_sum_43 (kF8_3 rfl) ky rfl g3 ?_
      refine wc_iload_n dX8_sum_46 rfl ?_
      refine wc_iload_n dX8_sum_47 rfl ?_
      refine wc_aload_n dX8_sum_48 rfl ?_
      refine wc_getR (y := mnC t (9 - k)) dX8_sum_49 (kF8_15 rfl) ky rfl g0 ?_
      refine wc_call dX8_sum_52 rfl (cc_isGiveable hX.1 hX.2.1 hW.1.1.2 hc.1 hcl ⟨h0, by omega⟩ (by omega) hB.1) (by omega) (hx_V (kV8_56 rfl) rfl rfl rfl rfl) ?_
      rintro _ _ ⟨rfl, ⟨h52, rfl⟩ | ⟨h52, rfl⟩⟩
      ·
        refine wc_ifF dX8_sum_55 (by decide) 69 rfl ?_
        refine wc_iload_n dX8_sum_58 rfl ?_
        refine wc_aload_n dX8_sum_59 rfl ?_
        refine wc_iload_n dX8_sum_60 rfl ?_
        refine wc_iload_n dX8_sum_61 rfl ?_
        refine wc_call dX8_sum_62 rfl (cc_with hW hl ih hk hc hX hN hB ⟨h0, by omega⟩ h52) (by omega) (hx_V (kV8_60 rfl) rfl ky rfl rfl) ?_
        rintro _ _ ⟨rfl, hF, hC⟩
        refine wc_min dX8_sum_65 rfl rfl (show rng _ by omega) (show rng _ by have := co_r (w := w) (A := clrF A s) (k := k) (n := nN w); have := fr_rng (x := celF w (9 - k)) h52.1; omega) rfl ?_
        refine wc_istore_n dX8_sum_68 rfl ?_
        refine wc_iinc dX8_sum_69 rfl ?_
        refine wc_goto dX8_sum_72 31 rfl ?_
        have hfr := fr_rng (x := celF w (9 - k)) h52.1
        have hA1 : bitF A s = 1 := hsb.mpr ⟨h52.1, h52.2.1⟩
        have hwv : wofF w (9 - k) s = 10000 - frF w s (celF w (9 - k)) := by rw [hwo h52.1, if_neg (by omega)]
        have hnc := nk_c hc
        have hth := wth_rng (v := wofF w) (n := nN w) wof_r k (clrF A s)
        have e : (if frF w s (celF w (9 - k)) + coF w (nN w) k (clrF A s) < 10000 * nkF w (k + 1) - most then frF w s (celF w (9 - k)) + coF w (nN w) k (clrF A s) else 10000 * nkF w (k + 1) - most) = 10000 * nkF w (k + 1) - (if wofF w (9 - k) s + wthF (wofF w) (nN w) k (clrF A s) ≤ most then most else wofF w (9 - k) s + wthF (wofF w) (nN w) k (clrF A s)) := by
          rw [hwv, hnc]
          unfold coF
          split <;> split <;> omega
        rw [e]
        refine ihj (s + 1) _ _ (by omega) (by omega) hC (hN.fr hF) (by split <;> omega) (fun u a b => ?_)
        have := K u (hF.tr a) b
        rw [bstF, if_neg (by omega)] at this
        exact this
      ·
        refine wc_ifT dX8_sum_55 (by decide) 69 rfl ?_
        refine wc_iinc dX8_sum_69 rfl ?_
        refine wc_goto dX8_sum_72 31 rfl ?_
        refine hskip ?_
        by_cases hp : 0 ≤ pl0F w s
        · by_cases hT : bitF T s = 0
          · right
            rw [hwo hp, if_pos (by have := fr_rng (x := celF w (9 - k)) hp; omega)]
          · left
            have : ¬ bitF A s = 1 := fun q => hT (hsb.mp q).2
            omega
        · left
          have : ¬ bitF A s = 1 := fun q => hp (hsb.mp q).1
          omega
theorem row_st {j : Nat} {T' v : Int} (hj : j < 10) (hk : k ≤ 9) (h0 : 0 ≤ T) (h1 : 0 ≤ T') : sg (stC u (30 + (9 - k)) T.toNat v) (30 + (9 - j)) T'.toNat = if j = k ∧ T' = T then v else sg u (30 + (9 - j)) T'.toNat := by
  by_cases e1 : j = k
  · subst e1
    rw [sg_st]
    by_cases e2 : T' = T
    · rw [if_pos (by rw [e2]), if_pos ⟨rfl, e2⟩]
    · rw [if_neg (by omega), if_neg (fun q => e2 q.2)]
  · rw [sg_st' (by omega), if_neg (fun q => e1 q.1)]
theorem cc_sum (hW : HW w) (hl : 0 ≤ ledF w) (hk : k ≤ 9) (ih : SumP w k) (hX : CX w t) (hN : ChN w t (k + 1) y) (hB : BR w (nN w) T A) (hc : isC w k) : Ct kap (4 * k + 3) rX8_sum [.inr y, .inl T] t (fun v u => some (.inl (coF w (nN w) (k + 1) A)) = v ∧ FrC t u ∧ CX w u) := by
  obtain ⟨⟨y1, y2, y3⟩, g0, g2, g3, g4⟩ := hN.1 hc
  have ky : kd kap t y = some chK := kd_dyn y1 y3
  have krow : ∀ t, kd kap t (30 + (9 - k)) = some (ckI 0 1024) := fun t => kap_sums (by omega)
  have hn10 := nC_le hW.1
  have hne : nC w = (nN w : Int) := by
    have := hW.1.2.2.2.1
    unfold nC nN
    rw [if_neg (by omega)]
    omega
  have hI := hX.2.2 k (by omega) hc T hB.1.1 hB.1.2
  have hth := wth_rng (v := wofF w) (n := nN w) wof_r k A
  intro d hd
  refine wc_aload_n dX8_sum_0 rfl ?_
  refine wc_getR (y := 30 + (9 - k)) dX8_sum_1 (kF8_33 rfl) ky rfl g2 ?_
  refine wc_iload_n dX8_sum_4 rfl ?_
  refine wc_iaload dX8_sum_5 (krow _) rfl rfl ⟨hB.1.1, by have := hB.1.2; omega⟩ _ rfl ?_
  refine wc_if dX8_sum_6 (cB_lt (show rng _ by omega) ⟨by omega, by omega⟩) 16 rfl (fun c6 => ?_) (fun c6 => ?_)
  ·
    refine wc_sipush dX8_sum_16 (by decide) ?_
    refine wc_aload_n dX8_sum_19 rfl ?_
    refine wc_getR dX8_sum_20 (kF8_19 rfl) ky rfl rfl ?_
    refine wc_iload_n dX8_sum_23 rfl ?_
    refine wc_call dX8_sum_24 rfl (ih _ t _ _ hX g4 hB) (by omega) (hx_S (kS8_49 rfl) (kSn8_49 rfl) rfl rfl) ?_
    rintro _ _ ⟨rfl, hF, hC⟩
    refine wc_iadd dX8_sum_27 ?_
    refine wc_istore_n dX8_sum_28 rfl ?_
    refine wc_iconst dX8_sum_29 ?_
    refine wc_istore_n dX8_sum_30 rfl ?_
    have e : 10000 + coF w (nN w) k A = 10000 * nkF w (k + 1) - wthF (wofF w) (nN w) k A := by
      rw [nk_c hc]
      unfold coF
      omega
    rw [e]
    refine cc_sum_31 hW hl ih hk hc hB hd (nN w) 0 _ _ (by omega) (by omega) hC (hN.fr hF) (by omega) (fun u hF2 hC2 => ?_)
    have hN2 := (hN.fr hF).fr hF2
    obtain ⟨⟨z1, z2, z3⟩, f0, f2, f3, f4⟩ := hN2.1 hc
    have kz : kd kap u y = some chK := kd_dyn z1 z3
    have er : 10000 * nkF w (k + 1) - bstF (wofF w (9 - k)) (wthF (wofF w) (nN w) k) A (nN w) 0 (wthF (wofF w) (nN w) k A) = coF w (nN w) (k + 1) A := by
      show _ = 10000 * nkF w (k + 1) - wthF (wofF w) (nN w) (k + 1) A
      rfl
    rw [er]
    refine wc_aload_n dX8_sum_75 rfl ?_
    refine wc_getR (y := 30 + (9 - k)) dX8_sum_76 (kF8_33 rfl) kz rfl f2 ?_
    refine wc_iload_n dX8_sum_79 rfl ?_
    refine wc_iload_n dX8_sum_80 rfl ?_
    refine wc_iastore dX8_sum_81 (krow _) ⟨by omega, by omega⟩ rfl ⟨hB.1.1, by have := hB.1.2; omega⟩ _ rfl ?_
    refine wc_iload_n dX8_sum_82 rfl ?_
    refine wc_ireturn dX8_sum_83 rfl ?_
    have hF3 : FrC u (stC u (30 + (9 - k)) T.toNat (coF w (nN w) (k + 1) A)) := FrC.st (by omega)
    refine ⟨rfl, (hF.tr hF2).tr hF3, hC2.fr hW.1 hF3 (fun j hj hcj T' T0 T1 => ?_)⟩
    rw [row_st hj hk hB.1.1 T0]
    by_cases e : j = k ∧ T' = T
    · rw [if_pos e]
      obtain ⟨rfl, rfl⟩ := e
      have := co_r (w := w) (A := A) (k := j + 1) (n := nN w)
      exact ⟨by omega, fun _ A' hA' => hB.co hA'⟩
    · rw [if_neg e]
      exact hC2.2.2 j hj hcj T' T0 T1
  ·
    refine wc_aload_n dX8_sum_9 rfl ?_
    refine wc_getR (y := 30 + (9 - k)) dX8_sum_10 (kF8_33 rfl) ky rfl g2 ?_
    refine wc_iload_n dX8_sum_13 rfl ?_
    refine wc_iaload dX8_sum_14 (krow _) rfl rfl ⟨hB.1.1, by have := hB.1.2; omega⟩ _ rfl ?_
    refine wc_ireturn dX8_sum_15 rfl ?_
    exact ⟨by rw [hI.2 (by omega) A hB], FrC.rf, hX⟩
theorem sum_step (hW : HW w) (hl : 0 ≤ ledF w) (hk : k ≤ 9) (ih : SumP w k) : SumP w (k + 1) := by
  intro y t T A hX hN hB
  by_cases hc : isC w k
  · obtain ⟨⟨y1, y2, y3⟩, g0, g2, g3, g4⟩ := hN.1 hc
    have ky : kd kap t y = some chK := kd_dyn y1 y3
    have hsum := cc_sum hW hl hk ih hX hN hB hc
    intro d hd
    have hny : y ≠ 0 := by omega
    refine wc_aload_n dX0_best_0 rfl ?_
    refine wc_ifnonnull dX0_best_1 (Or.inr (by rw [ky]; rfl)) 8 rfl (fun c1 => ?_) (fun c1 => ?_)
    ·
      refine wc_aload_n dX0_best_8 rfl ?_
      refine wc_iload_n dX0_best_9 rfl ?_
      refine wc_call dX0_best_10 rfl (hsum) (by omega) (hx_V (kV0_36 rfl) rfl ky rfl rfl) ?_
      rintro _ _ ⟨rfl, hF, hC⟩
      refine wc_ireturn dX0_best_13 rfl ?_
      exact ⟨rfl, hF, hC⟩
    ·
      exact absurd c1 hny
  · have h1 := ih y t T A hX (hN.2 hc) hB
    have e : coF w (nN w) (k + 1) A = coF w (nN w) k A := by
      unfold coF
      rw [wth_skip (fun s _ _ => wof_non hc)]
      show 10000 * (nkF w k + (if isM w (9 - k) ∧ (9 - (k : Int)) ≠ ledF w then 1 else 0)) - _ = _
      rw [if_neg hc]
      omega
    rw [e]
    exact fun d hd => h1 d (by omega)
theorem sum_zero : SumP w 0 := by
  intro y t T A hX hN hB d hd
  have hN : y = 0 := hN
  subst hN
  refine wc_aload_n dX0_best_0 rfl ?_
  refine wc_ifnonnull dX0_best_1 (Or.inl rfl) 8 rfl (fun c1 => ?_) (fun c1 => ?_)
  ·
    exact absurd rfl c1
  ·
    refine wc_iconst dX0_best_4 ?_
    refine wc_goto dX0_best_5 13 rfl ?_
    refine wc_ireturn dX0_best_13 rfl ?_
    exact ⟨rfl, FrC.rf, hX⟩
theorem cc_best (hW : HW w) (hl : 0 ≤ ledF w) : ∀ k, k ≤ 10 → SumP w k := by
  intro k
  induction k with
  | zero => intro _; exact sum_zero
  | succ k ih => intro hk; exact sum_step hW hl (by omega) (ih (by omega))
end SUM
