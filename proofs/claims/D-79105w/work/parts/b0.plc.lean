/-! THE CLASS'S METHODS, 4: the places of the present shape -/
set_option maxRecDepth 100000
def nC (w : Nat → Int) : Int := if ledF w < 0 then 0 else sltF w (w 3)
/-- the place out of the cell -/
def plOf (w : Nat → Int) (c : Int) : Int := if 0 ≤ c ∧ ¬ w (72 + c).toNat = 1 then c else -1
theorem plOf_rng (w : Nat → Int) {c : Int} (h : c < 120) : -1 ≤ plOf w c ∧ plOf w c < 120 := by
  unfold plOf
  split <;> omega
theorem plcF_of {w : Nat → Int} {k : Int} (h : 0 ≤ ledF w) : plcF w k = plOf w (xyF (celF w (ledF w) % 12 + colF w (w 3) k) (celF w (ledF w) / 12 + rowF w (w 3) k)) := by
  unfold plcF plOf xyF
  rw [if_neg (by omega)]
  by_cases h1 : (0 ≤ celF w (ledF w) % 12 + colF w (w 3) k ∧ celF w (ledF w) % 12 + colF w (w 3) k ≤ 11) ∧ (0 ≤ celF w (ledF w) / 12 + rowF w (w 3) k ∧ celF w (ledF w) / 12 + rowF w (w 3) k ≤ 9)
  · simp only [if_pos h1]
    by_cases h2 : w (72 + (12 * (celF w (ledF w) / 12 + rowF w (w 3) k) + (celF w (ledF w) % 12 + colF w (w 3) k))).toNat = 1
    · rw [if_neg (fun q => q.2 h2), if_neg (fun q => q.2 h2)]
    · rw [if_pos ⟨h1, h2⟩, if_pos ⟨by omega, h2⟩]
  · simp only [if_neg h1]
    rw [if_neg (fun q => h1 q.1), if_neg (by omega)]
/-- the places below s are laid -/
def PL (w : Nat → Int) (s : Int) (t : CT) : Prop := ∀ k : Int, 0 ≤ k → k < s → sg t 13 k.toNat = pl0F w k ∧ (0 ≤ pl0F w k → ∀ x : Int, 0 ≤ x → x < 120 → sg t (40 + k.toNat) x.toNat = enF (frF w k) x)
section PLC
variable {w : Nat → Int} {τ t : CT} {m c k v p s : Int} {d : Nat} {Q : Option AV → CT → Prop}
theorem frs_st {x i : Nat} (hx : x < 100 ∧ x ≠ 10 ∧ x ≠ 17 ∧ x ≠ 18 ∧ x ≠ 19 ∧ x ≠ 20 ∧ x ≠ 21 ∧ x ≠ 22) : FrS τ (stC τ x i v) := ⟨⟨rfl, Nat.le_refl _⟩, fun v hv => sg_st' (by omega), fun j _ _ => by rw [sg_st' (by omega)], fun y y1 y2 => ⟨rfl, fun _ => sg_st' (by omega)⟩, sg_st' (by omega), fun y y1 y2 => ⟨rfl, sg_st' (by omega)⟩⟩
theorem frs_st10 {i : Nat} (hi : i = 6 ∨ i = 7) : FrS τ (stC τ 10 i v) := ⟨⟨rfl, Nat.le_refl _⟩, fun v hv => sg_st' (by omega), fun j _ _ => by rw [sg_st, if_neg (by omega)], fun y y1 y2 => ⟨rfl, fun _ => sg_st' (by omega)⟩, sg_st' (by omega), fun y y1 y2 => ⟨rfl, sg_st' (by omega)⟩⟩
/-- what one turn of the loop leaves -/
def Plc1 (w : Nat → Int) (s pl : Int) (t u : CT) : Prop := FrS t u ∧ (∀ k : Int, 0 ≤ k → k < 10 → sg u 13 k.toNat = if k = s then pl else sg t 13 k.toNat) ∧ (∀ k : Nat, k < 10 → k ≠ s.toNat → sg u (40 + k) = sg t (40 + k)) ∧ (0 ≤ pl → ∀ x : Int, 0 ≤ x → x < 120 → sg u (40 + s.toNat) x.toNat = enF (bfsF (blkF w) pl) x) ∧ sg u 10 6 = sg t 10 6 ∧ sg u 10 7 = sg t 10 7 + (if 0 ≤ pl then 1 else 0) ∧ u.1 = t.1
theorem cc_lp_129 (h : St w t) (hb : BitO w) (hs : 0 ≤ s ∧ s < 10) {pl : Int} (hpl : -1 ≤ pl ∧ pl < 120) (hd : 4 ≤ d) {o1 o4 : Option AV} {y : Nat} (K : ∀ u (o : Option AV), Plc1 w s pl t u → Wc kap d rX0_laysPlaces 51 [some (.inr 10), o1, some (.inr y), some (.inl (s + 1)), o] [] u (nQ Q)) : Wc kap d rX0_laysPlaces 129 [some (.inr 10), o1, some (.inr y), some (.inl s), o4] [.inl pl, .inl s, .inr 13] t (nQ Q) := by
  have f0 : FrS t (stC t 13 s.toNat pl) := frs_st (by omega)
  have e13 : ∀ k : Int, 0 ≤ k → k < 10 → sg (stC t 13 s.toNat pl) 13 k.toNat = if k = s then pl else sg t 13 k.toNat := fun k k0 k1 => by
    rw [sg_st]
    simp only [toNat_ne k0 hs.1]
  refine wc_iastore dX0_laysPlaces_129 rfl ⟨by decide, Or.inl (by decide)⟩ rfl ⟨by omega, by omega⟩ _ rfl ?_
  refine wc_aload_n dX0_laysPlaces_130 rfl ?_
  refine wc_getC dX0_laysPlaces_131 (kF0_42 rfl) rfl rfl ?_
  refine wc_iload_n dX0_laysPlaces_134 rfl ?_
  refine wc_iaload dX0_laysPlaces_135 rfl rfl rfl ⟨by omega, by omega⟩ _ rfl ?_
  rw [e13 s hs.1 hs.2, if_pos rfl]
  refine wc_if dX0_laysPlaces_136 (cB_lt (show rng _ by omega) ⟨by omega, by omega⟩) 165 rfl (fun c136 => ?_) (fun c136 => ?_)
  ·
    refine wc_iinc dX0_laysPlaces_165 rfl ?_
    refine wc_goto dX0_laysPlaces_168 51 rfl ?_
    refine K _ _ ⟨f0, e13, fun k _ _ => sg_st' (by omega), fun h0 => by omega, by rw [sg_st' (by decide)], ?_, rfl⟩
    rw [sg_st' (by decide), if_neg (by omega), Int.add_zero]
  ·
    refine wc_aload_n dX0_laysPlaces_139 rfl ?_
    refine wc_dup dX0_laysPlaces_140 ?_
    refine wc_getI dX0_laysPlaces_141 (kF0_74 rfl) rfl rfl ?_
    refine wc_iconst dX0_laysPlaces_144 ?_
    refine wc_iadd dX0_laysPlaces_145 ?_
    refine wc_putI dX0_laysPlaces_146 (kF0_74 rfl) rfl rfl rfl ⟨by decide, Or.inl (by decide)⟩ (Or.inl rfl) ?_
    refine wc_aload_n dX0_laysPlaces_149 rfl ?_
    refine wc_aload_n dX0_laysPlaces_150 rfl ?_
    refine wc_getC dX0_laysPlaces_151 (kF0_42 rfl) rfl rfl ?_
    refine wc_iload_n dX0_laysPlaces_154 rfl ?_
    refine wc_iaload dX0_laysPlaces_155 rfl rfl rfl ⟨by omega, by omega⟩ _ rfl ?_
    rw [sg_st' (by decide), e13 s hs.1 hs.2, if_pos rfl]
    refine wc_aload_n dX0_laysPlaces_156 rfl ?_
    refine wc_getC dX0_laysPlaces_157 (kF0_45 rfl) rfl rfl ?_
    refine wc_iload_n dX0_laysPlaces_160 rfl ?_
    refine wc_aaloadC dX0_laysPlaces_161 rfl rfl rfl ⟨by omega, by omega⟩ (if_pos (by omega)) ?_
    refine wc_call dX0_laysPlaces_162 rfl (cc_lays (τ := stC (stC t 13 s.toNat pl) 10 7 _) (t := 40 + s.toNat) (Or.inr (by omega)) ((f0.tr (frs_st10 (Or.inr rfl))).st h).1 hb ⟨by omega, hpl.2⟩) (by omega) (hx_V (kV0_90 rfl) rfl rfl rfl rfl) ?_
    rintro _ _ ⟨rfl, q, rfl⟩
    refine wc_iinc dX0_laysPlaces_165 rfl ?_
    refine wc_goto dX0_laysPlaces_168 51 rfl ?_
    refine K _ _ ⟨f0.tr ((frs_st10 (Or.inr rfl)).tr (flC_fr (by omega))), fun k k0 k1 => ?_, fun k k1 k2 => ?_, fun h0 x x0 x1 => flC_f ⟨x0, x1⟩, ?_, ?_, rfl⟩
    · rw [flC_o (by omega) (by decide), sg_st' (by decide), e13 k k0 k1]
    · rw [flC_o (by omega) (by omega), sg_st' (by omega), sg_st' (by omega)]
    · rw [flC_o (by omega) (by omega), sg_st, if_neg (by decide), sg_st' (by omega)]
    · rw [flC_o (by omega) (by omega), sg_st, if_pos rfl, sg_st' (by omega), if_pos (by omega)]
theorem cc_lp_98 (h : St w t) (hb : BitO w) (hs : 0 ≤ s ∧ s < 10) (hc : -1 ≤ c ∧ c < 120) (hd : 4 ≤ d) {o1 o4 : Option AV} {y : Nat} (K : ∀ u (o : Option AV), Plc1 w s (plOf w c) t u → Wc kap d rX0_laysPlaces 51 [some (.inr 10), o1, some (.inr y), some (.inl (s + 1)), o] [] u (nQ Q)) : Wc kap d rX0_laysPlaces 98 [some (.inr 10), o1, some (.inr y), some (.inl s), o4] [.inl c] t (nQ Q) := by
  have hp := plOf_rng w hc.2
  refine wc_istore dX0_laysPlaces_98 rfl ?_
  refine wc_aload_n dX0_laysPlaces_100 rfl ?_
  refine wc_getC dX0_laysPlaces_101 (kF0_42 rfl) rfl rfl ?_
  refine wc_iload_n dX0_laysPlaces_104 rfl ?_
  refine wc_iload dX0_laysPlaces_105 rfl ?_
  refine wc_if dX0_laysPlaces_107 (cB_lt (show rng _ by omega) ⟨by omega, by omega⟩) 128 rfl (fun c107 => ?_) (fun c107 => ?_)
  ·
    refine wc_iconst dX0_laysPlaces_128 ?_
    refine cc_lp_129 h hb hs (by omega) hd (fun u o q => K u o ?_)
    rw [show plOf w c = -1 by unfold plOf; rw [if_neg (by omega)]]
    exact q
  ·
    refine wc_aload_n dX0_laysPlaces_110 rfl ?_
    refine wc_getC dX0_laysPlaces_111 (kF0_19 rfl) rfl rfl ?_
    refine wc_getC dX0_laysPlaces_114 (kF0_23 rfl) rfl rfl ?_
    refine wc_iload dX0_laysPlaces_117 rfl ?_
    refine wc_baload dX0_laysPlaces_119 rfl rfl rfl ⟨by omega, by omega⟩ _ rfl ?_
    rw [h.1.obs ⟨by omega, hc.2⟩]
    refine wc_if dX0_laysPlaces_120 (cB_ne (show rng _ by rcases hb c (by omega) hc.2 with e | e <;> rw [e] <;> omega) ⟨by omega, by omega⟩) 128 rfl (fun c120 => ?_) (fun c120 => ?_)
    ·
      refine wc_iconst dX0_laysPlaces_128 ?_
      refine cc_lp_129 h hb hs (by omega) hd (fun u o q => K u o ?_)
      rw [show plOf w c = -1 by unfold plOf; rw [if_neg (fun q => by have := q.2; rcases hb c (by omega) hc.2 with e | e <;> omega)]]
      exact q
    ·
      refine wc_iload dX0_laysPlaces_123 rfl ?_
      refine wc_goto dX0_laysPlaces_125 129 rfl ?_
      refine cc_lp_129 h hb hs (by omega) hd (fun u o q => K u o ?_)
      rw [show plOf w c = c by unfold plOf; rw [if_pos ⟨by omega, by omega⟩]]
      exact q
end PLC
