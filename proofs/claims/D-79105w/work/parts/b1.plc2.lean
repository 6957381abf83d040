/-! THE CLASS'S METHODS, 5: laysPlaces -/
set_option maxRecDepth 100000
theorem pl0F_of {w : Nat → Int} {s : Int} (h : 0 ≤ ledF w) : pl0F w s = plOf w (if s = ancF w (w 3) then -1 else xyF (celF w (ledF w) % 12 + colF w (w 3) s) (celF w (ledF w) / 12 + rowF w (w 3) s)) := by
  unfold pl0F
  by_cases e : s = ancF w (w 3)
  · rw [if_pos e, if_pos e]; unfold plOf; rw [if_neg (by omega)]
  · rw [if_neg e, if_neg e, plcF_of h]
theorem nC_pos {w : Nat → Int} (h : 0 < nC w) : 0 ≤ ledF w ∧ nC w = sltF w (w 3) ∧ ldO w = ledF w := by
  unfold nC at h ⊢
  unfold ldO
  split at h
  · omega
  · rename_i hl
    rw [if_neg hl, if_neg hl]
    exact ⟨by omega, rfl, rfl⟩
section PLC2
variable {w : Nat → Int} {τ t : CT} {m c k v p s : Int} {d : Nat} {Q : Option AV → CT → Prop}
theorem Plc1.step {u : CT} (g : Plc1 w s (pl0F w s) t u) (h : PL w s t) (hs : 0 ≤ s ∧ s < 10) : PL w (s + 1) u := fun k k0 k1 => by
  obtain ⟨-, g1, g2, g3, -, -, -⟩ := g
  by_cases e : k = s
  · subst e
    exact ⟨by rw [g1 k k0 (by omega), if_pos rfl], fun hp x x0 x1 => g3 hp x x0 x1⟩
  · have a := h k k0 (by omega)
    refine ⟨by rw [g1 k k0 (by omega), if_neg e]; exact a.1, fun hp x x0 x1 => ?_⟩
    rw [g2 k.toNat (by omega) (by omega)]
    exact a.2 hp x x0 x1
theorem cc_lp_51 (h : St w τ) (hS : WS w) (hr : ∀ i, rng (w i)) (hb : BitO w) (hd : 4 ≤ d) : ∀ (n : Nat) (s : Int) (t : CT) (o4 : Option AV), s + n = nC w → 0 ≤ s → FrS τ t → PL w s t → sg t 10 6 = nC w → t.1 = τ.1 → (∀ u, FrS τ u → PL w (nC w) u → sg u 10 6 = nC w → sg u 10 7 = sg t 10 7 + opnCF w n s → u.1 = τ.1 → Q none u) → Wc kap d rX0_laysPlaces 51 [some (.inr 10), some (.inl (ldO w)), some (.inr (sg τ 104 (w 3).toNat).toNat), some (.inl s), o4] [] t (nQ Q) := by
  have hn10 : nC w ≤ 10 := by have := hS.2.2.2.1; unfold nC; split <;> omega
  intro n
  induction n with
  | zero =>
    intro s t o4 hs h0 g hP h6 h1 K
    have e : s = nC w := by omega
    subst e
    refine wc_iload_n dX0_laysPlaces_51 rfl ?_
    refine wc_aload_n dX0_laysPlaces_52 rfl ?_
    refine wc_getI dX0_laysPlaces_53 (kF0_71 rfl) rfl rfl ?_
    rw [h6]
    refine wc_icmp dX0_laysPlaces_56 (cB_ge (show rng _ by omega) (show rng _ by omega)) 171 rfl (fun c56 => ?_) (fun c56 => ?_)
    ·
      refine wc_vreturn dX0_laysPlaces_171 rfl ?_
      exact K t g hP h6 (by simp [opnCF]) h1
    ·
      omega
  | succ n ih =>
    intro s t o4 hs h0 g hP h6 h1 K
    obtain ⟨hl0, hnc, hld⟩ := nC_pos (w := w) (by omega)
    have hlr := ledF_rng w hS.1.2
    have hml := hlr.2.2 hl0
    have hst := g.st h
    have hM := hst.1.mem hS.1.2 hml
    have hkM := hM.kd (T := kap)
    have hcel : 0 ≤ celF w (ledF w) ∧ celF w (ledF w) < 120 := ⟨hml.2, (hS.2.2.1 (ledF w) hl0 hlr.2.1).2⟩
    have hA := (h.2.2 (w 3) (by have := hS.2.1; omega) (by have := hS.2.1; omega)).1 (by omega)
    have hC := hA.fz g.1.1 g.2.2.2.2.2
    have kS : kd kap t (sg τ 104 (w 3).toNat).toNat = some shK := kd_dyn (by have := hC.1; omega) hC.1.2.2
    have k0 : kd kap t (sg t (sg τ 104 (w 3).toNat).toNat 0).toNat = some (ckI 0 (sltF w (w 3)).toNat) := kd_dyn (by have := hC.2.2.1; omega) hC.2.2.1.2.2
    have k1 : kd kap t (sg t (sg τ 104 (w 3).toNat).toNat 1).toNat = some (ckI 0 (sltF w (w 3)).toNat) := kd_dyn (by have := hC.2.2.2.1; omega) hC.2.2.2.1.2.2
    have hcr := hC.2.2.2.2 s h0 (by omega)
    have hcb := hS.2.2.2.2.2.1 s h0 (by omega)
    have hnn : decide ((sltF w (w 3)).toNat ≤ 100000) = true := decide_eq_true (by omega)
    have han := hS.2.2.2.2.1
    have hgo : ∀ c : Int, -1 ≤ c ∧ c < 120 → plOf w c = pl0F w s → Wc kap d rX0_laysPlaces 98 [some (.inr 10), some (.inl (ldO w)), some (.inr (sg τ 104 (w 3).toNat).toNat), some (.inl s), o4] [.inl c] t (nQ Q) := fun c hc e => by
      refine cc_lp_98 hst hb ⟨h0, by omega⟩ hc hd (fun u o q => ?_)
      rw [e] at q
      have q2 := q
      obtain ⟨g0, -, -, -, g6, g7, g8⟩ := q2
      refine ih (s + 1) u o (by omega) (by omega) (g.tr g0) (q.step hP ⟨h0, by omega⟩) (by rw [g6, h6]) (g8.trans h1) (fun u2 a1 a2 a3 a4 a5 => K u2 a1 a2 a3 ?_ a5)
      rw [a4, g7, opnCF]
      omega
    refine wc_iload_n dX0_laysPlaces_51 rfl ?_
    refine wc_aload_n dX0_laysPlaces_52 rfl ?_
    refine wc_getI dX0_laysPlaces_53 (kF0_71 rfl) rfl rfl ?_
    rw [h6]
    refine wc_icmp dX0_laysPlaces_56 (cB_ge (show rng _ by omega) (show rng _ by omega)) 171 rfl (fun c56 => ?_) (fun c56 => ?_)
    ·
      omega
    ·
      refine wc_iload_n dX0_laysPlaces_59 rfl ?_
      refine wc_aload_n dX0_laysPlaces_60 rfl ?_
      refine wc_getI dX0_laysPlaces_61 (kF0_77 rfl) kS rfl ?_
      rw [hC.2.1.1]
      refine wc_icmp dX0_laysPlaces_64 (cB_ne (show rng _ by omega) (show rng _ by omega)) 71 rfl (fun c64 => ?_) (fun c64 => ?_)
      ·
        refine wc_aload_n dX0_laysPlaces_71 rfl ?_
        refine wc_getC dX0_laysPlaces_72 (kF0_19 rfl) rfl rfl ?_
        refine wc_getC dX0_laysPlaces_75 (kF0_80 rfl) rfl rfl ?_
        rw [hld]
        refine wc_iload_n dX0_laysPlaces_78 rfl ?_
        refine wc_aaload dX0_laysPlaces_79 rfl rfl rfl ⟨by omega, by omega⟩ rfl ?_
        refine wc_getI dX0_laysPlaces_80 (kF0_49 rfl) hkM rfl ?_
        refine wc_aload_n dX0_laysPlaces_83 rfl ?_
        rw [hM.2.2.1]
        refine wc_getR dX0_laysPlaces_84 (kF0_84 rfl) kS rfl rfl ?_
        refine wc_iload_n dX0_laysPlaces_87 rfl ?_
        refine wc_iaload dX0_laysPlaces_88 k0 rfl hnn ⟨by omega, by omega⟩ _ rfl ?_
        rw [hcr.1]
        refine wc_aload_n dX0_laysPlaces_89 rfl ?_
        refine wc_getR dX0_laysPlaces_90 (kF0_87 rfl) kS rfl rfl ?_
        refine wc_iload_n dX0_laysPlaces_93 rfl ?_
        refine wc_iaload dX0_laysPlaces_94 k1 rfl hnn ⟨by omega, by omega⟩ _ rfl ?_
        rw [hcr.2]
        refine wc_call dX0_laysPlaces_95 rfl (cc_shifted hcel (by omega) (by omega)) (by omega) (hx_S (kS0_14 rfl) (kSn0_14 rfl) rfl rfl) ?_
        rintro _ _ ⟨rfl, rfl⟩
        rw [hld] at hgo
        have hx := xyF_rng (celF w (ledF w) % 12 + colF w (w 3) s) (celF w (ledF w) / 12 + rowF w (w 3) s)
        exact hgo _ hx (by rw [pl0F_of hl0, if_neg c64])
      ·
        refine wc_iconst dX0_laysPlaces_67 ?_
        refine wc_goto dX0_laysPlaces_68 98 rfl ?_
        exact hgo (-1) (by omega) (by rw [pl0F_of hl0, if_pos (Classical.not_not.mp c64)])
theorem nC_0 (hS : WS w) : 0 ≤ nC w := by
  have := hS.2.2.2.1
  unfold nC
  split <;> omega
/-- the places are laid -/
def PLs (w : Nat → Int) (t : CT) : Prop := PL w (nC w) t ∧ sg t 10 6 = nC w ∧ sg t 10 7 = opnCF w (nC w).toNat 0
theorem cc_size {T : Nat → Option CK} {y y0 n : Nat} (h1 : kd T t y = some shK) (h2 : (sg t y 0).toNat = y0) (h3 : kd T t y0 = some (ckI 0 n)) : Cf T 0 rX7_size [.inr y] t (some (.inl (n : Int))) t := by
  intro d hd
  refine wc_aload_n dX7_size_0 rfl ?_
  refine wc_getR dX7_size_1 (kF7_9 rfl) h1 rfl h2 ?_
  refine wc_alenI dX7_size_4 h3 ?_
  refine wc_ireturn dX7_size_5 rfl ?_
  exact ⟨rfl, rfl⟩
theorem cc_laysPlaces (h : St w τ) (hS : WS w) (hr : ∀ i, rng (w i)) (hb : BitO w) : Ct kap 4 rX0_laysPlaces [.inr 10] τ (fun v u => none = v ∧ FrS τ u ∧ PLs w u ∧ u.1 = τ.1) := by
  intro d hd
  have hlr := ledF_rng w hS.1.2
  have hS4 := hS.2.2.2.1
  have h3 := hS.2.1
  have hA := h.2.2 (w 3) (by omega) (by omega)
  have hgo : Wc kap d rX0_laysPlaces 41 [some (.inr 10), some (.inl (ldO w)), some (.inr (sg τ 104 (w 3).toNat).toNat), none, none] [.inl (nC w), .inr 10] τ (nQ (fun v u => none = v ∧ FrS τ u ∧ PLs w u ∧ u.1 = τ.1)) := by
    refine wc_putI dX0_laysPlaces_41 (kF0_71 rfl) rfl rfl rfl ⟨by decide, Or.inl (by decide)⟩ (Or.inl rfl) ?_
    refine wc_aload_n dX0_laysPlaces_44 rfl ?_
    refine wc_iconst dX0_laysPlaces_45 ?_
    refine wc_putI dX0_laysPlaces_46 (kF0_74 rfl) rfl rfl rfl ⟨by decide, Or.inl (by decide)⟩ (Or.inl rfl) ?_
    refine wc_iconst dX0_laysPlaces_49 ?_
    refine wc_istore_n dX0_laysPlaces_50 rfl ?_
    refine cc_lp_51 h hS hr hb hd (nC w).toNat 0 _ _ (by have : 0 ≤ nC w := (by unfold nC; split <;> omega); omega) (by omega) ((frs_st10 (Or.inl rfl)).tr (frs_st10 (Or.inr rfl))) (fun k k0 k1 => by omega) (by rw [sg_st, if_neg (by decide), sg_st, if_pos rfl]) rfl (fun u a1 a2 a3 a4 a5 => ⟨rfl, a1, ⟨a2, a3, ?_⟩, a5⟩)
    rw [a4, sg_st, if_pos rfl, Int.zero_add]
  have e7 : sg τ 100 7 = w 3 := h.1.1.2.2.2.2.2
  refine wc_aload_n dX0_laysPlaces_0 rfl ?_
  refine wc_getC dX0_laysPlaces_1 (kF0_19 rfl) rfl rfl ?_
  refine wc_call dX0_laysPlaces_4 rfl (cc_leads h.1 hS.1 (hr _)) (by omega) (hx_V (kV0_55 rfl) rfl rfl rfl rfl) ?_
  rintro _ _ ⟨rfl, rfl⟩
  refine wc_istore_n dX0_laysPlaces_7 rfl ?_
  refine wc_aload_n dX0_laysPlaces_8 rfl ?_
  refine wc_getC dX0_laysPlaces_9 (kF0_19 rfl) rfl rfl ?_
  refine wc_getC dX0_laysPlaces_12 (kF0_59 rfl) rfl rfl ?_
  refine wc_aload_n dX0_laysPlaces_15 rfl ?_
  refine wc_getC dX0_laysPlaces_16 (kF0_19 rfl) rfl rfl ?_
  refine wc_getI dX0_laysPlaces_19 (kF0_63 rfl) rfl rfl ?_
  rw [e7]
  refine wc_aaload dX0_laysPlaces_22 rfl rfl rfl ⟨by omega, by omega⟩ rfl ?_
  refine wc_astore_n dX0_laysPlaces_23 rfl ?_
  refine wc_aload_n dX0_laysPlaces_24 rfl ?_
  refine wc_iload_n dX0_laysPlaces_25 rfl ?_
  refine wc_if dX0_laysPlaces_26 (cB_lt (show rng _ by unfold ldO; split <;> omega) ⟨by omega, by omega⟩) 33 rfl (fun c26 => ?_) (fun c26 => ?_)
  ·
    refine wc_iconst dX0_laysPlaces_33 ?_
    refine wc_goto dX0_laysPlaces_34 41 rfl ?_
    have e : nC w = 0 := by unfold nC; rw [if_pos (by unfold ldO at c26; split at c26 <;> omega)]
    rw [e] at hgo
    exact hgo
  ·
    refine wc_aload_n dX0_laysPlaces_29 rfl ?_
    refine wc_ifnonnull dX0_laysPlaces_30 (by by_cases q : 0 < sltF w (w 3); exact Or.inr (by rw [kd_dyn (by have := (hA.1 q).1; omega) (hA.1 q).1.2.2]; rfl); exact Or.inl (by rw [hA.2 q]; rfl)) 37 rfl (fun c30 => ?_) (fun c30 => ?_)
    ·
      have hs0 : 0 < sltF w (w 3) := Classical.byContradiction (fun q => c30 (by rw [hA.2 q]; rfl))
      refine wc_aload_n dX0_laysPlaces_37 rfl ?_
      refine wc_call dX0_laysPlaces_38 rfl (cc_size (kd_dyn (by have := (hA.1 hs0).1; omega) (hA.1 hs0).1.2.2) rfl (kd_dyn (by have := (hA.1 hs0).2.2.1; omega) (hA.1 hs0).2.2.1.2.2)) (by omega) (hx_V (kV0_66 rfl) rfl (kd_dyn (by have := (hA.1 hs0).1; omega) (hA.1 hs0).1.2.2) rfl rfl) ?_
      rintro _ _ ⟨rfl, rfl⟩
      have e : nC w = ((sltF w (w 3)).toNat : Int) := by
        unfold nC
        rw [if_neg (by unfold ldO at c26; split at c26 <;> omega)]
        omega
      rw [e] at hgo
      exact hgo
    ·
      refine wc_iconst dX0_laysPlaces_33 ?_
      refine wc_goto dX0_laysPlaces_34 41 rfl ?_
      have e : nC w = 0 := by
        unfold nC
        split
        · rfl
        · have := hA.1
          by_cases q : 0 < sltF w (w 3)
          · exact absurd (this q).1.1 (by rw [c30]; decide)
          · omega
      rw [e] at hgo
      exact hgo
end PLC2
