/-! THE CLASS'S METHODS, 51: swarm -/
set_option maxRecDepth 100000
section QSWM
variable {w w' : Nat → Int} {R : Nat → Nat → Int} {τ t u : CT} {m c v C x y : Int} {d n i j k a b s : Nat}
theorem opn_none (hl : ledF w < 0) : ∀ (k : Nat) (s : Int), opnCF w k s = 0 := by
  intro k
  induction k with
  | zero => intro s; rfl
  | succ k ih =>
    intro s
    have e : pl0F w s = -1 := by
      unfold pl0F plcF
      rw [if_pos hl]
      split <;> rfl
    unfold opnCF
    rw [ih, e]
    rfl
theorem opn_nC (hS : WS w) : opnCF w (nC w).toNat 0 = opnCF w (sltF w (w 3)).toNat 0 := by
  unfold nC
  by_cases hl : ledF w < 0
  · rw [opn_none hl, opn_none hl]
  · rw [if_neg hl]
theorem sw_5 (hx : x = 0 ∨ x = 1 ∨ x = 2 ∨ x = 3 ∨ x = 4 ∨ x = 5 ∨ x = 7) : swF w x = if x = 0 then manyF w else if x = 1 then ldO w else if x = 2 then tgC w else if x = 3 then w 3 else if x = 4 then (givF w).2.1 else if x = 5 then (givF w).2.2.1 else opnCF w (sltF w (w 3)).toNat 0 := by
  rcases hx with e | e | e | e | e | e | e <;> subst e <;> rfl
theorem cc_swarm (h : SI w C t) (hC : 300 ≤ C ∧ C < 900000000) (hx : rng x) : Ct kap 62 rX0_swarm [.inr 10, .inl x] t (fun v u => ((¬ x = 6 ∧ some (.inl (if 0 ≤ x ∧ x ≤ 7 then swF w x else -1)) = v) ∨ (x = 6 ∧ ((formF w ∧ some (.inl 1) = v) ∨ (¬ formF w ∧ some (.inl 0) = v)))) ∧ FrS t u ∧ nvC u ≤ nvC t + 20 ∧ uC u ≤ uC t + 80) := by
  intro d hd
  have h0 := h.2.1.1.2
  have hr := h.2.2.2.2.rng (by omega)
  refine wc_aload_n dX0_swarm_0 rfl ?_
  refine wc_call dX0_swarm_1 rfl (cc_gives (h.hw (by omega)) h.1) (by omega) (hx_V (kV0_120 rfl) rfl rfl rfl rfl) ?_
  rintro _ _ ⟨rfl, hG⟩
  rename_i u1
  have hS := hG.1.st h.1
  have hb := hG.2.2.2
  refine wc_iload_n dX0_swarm_4 rfl ?_
  rcases (show x = 0 ∨ x = 1 ∨ x = 2 ∨ x = 3 ∨ x = 4 ∨ x = 5 ∨ x = 6 ∨ x = 7 ∨ ¬ (0 ≤ x ∧ x ≤ 7) by omega) with e | e | e | e | e | e | e | e | e
  ·
    subst e
    refine wc_tsw dX0_swarm_5 ⟨by omega, by omega⟩ rfl 52 rfl ?_
    refine wc_aload_n dX0_swarm_52 rfl ?_
    refine wc_getC dX0_swarm_53 (kF0_19 rfl) rfl rfl ?_
    refine wc_call dX0_swarm_56 rfl (cc_many hS.1 h.2.1.1) (by omega) (hx_V (kV0_307 rfl) rfl rfl rfl rfl) ?_
    rintro _ _ ⟨rfl, rfl⟩
    refine wc_goto dX0_swarm_59 124 rfl ?_
    refine wc_ireturn dX0_swarm_124 rfl ?_
    refine ⟨Or.inl ⟨by omega, ?_⟩, hG.1, by omega, by omega⟩
    rw [if_pos ⟨by omega, by omega⟩, sw_5 (by omega)]
    rfl
  ·
    subst e
    refine wc_tsw dX0_swarm_5 ⟨by omega, by omega⟩ rfl 62 rfl ?_
    refine wc_aload_n dX0_swarm_62 rfl ?_
    refine wc_getC dX0_swarm_63 (kF0_19 rfl) rfl rfl ?_
    refine wc_call dX0_swarm_66 rfl (cc_leads hS.1 h.2.1.1 (hr 1)) (by omega) (hx_V (kV0_55 rfl) rfl rfl rfl rfl) ?_
    rintro _ _ ⟨rfl, rfl⟩
    refine wc_goto dX0_swarm_69 124 rfl ?_
    refine wc_ireturn dX0_swarm_124 rfl ?_
    refine ⟨Or.inl ⟨by omega, ?_⟩, hG.1, by omega, by omega⟩
    rw [if_pos ⟨by omega, by omega⟩, sw_5 (by omega)]
    rfl
  ·
    subst e
    refine wc_tsw dX0_swarm_5 ⟨by omega, by omega⟩ rfl 72 rfl ?_
    refine wc_aload_n dX0_swarm_72 rfl ?_
    refine wc_getC dX0_swarm_73 (kF0_19 rfl) rfl rfl ?_
    refine wc_getI dX0_swarm_76 (kF0_144 rfl) rfl rfl ?_
    refine wc_goto dX0_swarm_79 124 rfl ?_
    refine wc_ireturn dX0_swarm_124 rfl ?_
    refine ⟨Or.inl ⟨by omega, ?_⟩, hG.1, by omega, by omega⟩
    rw [if_pos ⟨by omega, by omega⟩, sw_5 (by omega), hS.1.1.2.2.2.2.1]
    rfl
  ·
    subst e
    refine wc_tsw dX0_swarm_5 ⟨by omega, by omega⟩ rfl 82 rfl ?_
    refine wc_aload_n dX0_swarm_82 rfl ?_
    refine wc_getC dX0_swarm_83 (kF0_19 rfl) rfl rfl ?_
    refine wc_getI dX0_swarm_86 (kF0_63 rfl) rfl rfl ?_
    refine wc_goto dX0_swarm_89 124 rfl ?_
    refine wc_ireturn dX0_swarm_124 rfl ?_
    refine ⟨Or.inl ⟨by omega, ?_⟩, hG.1, by omega, by omega⟩
    rw [if_pos ⟨by omega, by omega⟩, sw_5 (by omega), hS.1.1.2.2.2.2.2]
    rfl
  ·
    subst e
    refine wc_tsw dX0_swarm_5 ⟨by omega, by omega⟩ rfl 92 rfl ?_
    refine wc_aload_n dX0_swarm_92 rfl ?_
    refine wc_call dX0_swarm_93 rfl (cc_given h.2.2.1 hG.gd) (by omega) (hx_V (kV0_125 rfl) rfl rfl rfl rfl) ?_
    rintro _ _ ⟨rfl, rfl⟩
    refine wc_goto dX0_swarm_96 124 rfl ?_
    refine wc_ireturn dX0_swarm_124 rfl ?_
    refine ⟨Or.inl ⟨by omega, ?_⟩, hG.1, by omega, by omega⟩
    rw [if_pos ⟨by omega, by omega⟩, sw_5 (by omega), giv_cnt.1]
    rfl
  ·
    subst e
    refine wc_tsw dX0_swarm_5 ⟨by omega, by omega⟩ rfl 99 rfl ?_
    refine wc_aload_n dX0_swarm_99 rfl ?_
    refine wc_call dX0_swarm_100 rfl (cc_distances h.2.2.1 hG.gd hS.1) (by omega) (hx_V (kV0_122 rfl) rfl rfl rfl rfl) ?_
    rintro _ _ ⟨rfl, rfl⟩
    refine wc_goto dX0_swarm_103 124 rfl ?_
    refine wc_ireturn dX0_swarm_124 rfl ?_
    refine ⟨Or.inl ⟨by omega, ?_⟩, hG.1, by omega, by omega⟩
    rw [if_pos ⟨by omega, by omega⟩, sw_5 (by omega), dsN_V, giv_cnt.2]
    rfl
  ·
    subst e
    refine wc_tsw dX0_swarm_5 ⟨by omega, by omega⟩ rfl 106 rfl ?_
    refine wc_aload_n dX0_swarm_106 rfl ?_
    refine wc_call dX0_swarm_107 rfl (cc_isFormed (h.hw (by omega)) hS) (by omega) (hx_V (kV0_371 rfl) rfl rfl rfl rfl) ?_
    rintro _ _ ⟨hF, ⟨h107, rfl⟩ | ⟨h107, rfl⟩⟩
    ·
      refine wc_call dX0_swarm_110 rfl (cc_bit (Or.inr rfl)) (by omega) (hx_S (kS0_112 rfl) (kSn0_112 rfl) rfl rfl) ?_
      rintro _ _ ⟨rfl, rfl⟩
      refine wc_goto dX0_swarm_113 124 rfl ?_
      refine wc_ireturn dX0_swarm_124 rfl ?_
      have := hF.2.2.2
      exact ⟨Or.inr ⟨rfl, Or.inl ⟨h107, rfl⟩⟩, hG.1.tr hF.1, by omega, by omega⟩
    ·
      refine wc_call dX0_swarm_110 rfl (cc_bit (Or.inl rfl)) (by omega) (hx_S (kS0_112 rfl) (kSn0_112 rfl) rfl rfl) ?_
      rintro _ _ ⟨rfl, rfl⟩
      refine wc_goto dX0_swarm_113 124 rfl ?_
      refine wc_ireturn dX0_swarm_124 rfl ?_
      have := hF.2.2.2
      exact ⟨Or.inr ⟨rfl, Or.inr ⟨h107, rfl⟩⟩, hG.1.tr hF.1, by omega, by omega⟩
  ·
    subst e
    refine wc_tsw dX0_swarm_5 ⟨by omega, by omega⟩ rfl 116 rfl ?_
    refine wc_aload_n dX0_swarm_116 rfl ?_
    refine wc_getI dX0_swarm_117 (kF0_74 rfl) rfl rfl ?_
    refine wc_goto dX0_swarm_120 124 rfl ?_
    refine wc_ireturn dX0_swarm_124 rfl ?_
    refine ⟨Or.inl ⟨by omega, ?_⟩, hG.1, by omega, by omega⟩
    rw [if_pos ⟨by omega, by omega⟩, sw_5 (by omega), hG.2.1.2.2, opn_nC h.2.2.1]
    rfl
  ·
    refine wc_tsw dX0_swarm_5 hx (if_pos (by omega)) 123 rfl ?_
    refine wc_iconst dX0_swarm_123 ?_
    refine wc_ireturn dX0_swarm_124 rfl ?_
    exact ⟨Or.inl ⟨by omega, by rw [if_neg e]⟩, hG.1, by omega, by omega⟩
end QSWM
