/-! THE CLASS'S METHODS, 50: member, swarm -/
set_option maxRecDepth 100000
section QMEM
variable {w w' : Nat → Int} {R : Nat → Nat → Int} {τ t u : CT} {m c v C x y : Int} {d n i j k a b s : Nat}
theorem mem_1 : memF w m 1 = gC (slF w m) := by simp [memF, gC]
theorem mem_2 : memF w m 2 = if slF w m < 0 then -5 else pl0F w (slF w m) := by simp [memF]
theorem mem_3 : memF w m 3 = dsF w w m := by
  unfold dsF
  by_cases h : slF w m < 0
  · simp [memF, h]
  · rw [if_neg h]
    have := (dsF_self (w := w) (m := m) (by omega)).1
    unfold dsF at this
    rw [if_neg h] at this
    rw [this]
    simp [memF, h]
theorem cc_member (h : SI w C t) (hC : 300 ≤ C ∧ C < 900000000) (hm : rng m) (hy : rng y) : Ct kap 61 rX0_member [.inr 10, .inl m, .inl y] t (fun v u => some (.inl (if isM w m ∧ 0 ≤ y ∧ y ≤ 8 then memF w m y else -1)) = v ∧ FrS t u ∧ nvC u ≤ nvC t + 10 ∧ uC u ≤ uC t + 40) := by
  intro d hd
  have h0 := h.2.1.1.2
  refine wc_aload_n dX0_member_0 rfl ?_
  refine wc_getC dX0_member_1 (kF0_19 rfl) rfl rfl ?_
  refine wc_iload_n dX0_member_4 rfl ?_
  refine wc_call dX0_member_5 rfl (cc_isMember h.1.1 h.2.1.1 hm) (by omega) (hx_V (kV0_301 rfl) rfl rfl rfl rfl) ?_
  rintro _ _ ⟨rfl, ⟨h5, rfl⟩ | ⟨h5, rfl⟩⟩
  ·
    refine wc_ifT dX0_member_8 (by decide) 13 rfl ?_
    have hr := isM_le h5 h0
    have hM := h.1.1.mem h0 h5
    have hkm := hM.kd (T := kap)
    refine wc_aload_n dX0_member_13 rfl ?_
    refine wc_getC dX0_member_14 (kF0_19 rfl) rfl rfl ?_
    refine wc_getC dX0_member_17 (kF0_80 rfl) rfl rfl ?_
    refine wc_iload_n dX0_member_20 rfl ?_
    refine wc_aaload dX0_member_21 rfl rfl rfl ⟨by omega, by omega⟩ rfl ?_
    refine wc_astore_n dX0_member_22 rfl ?_
    refine wc_iload_n dX0_member_23 rfl ?_
    refine wc_iconst dX0_member_24 ?_
    refine wc_iconst dX0_member_25 ?_
    refine wc_call dX0_member_26 rfl (cc_in hy (by omega) (by omega)) (by omega) (hx_S (kS0_3 rfl) (kSn0_3 rfl) rfl rfl) ?_
    rintro _ _ ⟨rfl, ⟨h26, rfl⟩ | ⟨h26, rfl⟩⟩
    ·
      refine wc_ifF dX0_member_29 (by decide) 36 rfl ?_
      refine wc_aload_n dX0_member_32 rfl ?_
      refine wc_call dX0_member_33 rfl (cc_gives (h.hw (by omega)) h.1) (by omega) (hx_V (kV0_120 rfl) rfl rfl rfl rfl) ?_
      rintro _ _ ⟨rfl, hG⟩
      rename_i u1
      have hS := hG.1.st h.1
      have em : mnC u1 m = mnC t m := by unfold mnC; rw [hG.1.2.1 103 (by omega)]
      have cP := cc_placeOf h.2.2.1 hG.gd hS.1 h0 h5
      have cD := cc_distanceOf h.2.2.1 hG.gd hS.1 h0 h5 (h.2.2.1.lt m hr.1 hr.2)
      rw [em] at cP cD
      refine wc_iload_n dX0_member_36 rfl ?_
      rcases (show y = 1 ∨ y = 2 ∨ y = 3 by omega) with e | e | e
      ·
        subst e
        refine wc_tsw dX0_member_37 ⟨by omega, by omega⟩ rfl 95 rfl ?_
        refine wc_aload_n dX0_member_95 rfl ?_
        refine wc_getC dX0_member_96 (kF0_98 rfl) rfl rfl ?_
        refine wc_iload_n dX0_member_99 rfl ?_
        refine wc_iaload dX0_member_100 rfl rfl rfl ⟨by omega, by omega⟩ _ rfl ?_
        refine wc_goto dX0_member_101 156 rfl ?_
        refine wc_ireturn dX0_member_156 rfl ?_
        refine ⟨?_, hG.1, hG.2.2.2.1, hG.2.2.2.2⟩
        rw [if_pos ⟨h5, by omega, by omega⟩, mem_1, hG.gd.sl ⟨by omega, by omega⟩]
      ·
        subst e
        refine wc_tsw dX0_member_37 ⟨by omega, by omega⟩ rfl 104 rfl ?_
        refine wc_aload_n dX0_member_104 rfl ?_
        refine wc_aload_n dX0_member_105 rfl ?_
        refine wc_call dX0_member_106 rfl (cP) (by omega) (hx_V (kV0_368 rfl) rfl rfl rfl rfl) ?_
        rintro _ _ ⟨rfl, rfl⟩
        refine wc_goto dX0_member_109 156 rfl ?_
        refine wc_ireturn dX0_member_156 rfl ?_
        refine ⟨?_, hG.1, hG.2.2.2.1, hG.2.2.2.2⟩
        rw [if_pos ⟨h5, by omega, by omega⟩, mem_2]
      ·
        subst e
        refine wc_tsw dX0_member_37 ⟨by omega, by omega⟩ rfl 112 rfl ?_
        refine wc_aload_n dX0_member_112 rfl ?_
        refine wc_aload_n dX0_member_113 rfl ?_
        refine wc_call dX0_member_114 rfl (cD) (by omega) (hx_V (kV0_116 rfl) rfl rfl rfl rfl) ?_
        rintro _ _ ⟨rfl, rfl⟩
        refine wc_goto dX0_member_117 156 rfl ?_
        refine wc_ireturn dX0_member_156 rfl ?_
        refine ⟨?_, hG.1, hG.2.2.2.1, hG.2.2.2.2⟩
        rw [if_pos ⟨h5, by omega, by omega⟩, mem_3]
    ·
      refine wc_ifT dX0_member_29 (by decide) 36 rfl ?_
      refine wc_iload_n dX0_member_36 rfl ?_
      rcases (show y = 0 ∨ y = 4 ∨ y = 5 ∨ y = 6 ∨ y = 7 ∨ y = 8 ∨ ¬ (0 ≤ y ∧ y ≤ 8) by omega) with e | e | e | e | e | e | e
      ·
        subst e
        refine wc_tsw dX0_member_37 ⟨by omega, by omega⟩ rfl 88 rfl ?_
        refine wc_aload_n dX0_member_88 rfl ?_
        refine wc_getI dX0_member_89 (kF0_49 rfl) hkm rfl ?_
        refine wc_goto dX0_member_92 156 rfl ?_
        refine wc_ireturn dX0_member_156 rfl ?_
        refine ⟨?_, FrS.rf, by omega, by omega⟩
        rw [if_pos ⟨h5, by omega, by omega⟩, hM.2.2.1]
        rfl
      ·
        subst e
        refine wc_tsw dX0_member_37 ⟨by omega, by omega⟩ rfl 120 rfl ?_
        refine wc_aload_n dX0_member_120 rfl ?_
        refine wc_getI dX0_member_121 (kF0_170 rfl) hkm rfl ?_
        refine wc_goto dX0_member_124 156 rfl ?_
        refine wc_ireturn dX0_member_156 rfl ?_
        refine ⟨?_, FrS.rf, by omega, by omega⟩
        rw [if_pos ⟨h5, by omega, by omega⟩, hM.2.2.2.1]
        rfl
      ·
        subst e
        refine wc_tsw dX0_member_37 ⟨by omega, by omega⟩ rfl 127 rfl ?_
        refine wc_aload_n dX0_member_127 rfl ?_
        refine wc_getI dX0_member_128 (kF0_135 rfl) hkm rfl ?_
        refine wc_goto dX0_member_131 156 rfl ?_
        refine wc_ireturn dX0_member_156 rfl ?_
        refine ⟨?_, FrS.rf, by omega, by omega⟩
        rw [if_pos ⟨h5, by omega, by omega⟩, hM.2.2.2.2.1]
        rfl
      ·
        subst e
        refine wc_tsw dX0_member_37 ⟨by omega, by omega⟩ rfl 134 rfl ?_
        refine wc_aload_n dX0_member_134 rfl ?_
        refine wc_getI dX0_member_135 (kF0_132 rfl) hkm rfl ?_
        refine wc_goto dX0_member_138 156 rfl ?_
        refine wc_ireturn dX0_member_156 rfl ?_
        refine ⟨?_, FrS.rf, by omega, by omega⟩
        rw [if_pos ⟨h5, by omega, by omega⟩, hM.2.2.2.2.2.1]
        rfl
      ·
        subst e
        refine wc_tsw dX0_member_37 ⟨by omega, by omega⟩ rfl 141 rfl ?_
        refine wc_aload_n dX0_member_141 rfl ?_
        refine wc_getI dX0_member_142 (kF0_138 rfl) hkm rfl ?_
        refine wc_goto dX0_member_145 156 rfl ?_
        refine wc_ireturn dX0_member_156 rfl ?_
        refine ⟨?_, FrS.rf, by omega, by omega⟩
        rw [if_pos ⟨h5, by omega, by omega⟩, hM.2.2.2.2.2.2.1]
        rfl
      ·
        subst e
        refine wc_tsw dX0_member_37 ⟨by omega, by omega⟩ rfl 148 rfl ?_
        refine wc_aload_n dX0_member_148 rfl ?_
        refine wc_getI dX0_member_149 (kF0_193 rfl) hkm rfl ?_
        refine wc_goto dX0_member_152 156 rfl ?_
        refine wc_ireturn dX0_member_156 rfl ?_
        refine ⟨?_, FrS.rf, by omega, by omega⟩
        rw [if_pos ⟨h5, by omega, by omega⟩, hM.2.2.2.2.2.2.2]
        rfl
      ·
        refine wc_tsw dX0_member_37 hy (if_pos (by omega)) 155 rfl ?_
        refine wc_iconst dX0_member_155 ?_
        refine wc_ireturn dX0_member_156 rfl ?_
        exact ⟨by rw [if_neg (fun q => e q.2)], FrS.rf, by omega, by omega⟩
  ·
    refine wc_ifF dX0_member_8 (by decide) 13 rfl ?_
    refine wc_iconst dX0_member_11 ?_
    refine wc_ireturn dX0_member_12 rfl ?_
    exact ⟨by rw [if_neg (fun q => h5 q.1)], FrS.rf, by omega, by omega⟩
end QMEM
