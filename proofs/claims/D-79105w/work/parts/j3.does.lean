/-! THE CLASS'S METHODS, 67: a command's refusal and its carrying out -/
set_option maxRecDepth 100000
section DOES
variable {w w' : Nat → Int} {R R' : Nat → Nat → Int} {τ t u : CT} {m c v C x f e A P p Y : Int} {i j k a b s z y n N d : Nat} {q : Int × Int × Int}
theorem CmC.kz (h : CmC t z q) (hz : 110 ≤ z) : kd kap t z = some cmK := kd_dyn hz h.1
theorem cc_isThere (h : CmC t z q) (hz : 110 ≤ z) (h1 : rng q.2.1) (h2 : rng q.2.2) : Cb kap 1 rX9_isThere [.inr z] t ((0 ≤ q.2.1 ∧ q.2.1 ≤ 11) ∧ 0 ≤ q.2.2 ∧ q.2.2 ≤ 9) := by
  intro d hd
  have kz := h.kz hz
  refine wc_aload_n dX9_isThere_0 rfl ?_
  refine wc_getI dX9_isThere_1 (kF9_19 rfl) kz rfl ?_
  rw [h.2.2.1]
  refine wc_iconst dX9_isThere_4 ?_
  refine wc_bipush dX9_isThere_5 (by decide) ?_
  refine wc_call dX9_isThere_7 rfl (cc_in h1 (by omega) (by omega)) (by omega) (hx_S (kS9_25 rfl) (kSn9_25 rfl) rfl rfl) ?_
  rintro _ _ ⟨rfl, ⟨h7, rfl⟩ | ⟨h7, rfl⟩⟩
  ·
    refine wc_ifF dX9_isThere_10 (by decide) 30 rfl ?_
    refine wc_aload_n dX9_isThere_13 rfl ?_
    refine wc_getI dX9_isThere_14 (kF9_22 rfl) kz rfl ?_
    rw [h.2.2.2.1]
    refine wc_iconst dX9_isThere_17 ?_
    refine wc_bipush dX9_isThere_18 (by decide) ?_
    refine wc_call dX9_isThere_20 rfl (cc_in h2 (by omega) (by omega)) (by omega) (hx_S (kS9_25 rfl) (kSn9_25 rfl) rfl rfl) ?_
    rintro _ _ ⟨rfl, ⟨h20, rfl⟩ | ⟨h20, rfl⟩⟩
    ·
      refine wc_ifF dX9_isThere_23 (by decide) 30 rfl ?_
      refine wc_iconst dX9_isThere_26 ?_
      refine wc_goto dX9_isThere_27 31 rfl ?_
      refine wc_breturn dX9_isThere_31 rfl (by omega) ?_
      exact ⟨rfl, Or.inl ⟨⟨h7, h20⟩, rfl⟩⟩
    ·
      refine wc_ifT dX9_isThere_23 (by decide) 30 rfl ?_
      refine wc_iconst dX9_isThere_30 ?_
      refine wc_breturn dX9_isThere_31 rfl (by omega) ?_
      exact ⟨rfl, Or.inr ⟨fun r => h20 r.2, rfl⟩⟩
  ·
    refine wc_ifT dX9_isThere_10 (by decide) 30 rfl ?_
    refine wc_iconst dX9_isThere_30 ?_
    refine wc_breturn dX9_isThere_31 rfl (by omega) ?_
    exact ⟨rfl, Or.inr ⟨fun r => h7 r.1, rfl⟩⟩
theorem cc_ccell (h : CmC t z q) (hz : 110 ≤ z) : Cf kap 0 rX9_cell [.inr z] t (some (.inl (12 * q.2.2 + q.2.1))) t := by
  intro d hd
  have kz := h.kz hz
  refine wc_bipush dX9_cell_0 (by decide) ?_
  refine wc_aload_n dX9_cell_2 rfl ?_
  refine wc_getI dX9_cell_3 (kF9_22 rfl) kz rfl ?_
  rw [h.2.2.2.1]
  refine wc_imul dX9_cell_6 ?_
  refine wc_aload_n dX9_cell_7 rfl ?_
  refine wc_getI dX9_cell_8 (kF9_19 rfl) kz rfl ?_
  rw [h.2.2.1]
  refine wc_iadd dX9_cell_11 ?_
  refine wc_ireturn dX9_cell_12 rfl ?_
  exact ⟨rfl, rfl⟩
theorem ref_a (l : Int) (hl : l = 97) (a b : Int) : refF w l a b = agF w a b := by
  subst hl
  unfold refF agF
  rw [if_neg (by decide), if_neg (by decide)]
  by_cases h1 : ¬ ((0 ≤ a ∧ a ≤ 11) ∧ 0 ≤ b ∧ b ≤ 9)
  · rw [if_pos h1, if_pos h1]
  · rw [if_neg h1, if_neg h1, if_neg (by decide)]
    by_cases h2 : w (72 + (12 * b + a)).toNat = 1
    · rw [if_pos ⟨rfl, h2⟩, if_pos h2]
    · rw [if_neg (fun q => h2 q.2), if_neg h2]
      by_cases h3 : 0 ≤ onF w (12 * b + a)
      · rw [if_pos h3, if_pos h3]
      · rw [if_neg h3, if_neg h3]
        by_cases h4 : w 0 = 10
        · rw [if_pos ⟨rfl, h4⟩, if_pos h4]
        · rw [if_neg (fun q => h4 q.2), if_neg h4]
theorem cc_against (h : SI w C t) (hA : w 11 = w 0) (hc : CmC t z q) (hz : 110 ≤ z) (hL : ordL q.1) (h1 : 0 ≤ q.2.1 ∧ q.2.1 ≤ 99) (h2 : 0 ≤ q.2.2 ∧ q.2.2 ≤ 99) (hC : 300 ≤ C ∧ C < 1999999000) : Cf kap 3 rX9_against [.inr z] t (some (.inl (refF w q.1 q.2.1 q.2.2))) t := by
  intro d hd
  have kz := hc.kz hz
  have hr := h.2.2.2.2.rng (by omega)
  have hS := h.2.2.1
  have hlr := ledF_rng w hS.1.2
  have hro : rng (ldO w) := by unfold ldO; split <;> omega
  have hlo : 0 ≤ ldO w ↔ 0 ≤ ledF w := by unfold ldO; split <;> omega
  have e10 : (sg t z 3).toNat = 10 := by rw [hc.2.2.2.2]; rfl
  have hon := onF_rng w (12 * q.2.2 + q.2.1)
  refine wc_aload_n dX9_against_0 rfl ?_
  refine wc_getI dX9_against_1 (kF9_15 rfl) kz rfl ?_
  rw [hc.2.1]
  unfold ordL at hL
  rcases (show q.1 = 97 ∨ q.1 = 103 ∨ q.1 = 111 ∨ q.1 = 116 ∨ (q.1 = 108 ∨ q.1 = 120) by omega) with e | e | e | e | e
  ·
    rw [e]
    refine wc_lsw dX9_against_4 rfl ⟨by omega, by omega⟩ rfl 48 rfl ?_
    refine wc_aload_n dX9_against_48 rfl ?_
    refine wc_getR (y := 10) dX9_against_49 (kF9_3 rfl) kz rfl e10 ?_
    refine wc_aload_n dX9_against_52 rfl ?_
    refine wc_getI dX9_against_53 (kF9_19 rfl) kz rfl ?_
    rw [hc.2.2.1]
    refine wc_aload_n dX9_against_56 rfl ?_
    refine wc_getI dX9_against_57 (kF9_22 rfl) kz rfl ?_
    rw [hc.2.2.2.1]
    refine wc_call dX9_against_60 rfl (cc_againstAdding h hA (by omega) (by omega)) (by omega) (hx_V (kV9_29 rfl) rfl rfl rfl rfl) ?_
    rintro _ _ ⟨rfl, rfl⟩
    refine wc_goto dX9_against_63 179 rfl ?_
    refine wc_ireturn dX9_against_179 rfl ?_
    exact ⟨by rw [ref_a _ rfl], rfl⟩
  ·
    rw [e]
    refine wc_lsw dX9_against_4 rfl ⟨by omega, by omega⟩ rfl 118 rfl ?_
    refine wc_aload_n dX9_against_118 rfl ?_
    refine wc_getR (y := 10) dX9_against_119 (kF9_3 rfl) kz rfl e10 ?_
    refine wc_getC dX9_against_122 (kF9_37 rfl) rfl rfl ?_
    refine wc_call dX9_against_125 rfl (cc_leads h.1.1 h.2.1.1 (hr 1)) (by omega) (hx_V (kV9_51 rfl) rfl rfl rfl rfl) ?_
    rintro _ _ ⟨rfl, rfl⟩
    refine wc_if dX9_against_128 (cB_ge hro ⟨by omega, by omega⟩) 135 rfl (fun c128 => ?_) (fun c128 => ?_)
    ·
      refine wc_aload_n dX9_against_135 rfl ?_
      refine wc_getI dX9_against_136 (kF9_19 rfl) kz rfl ?_
      rw [hc.2.2.1]
      refine wc_iconst dX9_against_139 ?_
      refine wc_bipush dX9_against_140 (by decide) ?_
      refine wc_call dX9_against_142 rfl (cc_in (by omega) (by omega) (by omega)) (by omega) (hx_S (kS9_25 rfl) (kSn9_25 rfl) rfl rfl) ?_
      rintro _ _ ⟨rfl, ⟨h142, rfl⟩ | ⟨h142, rfl⟩⟩
      ·
        refine wc_ifF dX9_against_145 (by decide) 152 rfl ?_
        refine wc_iconst dX9_against_148 ?_
        refine wc_goto dX9_against_149 179 rfl ?_
        refine wc_ireturn dX9_against_179 rfl ?_
        refine ⟨?_, rfl⟩
        unfold refF
        rw [if_pos rfl, if_neg (by omega), if_pos h142]
      ·
        refine wc_ifT dX9_against_145 (by decide) 152 rfl ?_
        refine wc_bipush dX9_against_152 (by decide) ?_
        refine wc_goto dX9_against_154 179 rfl ?_
        refine wc_ireturn dX9_against_179 rfl ?_
        refine ⟨?_, rfl⟩
        unfold refF
        rw [if_pos rfl, if_neg (by omega), if_neg h142]
    ·
      refine wc_iconst dX9_against_131 ?_
      refine wc_goto dX9_against_132 179 rfl ?_
      refine wc_ireturn dX9_against_179 rfl ?_
      refine ⟨?_, rfl⟩
      unfold refF
      rw [if_pos rfl, if_pos (by omega)]
  ·
    rw [e]
    refine wc_lsw dX9_against_4 rfl ⟨by omega, by omega⟩ rfl 66 rfl ?_
    refine wc_aload_n dX9_against_66 rfl ?_
    refine wc_call dX9_against_67 rfl (cc_isThere hc hz (by omega) (by omega)) (by omega) (hx_V (kV9_33 rfl) rfl kz rfl rfl) ?_
    rintro _ _ ⟨rfl, ⟨h67, rfl⟩ | ⟨h67, rfl⟩⟩
    ·
      refine wc_ifT dX9_against_70 (by decide) 77 rfl ?_
      refine wc_aload_n dX9_against_77 rfl ?_
      refine wc_getR (y := 10) dX9_against_78 (kF9_3 rfl) kz rfl e10 ?_
      refine wc_getC dX9_against_81 (kF9_37 rfl) rfl rfl ?_
      refine wc_getC dX9_against_84 (kF9_41 rfl) rfl rfl ?_
      refine wc_aload_n dX9_against_87 rfl ?_
      refine wc_call dX9_against_88 rfl (cc_ccell hc hz) (by omega) (hx_V (kV9_47 rfl) rfl kz rfl rfl) ?_
      rintro _ _ ⟨rfl, rfl⟩
      refine wc_iaload dX9_against_91 rfl rfl rfl ⟨by omega, by omega⟩ _ rfl ?_
      rw [h.1.1.at ⟨by omega, by omega⟩]
      refine wc_if dX9_against_92 (cB_lt (show rng _ by omega) ⟨by omega, by omega⟩) 99 rfl (fun c92 => ?_) (fun c92 => ?_)
      ·
        refine wc_iconst dX9_against_99 ?_
        refine wc_goto dX9_against_100 179 rfl ?_
        refine wc_ireturn dX9_against_179 rfl ?_
        refine ⟨?_, rfl⟩
        unfold refF
        rw [if_neg (by decide), if_neg (by decide), if_neg (fun r => r h67), if_neg (by decide), if_neg (fun r => absurd r.1 (by decide)), if_neg (by omega), if_neg (fun r => absurd r.1 (by decide))]
      ·
        refine wc_iconst dX9_against_95 ?_
        refine wc_goto dX9_against_96 179 rfl ?_
        refine wc_ireturn dX9_against_179 rfl ?_
        refine ⟨?_, rfl⟩
        unfold refF
        rw [if_neg (by decide), if_neg (by decide), if_neg (fun r => r h67), if_neg (by decide), if_neg (fun r => absurd r.1 (by decide)), if_pos (by omega)]
    ·
      refine wc_ifF dX9_against_70 (by decide) 77 rfl ?_
      refine wc_iconst dX9_against_73 ?_
      refine wc_goto dX9_against_74 179 rfl ?_
      refine wc_ireturn dX9_against_179 rfl ?_
      refine ⟨?_, rfl⟩
      unfold refF
      rw [if_neg (by decide), if_neg (by decide), if_pos h67]
  ·
    rw [e]
    refine wc_lsw dX9_against_4 rfl ⟨by omega, by omega⟩ rfl 103 rfl ?_
    refine wc_aload_n dX9_against_103 rfl ?_
    refine wc_call dX9_against_104 rfl (cc_isThere hc hz (by omega) (by omega)) (by omega) (hx_V (kV9_33 rfl) rfl kz rfl rfl) ?_
    rintro _ _ ⟨rfl, ⟨h104, rfl⟩ | ⟨h104, rfl⟩⟩
    ·
      refine wc_ifF dX9_against_107 (by decide) 114 rfl ?_
      refine wc_iconst dX9_against_110 ?_
      refine wc_goto dX9_against_111 179 rfl ?_
      refine wc_ireturn dX9_against_179 rfl ?_
      refine ⟨?_, rfl⟩
      unfold refF
      rw [if_neg (by decide), if_neg (by decide), if_neg (fun r => r h104), if_pos rfl]
    ·
      refine wc_ifT dX9_against_107 (by decide) 114 rfl ?_
      refine wc_iconst dX9_against_114 ?_
      refine wc_goto dX9_against_115 179 rfl ?_
      refine wc_ireturn dX9_against_179 rfl ?_
      refine ⟨?_, rfl⟩
      unfold refF
      rw [if_neg (by decide), if_neg (by decide), if_pos h104]
  ·
    have hoff : Jvm.Op.lookupswitch.offset [(97, 44), (103, 114), (111, 62), (116, 99)] 153 q.1 = 153 := by rcases e with e | e <;> rw [e] <;> rfl
    refine wc_lsw dX9_against_4 rfl (by omega) hoff 157 rfl ?_
    refine wc_aload_n dX9_against_157 rfl ?_
    refine wc_getR (y := 10) dX9_against_158 (kF9_3 rfl) kz rfl e10 ?_
    refine wc_getC dX9_against_161 (kF9_37 rfl) rfl rfl ?_
    refine wc_aload_n dX9_against_164 rfl ?_
    refine wc_getI dX9_against_165 (kF9_19 rfl) kz rfl ?_
    rw [hc.2.2.1]
    refine wc_call dX9_against_168 rfl (cc_isMember h.1.1 h.2.1.1 (by omega)) (by omega) (hx_V (kV9_54 rfl) rfl rfl rfl rfl) ?_
    rintro _ _ ⟨rfl, ⟨h168, rfl⟩ | ⟨h168, rfl⟩⟩
    ·
      refine wc_ifF dX9_against_171 (by decide) 178 rfl ?_
      refine wc_iconst dX9_against_174 ?_
      refine wc_goto dX9_against_175 179 rfl ?_
      refine wc_ireturn dX9_against_179 rfl ?_
      refine ⟨?_, rfl⟩
      unfold refF
      rw [if_neg (by omega), if_pos e, if_pos h168]
    ·
      refine wc_ifT dX9_against_171 (by decide) 178 rfl ?_
      refine wc_iconst dX9_against_178 ?_
      refine wc_ireturn dX9_against_179 rfl ?_
      refine ⟨?_, rfl⟩
      unfold refF
      rw [if_neg (by omega), if_pos e, if_neg h168]
theorem SI.mono {C' : Int} (h : SI w C t) (hc : C ≤ C') : SI w C' t := ⟨h.1, h.2.1, h.2.2.1, h.2.2.2.1, h.2.2.2.2.mono hc⟩
theorem updW_id (w : Nat → Int) (i : Nat) : updW w i (w i) = w := by
  funext j
  unfold updW
  split
  · rename_i e; rw [e]
  · rfl
theorem car_w (hl : q.1 = 97 ∨ q.1 = 111 ∨ q.1 = 120 ∨ q.1 = 103) : carF w q.1 q.2.1 q.2.2 = car1F w q.1 q.2.1 q.2.2 := by
  unfold carF
  rw [if_neg (show ¬ q.1 = 116 by omega), if_neg (show ¬ q.1 = 108 by omega), updW_id, updW_id]
theorem car_t (hl : q.1 = 116) : carF w q.1 q.2.1 q.2.2 = updW w 2 (12 * q.2.2 + q.2.1) := by
  unfold carF car1F
  rw [if_neg (show ¬ q.1 = 97 by omega), if_neg (show ¬ q.1 = 111 by omega), if_neg (show ¬ q.1 = 120 by omega), if_neg (show ¬ q.1 = 103 by omega), if_neg (show ¬ q.1 = 108 by omega), if_pos hl]
  rw [show (updW w 2 (12 * q.2.2 + q.2.1)) 1 = (updW w 2 (12 * q.2.2 + q.2.1)) 1 from rfl, updW_id]
theorem car_l (hl : q.1 = 108) : carF w q.1 q.2.1 q.2.2 = updW w 1 q.2.1 := by
  unfold carF car1F
  rw [if_neg (show ¬ q.1 = 97 by omega), if_neg (show ¬ q.1 = 111 by omega), if_neg (show ¬ q.1 = 120 by omega), if_neg (show ¬ q.1 = 103 by omega), if_neg (show ¬ q.1 = 116 by omega), if_pos hl, updW_id]
/-- what a command leaves -/
def DoQ (w : Nat → Int) (C : Int) (q : Int × Int × Int) (t u : CT) : Prop := SI (carF w q.1 q.2.1 q.2.2) (C + 4100) u ∧ carF w q.1 q.2.1 q.2.2 11 = carF w q.1 q.2.1 q.2.2 0 ∧ (∀ (R : Nat → Nat → Int) (s N x n : Nat) (f e : Nat → Nat), KpX R s N x n f e t → KpX R s N x n f e u) ∧ FrV t u ∧ (nvC u ≤ nvC t + 600 ∧ uC u ≤ uC t + 3000)
theorem cc_does (h : SI w C t) (hA : w 11 = w 0) (hc : CmC t z q) (hz : 110 ≤ z) (hL : ordL q.1) (h1 : 0 ≤ q.2.1 ∧ q.2.1 ≤ 99) (h2 : 0 ≤ q.2.2 ∧ q.2.2 ≤ 99) (hC : 300 ≤ C ∧ C + 10000 < 900000000) (hok : refF w q.1 q.2.1 q.2.2 = 0) : Ct kap 72 rX9_does [.inr z] t (fun v u => none = v ∧ DoQ w C q t u) := by
  intro d hd
  refine Wc.rp (fun ⟨hnv, hlt⟩ => ?_)
  have kz := hc.kz hz
  have hr := h.2.2.2.2.rng (by omega)
  have hS := h.2.2.1
  have e10 : (sg t z 3).toNat = 10 := by rw [hc.2.2.2.2]; rfl
  have hin : q.1 = 97 ∨ q.1 = 111 ∨ q.1 = 116 → ((0 ≤ q.2.1 ∧ q.2.1 ≤ 11) ∧ 0 ≤ q.2.2 ∧ q.2.2 ≤ 9) := fun hq => by
    unfold refF at hok
    rw [if_neg (by omega), if_neg (by omega)] at hok
    by_cases g : (0 ≤ q.2.1 ∧ q.2.1 ≤ 11) ∧ 0 ≤ q.2.2 ∧ q.2.2 ≤ 9
    · exact g
    · rw [if_pos g] at hok; omega
  have hag : q.1 = 97 → (w (72 + (12 * q.2.2 + q.2.1)).toNat ≠ 1 ∧ onF w (12 * q.2.2 + q.2.1) < 0 ∧ w 0 ≤ 9) := fun hq => by
    have hi := hin (Or.inl hq)
    rw [ref_a _ hq] at hok
    unfold agF at hok
    rw [if_neg (fun r => r hi)] at hok
    by_cases g1 : w (72 + (12 * q.2.2 + q.2.1)).toNat = 1
    · rw [if_pos g1] at hok; omega
    · rw [if_neg g1] at hok
      by_cases g2 : 0 ≤ onF w (12 * q.2.2 + q.2.1)
      · rw [if_pos g2] at hok; omega
      · rw [if_neg g2] at hok
        have := hS.1
        by_cases g3 : w 0 = 10
        · rw [if_pos g3] at hok; omega
        · omega
  have hmem : q.1 = 108 ∨ q.1 = 120 → isM w q.2.1 := fun hq => by
    unfold refF at hok
    rw [if_neg (by omega), if_pos (by omega)] at hok
    by_cases g : isM w q.2.1
    · exact g
    · rw [if_neg g] at hok; omega
  have hgo : q.1 = 103 → 0 ≤ ledF w ∧ 1 ≤ q.2.1 ∧ q.2.1 ≤ 40 := fun hq => by
    unfold refF at hok
    rw [if_pos hq] at hok
    by_cases g : ledF w < 0
    · rw [if_pos g] at hok; omega
    · rw [if_neg g] at hok
      by_cases g2 : 1 ≤ q.2.1 ∧ q.2.1 ≤ 40
      · omega
      · rw [if_neg g2] at hok; omega
  have ekeep : ∀ (i : Nat) (v : Int), i = 1 ∨ i = 2 → updW w i v 11 = updW w i v 0 := fun i v hi => by rw [upd_ne (by omega), upd_ne (by omega)]; exact hA
  refine wc_aload_n dX9_does_0 rfl ?_
  refine wc_getI dX9_does_1 (kF9_15 rfl) kz rfl ?_
  rw [hc.2.1]
  have hL2 := hL
  unfold ordL at hL2
  rcases (show q.1 = 97 ∨ q.1 = 108 ∨ q.1 = 111 ∨ q.1 = 116 ∨ q.1 = 120 ∨ q.1 = 103 by omega) with e | e | e | e | e | e
  ·
    rw [e]
    refine wc_lsw dX9_does_4 rfl ⟨by omega, by omega⟩ rfl 56 rfl ?_
    refine wc_aload_n dX9_does_56 rfl ?_
    refine wc_getR (y := 10) dX9_does_57 (kF9_3 rfl) kz rfl e10 ?_
    refine wc_aload_n dX9_does_60 rfl ?_
    refine wc_getI dX9_does_61 (kF9_19 rfl) kz rfl ?_
    rw [hc.2.2.1]
    refine wc_aload_n dX9_does_64 rfl ?_
    refine wc_getI dX9_does_65 (kF9_22 rfl) kz rfl ?_
    rw [hc.2.2.2.1]
    refine wc_call dX9_does_68 rfl (cc_adds h hA (hag e).2.2 (hin (by omega)).1 (hin (by omega)).2 (hag e).2.1 ⟨by omega, by omega⟩) (by omega) (hx_V (kV9_58 rfl) rfl rfl rfl rfl) ?_
    rintro _ _ ⟨rfl, g1, g2, g3, g4, g5⟩
    refine wc_istore_n dX9_does_71 rfl ?_
    refine wc_goto dX9_does_72 152 rfl ?_
    refine wc_vreturn dX9_does_152 rfl ?_
    have ec : carF w q.1 q.2.1 q.2.2 = opnF w (12 * q.2.2 + q.2.1) := by rw [car_w (Or.inl e)]; unfold car1F; rw [if_pos e]
    have hw0 : 0 ≤ w 0 ∧ w 0 ≤ 9 := ⟨hS.1.1, (hag e).2.2⟩
    refine ⟨rfl, ?_, ?_, g3, g2, by omega, by omega⟩
    · rw [ec]; exact ⟨g1.1, g1.2.1, g1.2.2.1, g1.2.2.2.1, g1.2.2.2.2.mono (by omega)⟩
    · rw [ec, opn_0 hw0, opn_at hw0, if_neg (by decide), if_pos rfl, hA]
  ·
    rw [e]
    refine wc_lsw dX9_does_4 rfl ⟨by omega, by omega⟩ rfl 107 rfl ?_
    refine wc_aload_n dX9_does_107 rfl ?_
    refine wc_getR (y := 10) dX9_does_108 (kF9_3 rfl) kz rfl e10 ?_
    refine wc_getC dX9_does_111 (kF9_37 rfl) rfl rfl ?_
    refine wc_aload_n dX9_does_114 rfl ?_
    refine wc_getI dX9_does_115 (kF9_19 rfl) kz rfl ?_
    rw [hc.2.2.1]
    refine wc_putI dX9_does_118 (kF9_68 rfl) rfl rfl rfl ⟨by decide, Or.inl (by decide)⟩ (Or.inl rfl) ?_
    refine wc_goto dX9_does_121 152 rfl ?_
    refine wc_vreturn dX9_does_152 rfl ?_
    have ec := car_l (w := w) e
    have hm := isM_le (hmem (by omega)) hS.1.2
    have e3 : ∀ v, v ≠ 100 → sg (stC t 100 5 q.2.1) v = sg t v := fun v hv => sg_st' hv
    refine ⟨rfl, ?_, ?_, fun R s N x n f e hK => hK.st (q := 100) (by decide) rfl rfl e3 hlt, ⟨⟨rfl, Nat.le_refl _⟩, fun j _ _ => by rw [sg_st' (by decide)], sg_st' (by decide)⟩, by show nvC t ≤ _; omega, by show uC t ≤ _; omega⟩
    · rw [ec]
      refine (h.mono (C' := C + 4100) (by omega)).hd (u := stC t 100 5 q.2.1) (fun i hi => if_neg (by omega)) hS.u1 ((h.2.2.2.2.mono (show C ≤ C + 4100 by omega)).up2 (by omega)) rfl rfl e3 ⟨?_, ?_, ?_⟩
      · rw [sg_st, if_pos rfl]
        show q.2.1 = if q.2.1 < 0 then -5 else q.2.1
        rw [if_neg (by omega)]
      · rw [sg_st, if_neg (by decide)]; exact h.1.1.1.2.2.2.2.1
      · rw [sg_st, if_neg (by decide)]; exact h.1.1.1.2.2.2.2.2
    · rw [ec]; exact ekeep 1 _ (Or.inl rfl)
  ·
    rw [e]
    refine wc_lsw dX9_does_4 rfl ⟨by omega, by omega⟩ rfl 75 rfl ?_
    refine wc_aload_n dX9_does_75 rfl ?_
    refine wc_getR (y := 10) dX9_does_76 (kF9_3 rfl) kz rfl e10 ?_
    refine wc_aload_n dX9_does_79 rfl ?_
    refine wc_call dX9_does_80 rfl (cc_ccell hc hz) (by omega) (hx_V (kV9_47 rfl) rfl kz rfl rfl) ?_
    rintro _ _ ⟨rfl, rfl⟩
    refine wc_call dX9_does_83 rfl (cc_turns h (c := 12 * q.2.2 + q.2.1) (by have := hin (by omega); omega)) (by omega) (hx_V (kV9_61 rfl) rfl rfl rfl rfl) ?_
    rintro _ _ ⟨rfl, rfl⟩
    refine wc_istore_n dX9_does_86 rfl ?_
    refine wc_goto dX9_does_87 152 rfl ?_
    refine wc_vreturn dX9_does_152 rfl ?_
    have ec : carF w q.1 q.2.1 q.2.2 = trnF w (12 * q.2.2 + q.2.1) := by rw [car_w (Or.inr (Or.inl e))]; unfold car1F; rw [if_neg (by omega), if_pos e]
    have hi := hin (by omega)
    have e3 : ∀ v, v ≠ 101 → v ≠ 105 → sg (trnC t w (12 * q.2.2 + q.2.1)) v = sg t v := fun v v1 v2 => by rw [sg_st' v2, sg_st' v1]
    have g1 := h.trn (c := 12 * q.2.2 + q.2.1) (by omega) (by omega)
    refine ⟨rfl, ?_, ?_, fun R s N x n f e hK => hK.st2 rfl rfl e3 hlt, ⟨⟨rfl, Nat.le_refl _⟩, fun j _ _ => by rw [e3 10 (by decide) (by decide)], e3 21 (by decide) (by decide)⟩, by show nvC t ≤ _; omega, by show uC t ≤ _; omega⟩
    · rw [ec]; exact ⟨g1.1, g1.2.1, g1.2.2.1, g1.2.2.2.1, g1.2.2.2.2.mono (by omega)⟩
    · rw [ec]; unfold trnF; rw [upd_ne (by omega), upd_ne (by omega)]; exact hA
  ·
    rw [e]
    refine wc_lsw dX9_does_4 rfl ⟨by omega, by omega⟩ rfl 90 rfl ?_
    refine wc_aload_n dX9_does_90 rfl ?_
    refine wc_getR (y := 10) dX9_does_91 (kF9_3 rfl) kz rfl e10 ?_
    refine wc_getC dX9_does_94 (kF9_37 rfl) rfl rfl ?_
    refine wc_aload_n dX9_does_97 rfl ?_
    refine wc_call dX9_does_98 rfl (cc_ccell hc hz) (by omega) (hx_V (kV9_47 rfl) rfl kz rfl rfl) ?_
    rintro _ _ ⟨rfl, rfl⟩
    refine wc_putI dX9_does_101 (kF9_65 rfl) rfl rfl rfl ⟨by decide, Or.inl (by decide)⟩ (Or.inl rfl) ?_
    refine wc_goto dX9_does_104 152 rfl ?_
    refine wc_vreturn dX9_does_152 rfl ?_
    have ec := car_t (w := w) e
    have hi := hin (by omega)
    have e3 : ∀ v, v ≠ 100 → sg (stC t 100 6 (12 * q.2.2 + q.2.1)) v = sg t v := fun v hv => sg_st' hv
    refine ⟨rfl, ?_, ?_, fun R s N x n f e hK => hK.st (q := 100) (by decide) rfl rfl e3 hlt, ⟨⟨rfl, Nat.le_refl _⟩, fun j _ _ => by rw [sg_st' (by decide)], sg_st' (by decide)⟩, by show nvC t ≤ _; omega, by show uC t ≤ _; omega⟩
    · rw [ec]
      refine (h.mono (C' := C + 4100) (by omega)).hd (u := stC t 100 6 (12 * q.2.2 + q.2.1)) (fun i hi => if_neg (by omega)) (hS.u2 (by omega)) ((h.2.2.2.2.mono (show C ≤ C + 4100 by omega)).up2 (by omega)) rfl rfl e3 ⟨?_, ?_, ?_⟩
      · rw [sg_st, if_neg (by decide)]; exact h.1.1.1.2.2.2.1
      · rw [sg_st, if_pos rfl]
        show 12 * q.2.2 + q.2.1 = if 12 * q.2.2 + q.2.1 < 0 then -5 else 12 * q.2.2 + q.2.1
        rw [if_neg (by omega)]
      · rw [sg_st, if_neg (by decide)]; exact h.1.1.1.2.2.2.2.2
    · rw [ec]; exact ekeep 2 _ (Or.inr rfl)
  ·
    rw [e]
    refine wc_lsw dX9_does_4 rfl ⟨by omega, by omega⟩ rfl 124 rfl ?_
    refine wc_aload_n dX9_does_124 rfl ?_
    refine wc_getR (y := 10) dX9_does_125 (kF9_3 rfl) kz rfl e10 ?_
    refine wc_getC dX9_does_128 (kF9_37 rfl) rfl rfl ?_
    refine wc_aload_n dX9_does_131 rfl ?_
    refine wc_getI dX9_does_132 (kF9_19 rfl) kz rfl ?_
    rw [hc.2.2.1]
    refine wc_call dX9_does_135 rfl (cc_loses h (hmem (by omega)) ⟨by omega, by omega⟩) (by omega) (hx_V (kV9_71 rfl) rfl rfl rfl rfl) ?_
    rintro _ _ ⟨rfl, rfl⟩
    refine wc_goto dX9_does_138 152 rfl ?_
    refine wc_vreturn dX9_does_152 rfl ?_
    have ec : carF w q.1 q.2.1 q.2.2 = losF w q.2.1 := by rw [car_w (by omega)]; unfold car1F; rw [if_neg (by omega), if_neg (by omega), if_pos e]
    have hm := isM_le (hmem (by omega)) hS.1.2
    have e3 : ∀ v, v ≠ 102 → v ≠ 103 → v ≠ 105 → sg (losC t w q.2.1) v = sg t v := fun v v1 v2 v3 => by rw [sg_st' v3, sg_st' v2, sg_st' v1]
    have g1 := h.los (hmem (by omega)) (by omega)
    refine ⟨rfl, ?_, ?_, fun R s N x n f e hK => hK.st3 rfl rfl e3 (fun a a0 a1 => ?_) hlt, ⟨⟨rfl, Nat.le_refl _⟩, fun j _ _ => by rw [e3 10 (by decide) (by decide) (by decide)], e3 21 (by decide) (by decide) (by decide)⟩, by show nvC t ≤ _; omega, by show uC t ≤ _; omega⟩
    · rw [ec]; exact ⟨g1.1, g1.2.1, g1.2.2.1, g1.2.2.2.1, g1.2.2.2.2.mono (by omega)⟩
    · rw [ec]; unfold losF cntW; rw [upd_ne (by omega), upd_ne (by omega), upd_ne (by omega), upd_ne (by omega)]; exact hA
    · unfold mnC
      rw [sg_st' (by decide), sg_st, sg_st' (by decide)]
      by_cases r : a.toNat = q.2.1.toNat
      · rw [if_pos r]; exact Or.inr rfl
      · rw [if_neg r]; exact Or.inl rfl
  ·
    have hoff : Jvm.Op.lookupswitch.offset [(97, 52), (108, 103), (111, 71), (116, 86), (120, 120)] 137 q.1 = 137 := by rw [e]; rfl
    refine wc_lsw dX9_does_4 rfl (by omega) hoff 141 rfl ?_
    refine wc_aload_n dX9_does_141 rfl ?_
    refine wc_getR (y := 10) dX9_does_142 (kF9_3 rfl) kz rfl e10 ?_
    refine wc_aload_n dX9_does_145 rfl ?_
    refine wc_getI dX9_does_146 (kF9_19 rfl) kz rfl ?_
    rw [hc.2.2.1]
    refine wc_call dX9_does_149 rfl (cc_makes h (N := q.2.1) ⟨by omega, by omega⟩ ⟨by omega, by omega⟩ (hgo e).1) (by omega) (hx_V (kV9_75 rfl) rfl rfl rfl rfl) ?_
    rintro _ _ ⟨rfl, g1, g2, g3, g4⟩
    refine wc_vreturn dX9_does_152 rfl ?_
    have ec : carF w q.1 q.2.1 q.2.2 = rndsF q.2.1.toNat w := by rw [car_w (by omega)]; unfold car1F; rw [if_neg (by omega), if_neg (by omega), if_neg (by omega), if_pos e]
    have hg := hgo e
    have hk := k11_rnds q.2.1.toNat w hS.1.2 hS hg.1
    refine ⟨rfl, ?_, ?_, fun R s N x n f e hK => hK.frw g1 hlt, g1.toV, by omega, by omega⟩
    · rw [ec]; exact ⟨g2.1, g2.2.1, g2.2.2.1, g2.2.2.2.1, g2.2.2.2.2.mono (by omega)⟩
    · rw [ec, hk.1, hk.2.1 0 (by omega)]; exact hA
end DOES
