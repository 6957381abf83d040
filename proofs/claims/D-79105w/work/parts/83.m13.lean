/-! THE MODEL'S METHODS, 13: swarm, count -/
set_option maxRecDepth 100000
def swF (w : Nat → Int) (x : Int) : Int := if x = 0 then manyF w else if x = 1 then (if ledF w < 0 then -5 else ledF w) else if x = 2 then (if w 2 < 0 then -5 else w 2) else if x = 3 then w 3 else
  if x = 4 then (givF w).2.1 else if x = 5 then (givF w).2.2.1 else opnCF w (sltF w (w 3)).toNat 0
def shsF (w : Nat → Int) : Nat → Int → Int → Int
  | 0, _, A => A
  | k + 1, s, A => shsF w k (s + 1) (if sltF w s ≤ 0 then A else setF A s)
section M17
variable {τ : MT} {m c v x y z b n dd a : Int} {d : Nat} {Q : Option Int → MT → Prop}
theorem wm_or0 {M : MRec} {pc : Nat} {ls : AL} {st : List AV} (hd : decode (rC M) pc = .ok (.ior, 1)) (ha : rng a) (K : Wm d M (pc + 1) ls (.inl a :: st) τ Q) : Wm d M pc ls (.inl 0 :: .inl a :: st) τ Q := wm_bits (f := fun x y => x ||| y) hd rfl (fun _ _ _ => rfl) (by rw [show cI 0 = 0 by decide, Int32.or_zero, cI_toInt ha]; exact K)
theorem mc_swarm_114 {w : Nat → Int} {t : MT} (hW : WG w) (hd : 2 ≤ d) (g : GP w (sltF w (w 3)) t) (hw : t.2 0 = w) {o2 : Option AV} : ∀ (k : Nat) (s a : Int), s + k = sltF w (w 3) → 0 ≤ s → Wm d rX3_swarm 153 [some (.inr 1), some (.inl x), o2, some (.inl (a + opnCF w k s)), some (.inl (sltF w (w 3)))] [] t Q → Wm d rX3_swarm 114 [some (.inr 1), some (.inl x), o2, some (.inl a), some (.inl s)] [] t Q := by
  obtain ⟨w0, wr, w3, wc, ws, wa, wk⟩ := hW
  intro k
  induction k with
  | zero =>
    intro s a hs h0 K
    have e : s = sltF w (w 3) := by omega
    refine wm_iload dX3_swarm_114 rfl ?_
    refine wm_aload_n dX3_swarm_116 rfl ?_
    refine wm_aload_n dX3_swarm_117 rfl ?_
    refine wm_getA dX3_swarm_118 (kF3_9 rfl) rfl ?_
    refine wm_iconst dX3_swarm_121 ?_
    refine wm_iaload dX3_swarm_122 rfl ⟨by omega, by omega⟩ 3 rfl ?_
    refine wm_callv dX3_swarm_123 (kV3_101 rfl) rfl (mc_slots (by rw [hw]; exact w3)) (by omega) rfl rfl ?_
    rintro _ _ ⟨rfl, rfl⟩
    rw [hw]
    refine wm_icmp dX3_swarm_126 (cB_ge ⟨by omega, by omega⟩ ⟨by omega, by omega⟩) 153 rfl (fun c126 => ?_) (fun c126 => ?_)
    ·
      rw [opnCF, Int.add_zero, ← e] at K
      exact K
    ·
      omega
  | succ k ih =>
    intro s a hs h0 K
    have hp := (g s h0 (by omega)).1
    have hpr := pl0F_rng w s
    have hgo : ∀ u, u = (if 0 ≤ pl0F w s then (1 : Int) else 0) → Wm d rX3_swarm 145 [some (.inr 1), some (.inl x), o2, some (.inl a), some (.inl s)] [.inl u, .inl a] t Q := fun u hu => by
      refine wm_iadd dX3_swarm_145 ?_
      refine wm_istore_n dX3_swarm_146 rfl ?_
      refine wm_iinc dX3_swarm_147 rfl ?_
      refine wm_goto dX3_swarm_150 114 rfl ?_
      refine ih (s + 1) _ (by omega) (by omega) ?_
      rw [opnCF, ← hu, ← Int.add_assoc] at K
      exact K
    refine wm_iload dX3_swarm_114 rfl ?_
    refine wm_aload_n dX3_swarm_116 rfl ?_
    refine wm_aload_n dX3_swarm_117 rfl ?_
    refine wm_getA dX3_swarm_118 (kF3_9 rfl) rfl ?_
    refine wm_iconst dX3_swarm_121 ?_
    refine wm_iaload dX3_swarm_122 rfl ⟨by omega, by omega⟩ 3 rfl ?_
    refine wm_callv dX3_swarm_123 (kV3_101 rfl) rfl (mc_slots (by rw [hw]; exact w3)) (by omega) rfl rfl ?_
    rintro _ _ ⟨rfl, rfl⟩
    rw [hw]
    refine wm_icmp dX3_swarm_126 (cB_ge ⟨by omega, by omega⟩ ⟨by omega, by omega⟩) 153 rfl (fun c126 => ?_) (fun c126 => ?_)
    ·
      omega
    ·
      refine wm_iload_n dX3_swarm_129 rfl ?_
      refine wm_aload_n dX3_swarm_130 rfl ?_
      refine wm_getA dX3_swarm_131 (kF3_19 rfl) rfl ?_
      refine wm_iload dX3_swarm_134 rfl ?_
      refine wm_iaload dX3_swarm_136 rfl ⟨by omega, by omega⟩ _ rfl ?_
      refine wm_if dX3_swarm_137 (cB_lt (by rw [hp]; omega) ⟨by omega, by omega⟩) 144 rfl (fun c137 => ?_) (fun c137 => ?_)
      ·
        refine wm_iconst dX3_swarm_144 ?_
        rw [hp] at c137
        exact hgo _ (by rw [if_neg (by omega)])
      ·
        refine wm_iconst dX3_swarm_140 ?_
        refine wm_goto dX3_swarm_141 145 rfl ?_
        rw [hp] at c137
        exact hgo _ (by rw [if_pos (by omega)])
theorem mc_swarm {C : Int} (hx : rng x) (hC : 300 ≤ C ∧ C < 1999999000) (hb : bdW C (τ.2 0)) (hS : WS (τ.2 0)) (hf : HF τ) : Mt 7 rX3_swarm [.inr 1, .inl x] τ (fun v t => (¬ (0 ≤ x ∧ x ≤ 7) ∧ some (-1) = v ∧ τ = t) ∨ ((0 ≤ x ∧ x ≤ 7) ∧ (¬ x = 6 ∧ some (swF (τ.2 0) x) = v ∨ x = 6 ∧ (formF (τ.2 0) ∧ some 1 = v ∨ ¬ formF (τ.2 0) ∧ some 0 = v)) ∧ (τ = t ∨ GV (τ.2 0) τ t))) := by
  intro d hd
  have hr := hb.rng (by omega)
  have hlr := ledF_rng (τ.2 0) hS.1.2
  have hW := hS.wg hr
  have hs := hS.2.2.2.1
  refine wm_iload_n dX3_swarm_0 rfl ?_
  refine wm_iconst dX3_swarm_1 ?_
  refine wm_bipush dX3_swarm_2 (by decide) ?_
  refine wm_calls dX3_swarm_4 (kS3_57 rfl) (kSn3_57 rfl) (mc_in hx (by omega) (by omega)) (by omega) rfl rfl ?_
  rintro _ _ ⟨rfl, ⟨h4, rfl⟩ | ⟨h4, rfl⟩⟩
  ·
    refine wm_ifT dX3_swarm_7 (by decide) 12 rfl ?_
    refine wm_aload_n dX3_swarm_12 rfl ?_
    refine wm_callv dX3_swarm_13 (kV3_85 rfl) rfl (mc_leader hS.1 hr) (by omega) rfl rfl ?_
    rintro _ _ ⟨rfl, rfl⟩
    refine wm_istore_n dX3_swarm_16 rfl ?_
    refine wm_iload_n dX3_swarm_17 rfl ?_
    refine wm_iconst dX3_swarm_18 ?_
    refine wm_icmp dX3_swarm_19 (cB_ge ⟨by omega, by omega⟩ ⟨by omega, by omega⟩) 86 rfl (fun c19 => ?_) (fun c19 => ?_)
    ·
      refine wm_iload_n dX3_swarm_86 rfl ?_
      refine wm_bipush dX3_swarm_87 (by decide) ?_
      refine wm_icmp dX3_swarm_89 (cB_ne ⟨by omega, by omega⟩ ⟨by omega, by omega⟩) 105 rfl (fun c89 => ?_) (fun c89 => ?_)
      ·
        refine wm_aload_n dX3_swarm_105 rfl ?_
        refine wm_callv dX3_swarm_106 (kV3_111 rfl) rfl (mc_gives hW hf) (by omega) rfl rfl ?_
        rintro _ _ ⟨rfl, g⟩
        rename_i t
        have hw := g.1.w
        refine wm_iconst dX3_swarm_109 ?_
        refine wm_istore_n dX3_swarm_110 rfl ?_
        refine wm_iconst dX3_swarm_111 ?_
        refine wm_istore dX3_swarm_112 rfl ?_
        refine mc_swarm_114 (t := t) hW (by omega) g.2.1 hw (sltF (τ.2 0) (τ.2 0 3)).toNat 0 0 (by omega) (by omega) ?_
        refine wm_iload_n dX3_swarm_153 rfl ?_
        refine wm_iconst dX3_swarm_154 ?_
        refine wm_icmp dX3_swarm_155 (cB_ne ⟨by omega, by omega⟩ ⟨by omega, by omega⟩) 165 rfl (fun c155 => ?_) (fun c155 => ?_)
        ·
          refine wm_iload_n dX3_swarm_165 rfl ?_
          refine wm_iconst dX3_swarm_166 ?_
          refine wm_icmp dX3_swarm_167 (cB_ne ⟨by omega, by omega⟩ ⟨by omega, by omega⟩) 177 rfl (fun c167 => ?_) (fun c167 => ?_)
          ·
            refine wm_iload_n dX3_swarm_177 rfl ?_
            refine wm_ireturn dX3_swarm_178 rfl ?_
            exact Or.inr ⟨h4, Or.inl ⟨by omega, by rw [swF, if_neg (by omega), if_neg (by omega), if_neg (by omega), if_neg (by omega), if_neg (by omega), if_neg (by omega), Int.zero_add]⟩, Or.inr g⟩
          ·
            refine wm_aload_n dX3_swarm_170 rfl ?_
            refine wm_getI dX3_swarm_171 (kF3_98 rfl) rfl rfl ?_
            refine wm_goto dX3_swarm_174 178 rfl ?_
            refine wm_ireturn dX3_swarm_178 rfl ?_
            exact Or.inr ⟨h4, Or.inl ⟨by omega, by rw [swF, if_neg (by omega), if_neg (by omega), if_neg (by omega), if_neg (by omega), if_neg (by omega), if_pos (by omega), g.2.2.2.2.1]⟩, Or.inr g⟩
        ·
          refine wm_aload_n dX3_swarm_158 rfl ?_
          refine wm_getI dX3_swarm_159 (kF3_95 rfl) rfl rfl ?_
          refine wm_goto dX3_swarm_162 178 rfl ?_
          refine wm_ireturn dX3_swarm_178 rfl ?_
          exact Or.inr ⟨h4, Or.inl ⟨by omega, by rw [swF, if_neg (by omega), if_neg (by omega), if_neg (by omega), if_neg (by omega), if_pos (by omega), g.2.2.2.1]⟩, Or.inr g⟩
      ·
        refine wm_aload_n dX3_swarm_92 rfl ?_
        refine wm_callv dX3_swarm_93 (kV3_209 rfl) rfl (mc_isFormed hW hf) (by omega) rfl rfl ?_
        rintro _ _ ⟨g, ⟨hy, rfl⟩ | ⟨hy, rfl⟩⟩
        ·
          refine wm_ifF dX3_swarm_96 (by decide) 103 rfl ?_
          refine wm_iconst dX3_swarm_99 ?_
          refine wm_goto dX3_swarm_100 104 rfl ?_
          refine wm_ireturn dX3_swarm_104 rfl ?_
          exact Or.inr ⟨h4, Or.inr ⟨by omega, Or.inl ⟨hy, rfl⟩⟩, Or.inr g⟩
        ·
          refine wm_ifT dX3_swarm_96 (by decide) 103 rfl ?_
          refine wm_iconst dX3_swarm_103 ?_
          refine wm_ireturn dX3_swarm_104 rfl ?_
          exact Or.inr ⟨h4, Or.inr ⟨by omega, Or.inr ⟨hy, rfl⟩⟩, Or.inr g⟩
    ·
      refine wm_iload_n dX3_swarm_22 rfl ?_
      refine wm_if dX3_swarm_23 (cB_ne ⟨by omega, by omega⟩ ⟨by omega, by omega⟩) 33 rfl (fun c23 => ?_) (fun c23 => ?_)
      ·
        refine wm_iload_n dX3_swarm_33 rfl ?_
        refine wm_iconst dX3_swarm_34 ?_
        refine wm_icmp dX3_swarm_35 (cB_ne ⟨by omega, by omega⟩ ⟨by omega, by omega⟩) 51 rfl (fun c35 => ?_) (fun c35 => ?_)
        ·
          refine wm_iload_n dX3_swarm_51 rfl ?_
          refine wm_iconst dX3_swarm_52 ?_
          refine wm_icmp dX3_swarm_53 (cB_ne ⟨by omega, by omega⟩ ⟨by omega, by omega⟩) 79 rfl (fun c53 => ?_) (fun c53 => ?_)
          ·
            refine wm_aload_n dX3_swarm_79 rfl ?_
            refine wm_getA dX3_swarm_80 (kF3_9 rfl) rfl ?_
            refine wm_iconst dX3_swarm_83 ?_
            refine wm_iaload dX3_swarm_84 rfl ⟨by omega, by omega⟩ 3 rfl ?_
            refine wm_ireturn dX3_swarm_85 rfl ?_
            exact Or.inr ⟨h4, Or.inl ⟨by omega, by rw [swF, if_neg (by omega), if_neg (by omega), if_neg (by omega), if_pos (by omega)]⟩, Or.inl rfl⟩
          ·
            refine wm_aload_n dX3_swarm_56 rfl ?_
            refine wm_getA dX3_swarm_57 (kF3_9 rfl) rfl ?_
            refine wm_iconst dX3_swarm_60 ?_
            refine wm_iaload dX3_swarm_61 rfl ⟨by omega, by omega⟩ 2 rfl ?_
            refine wm_if dX3_swarm_62 (cB_ge (hr _) ⟨by omega, by omega⟩) 70 rfl (fun c62 => ?_) (fun c62 => ?_)
            ·
              refine wm_aload_n dX3_swarm_70 rfl ?_
              refine wm_getA dX3_swarm_71 (kF3_9 rfl) rfl ?_
              refine wm_iconst dX3_swarm_74 ?_
              refine wm_iaload dX3_swarm_75 rfl ⟨by omega, by omega⟩ 2 rfl ?_
              refine wm_goto dX3_swarm_76 85 rfl ?_
              refine wm_ireturn dX3_swarm_85 rfl ?_
              exact Or.inr ⟨h4, Or.inl ⟨by omega, by rw [swF, if_neg (by omega), if_neg (by omega), if_pos (by omega), if_neg (by omega)]⟩, Or.inl rfl⟩
            ·
              refine wm_bipush dX3_swarm_65 (by decide) ?_
              refine wm_goto dX3_swarm_67 85 rfl ?_
              refine wm_ireturn dX3_swarm_85 rfl ?_
              exact Or.inr ⟨h4, Or.inl ⟨by omega, by rw [swF, if_neg (by omega), if_neg (by omega), if_pos (by omega), if_pos (by omega)]⟩, Or.inl rfl⟩
        ·
          refine wm_iload_n dX3_swarm_38 rfl ?_
          refine wm_if dX3_swarm_39 (cB_ge ⟨by omega, by omega⟩ ⟨by omega, by omega⟩) 47 rfl (fun c39 => ?_) (fun c39 => ?_)
          ·
            refine wm_iload_n dX3_swarm_47 rfl ?_
            refine wm_goto dX3_swarm_48 85 rfl ?_
            refine wm_ireturn dX3_swarm_85 rfl ?_
            exact Or.inr ⟨h4, Or.inl ⟨by omega, by rw [swF, if_neg (by omega), if_pos (by omega), if_neg (by omega)]⟩, Or.inl rfl⟩
          ·
            refine wm_bipush dX3_swarm_42 (by decide) ?_
            refine wm_goto dX3_swarm_44 85 rfl ?_
            refine wm_ireturn dX3_swarm_85 rfl ?_
            exact Or.inr ⟨h4, Or.inl ⟨by omega, by rw [swF, if_neg (by omega), if_pos (by omega), if_pos (by omega)]⟩, Or.inl rfl⟩
      ·
        refine wm_aload_n dX3_swarm_26 rfl ?_
        refine wm_callv dX3_swarm_27 (kV3_157 rfl) rfl (mc_members hS.1 hr) (by omega) rfl rfl ?_
        rintro _ _ ⟨rfl, rfl⟩
        refine wm_goto dX3_swarm_30 85 rfl ?_
        refine wm_ireturn dX3_swarm_85 rfl ?_
        exact Or.inr ⟨h4, Or.inl ⟨by omega, by rw [swF, if_pos (by omega)]⟩, Or.inl rfl⟩
  ·
    refine wm_ifF dX3_swarm_7 (by decide) 12 rfl ?_
    refine wm_iconst dX3_swarm_10 ?_
    refine wm_ireturn dX3_swarm_11 rfl ?_
    exact Or.inl ⟨h4, rfl, rfl⟩
theorem mc_count_15 (hs : SH (τ.2 0)) (hd : 2 ≤ d) : ∀ (k : Nat) (s A : Int), s + k = 3 → 0 ≤ s → 0 ≤ A ∧ A < 1024 → Wm d rX3_count 44 [some (.inr 1), some (.inl x), some (.inl (shsF (τ.2 0) k s A)), some (.inl 3)] [] τ Q → Wm d rX3_count 15 [some (.inr 1), some (.inl x), some (.inl A), some (.inl s)] [] τ Q := by
  intro k
  induction k with
  | zero =>
    intro s A hk h0 hA K
    have e : s = 3 := by omega
    subst e
    refine wm_iload_n dX3_count_15 rfl ?_
    refine wm_iconst dX3_count_16 ?_
    refine wm_icmp dX3_count_17 (cB_ge ⟨by omega, by omega⟩ ⟨by omega, by omega⟩) 44 rfl (fun c17 => ?_) (fun c17 => ?_)
    ·
      exact K
    ·
      omega
  | succ k ih =>
    intro s A hk h0 hA K
    have hss := hs s h0 (by omega)
    refine wm_iload_n dX3_count_15 rfl ?_
    refine wm_iconst dX3_count_16 ?_
    refine wm_icmp dX3_count_17 (cB_ge ⟨by omega, by omega⟩ ⟨by omega, by omega⟩) 44 rfl (fun c17 => ?_) (fun c17 => ?_)
    ·
      omega
    ·
      refine wm_iload_n dX3_count_20 rfl ?_
      refine wm_aload_n dX3_count_21 rfl ?_
      refine wm_iload_n dX3_count_22 rfl ?_
      refine wm_callv dX3_count_23 (kV3_101 rfl) rfl (mc_slots (by omega)) (by omega) rfl rfl ?_
      rintro _ _ ⟨rfl, rfl⟩
      refine wm_if dX3_count_26 (cB_le ⟨by omega, by omega⟩ ⟨by omega, by omega⟩) 35 rfl (fun c26 => ?_) (fun c26 => ?_)
      ·
        refine wm_iconst dX3_count_35 ?_
        refine wm_or0 dX3_count_36 (by omega) ?_
        refine wm_istore_n dX3_count_37 rfl ?_
        refine wm_iinc dX3_count_38 rfl ?_
        refine wm_goto dX3_count_41 15 rfl ?_
        rw [shsF, if_pos (by omega)] at K
        exact ih (s + 1) _ (by omega) (by omega) hA K
      ·
        refine wm_iconst dX3_count_29 ?_
        refine wm_iload_n dX3_count_30 rfl ?_
        refine wm_shl1 dX3_count_31 ⟨by omega, by omega⟩ ?_
        refine wm_goto dX3_count_32 36 rfl ?_
        refine wm_or1 dX3_count_36 hA ⟨by omega, by omega⟩ ?_
        refine wm_istore_n dX3_count_37 rfl ?_
        refine wm_iinc dX3_count_38 rfl ?_
        refine wm_goto dX3_count_41 15 rfl ?_
        rw [shsF, if_neg (by omega)] at K
        exact ih (s + 1) _ (by omega) (by omega) (b_rng hA (by omega)).2.1 K
theorem mc_count (hx : rng x) (hs : SH (τ.2 0)) : Mf 2 rX3_count [.inr 1, .inl x] τ (some (if ¬ (0 ≤ x ∧ x ≤ 2) then -1 else if x = 0 then τ.1 15 else if x = 1 then τ.1 1 else shsF (τ.2 0) 3 0 0)) τ := by
  intro d hd
  refine wm_iload_n dX3_count_0 rfl ?_
  refine wm_iconst dX3_count_1 ?_
  refine wm_iconst dX3_count_2 ?_
  refine wm_calls dX3_count_3 (kS3_57 rfl) (kSn3_57 rfl) (mc_in hx (by omega) (by omega)) (by omega) rfl rfl ?_
  rintro _ _ ⟨rfl, ⟨h3, rfl⟩ | ⟨h3, rfl⟩⟩
  ·
    refine wm_ifT dX3_count_6 (by decide) 11 rfl ?_
    refine wm_iconst dX3_count_11 ?_
    refine wm_istore_n dX3_count_12 rfl ?_
    refine wm_iconst dX3_count_13 ?_
    refine wm_istore_n dX3_count_14 rfl ?_
    refine mc_count_15 hs (by omega) 3 0 0 (by omega) (by omega) (by omega) ?_
    refine wm_iload_n dX3_count_44 rfl ?_
    refine wm_if dX3_count_45 (cB_ne ⟨by omega, by omega⟩ ⟨by omega, by omega⟩) 55 rfl (fun c45 => ?_) (fun c45 => ?_)
    ·
      refine wm_iload_n dX3_count_55 rfl ?_
      refine wm_iconst dX3_count_56 ?_
      refine wm_icmp dX3_count_57 (cB_ne ⟨by omega, by omega⟩ ⟨by omega, by omega⟩) 67 rfl (fun c57 => ?_) (fun c57 => ?_)
      ·
        refine wm_iload_n dX3_count_67 rfl ?_
        refine wm_ireturn dX3_count_68 rfl ?_
        exact ⟨by rw [if_neg (fun h => h h3), if_neg (by omega), if_neg (by omega)], rfl⟩
      ·
        refine wm_aload_n dX3_count_60 rfl ?_
        refine wm_getI dX3_count_61 (kF3_49 rfl) rfl rfl ?_
        refine wm_goto dX3_count_64 68 rfl ?_
        refine wm_ireturn dX3_count_68 rfl ?_
        exact ⟨by rw [if_neg (fun h => h h3), if_neg (by omega), if_pos (by omega)], rfl⟩
    ·
      refine wm_aload_n dX3_count_48 rfl ?_
      refine wm_getI dX3_count_49 (kF3_172 rfl) rfl rfl ?_
      refine wm_goto dX3_count_52 68 rfl ?_
      refine wm_ireturn dX3_count_68 rfl ?_
      exact ⟨by rw [if_neg (fun h => h h3), if_pos (by omega)], rfl⟩
  ·
    refine wm_ifF dX3_count_6 (by decide) 11 rfl ?_
    refine wm_iconst dX3_count_9 ?_
    refine wm_ireturn dX3_count_10 rfl ?_
    exact ⟨by rw [if_pos h3], rfl⟩
end M17
