/-! THE MODEL'S METHODS, 12: more questions, signs fed -/
set_option maxRecDepth 100000
def memF (w : Nat → Int) (m y : Int) : Int := if y = 0 then celF w m else if y = 4 then w (12 + 6 * m + 5).toNat else if y = 5 then w (12 + 6 * m + 1).toNat else if y = 6 then w (12 + 6 * m + 2).toNat else if y = 7 then w (12 + 6 * m + 3).toNat else if y = 8 then w (12 + 6 * m + 4).toNat else
  if slF w m < 0 then -5 else if y = 1 then slF w m else if y = 2 then pl0F w (slF w m) else frF w (slF w m) (celF w m)
def opnCF (w : Nat → Int) : Nat → Int → Int
  | 0, _ => 0
  | k + 1, s => (if 0 ≤ pl0F w s then 1 else 0) + opnCF w k (s + 1)
def pkS (a b c e f : Int) (i : Int) : Int := if i = 0 then a else if i = 1 then b else if i = 2 then c else if i = 3 then e else f
def fdR (τ : MT) (p : Int → Int) (k : Int) : MT := (fun j => if j = 15 then τ.1 15 + k else τ.1 j, fun a i => if a = 14 ∧ τ.1 15 ≤ (i : Int) ∧ (i : Int) < τ.1 15 + k then p ((i : Int) - τ.1 15) else τ.2 a i)
section M16
variable {τ : MT} {m c v x y z b n dd a1 a2 a3 a4 a5 : Int} {d : Nat} {Q : Option Int → MT → Prop}
theorem mc_member {C : Int} (hm : rng m) (hy : rng y) (hC : 300 ≤ C ∧ C < 1999999000) (hb : bdW C (τ.2 0)) (hS : WS (τ.2 0)) (hf : HF τ) : Mt 6 rX3_member [.inr 1, .inl m, .inl y] τ (fun v t => (¬ (isM (τ.2 0) m ∧ 0 ≤ y ∧ y ≤ 8) ∧ some (-1) = v ∧ τ = t) ∨ ((isM (τ.2 0) m ∧ 0 ≤ y ∧ y ≤ 8) ∧ some (memF (τ.2 0) m y) = v ∧ (τ = t ∨ GV (τ.2 0) τ t))) := by
  intro d hd
  have hr := hb.rng (by omega)
  have hS1 := hS.1
  have hsr := slF_rng (τ.2 0) hS.2.2.2.1 m
  refine wm_aload_n dX3_member_0 rfl ?_
  refine wm_iload_n dX3_member_1 rfl ?_
  refine wm_callv dX3_member_2 (kV3_65 rfl) rfl (mc_isMember hm hS.1 hr) (by omega) rfl rfl ?_
  rintro _ _ ⟨rfl, ⟨h2, rfl⟩ | ⟨h2, rfl⟩⟩
  have hm9 : 0 ≤ m ∧ m ≤ 9 := by have := h2.1; omega
  ·
    refine wm_ifF dX3_member_5 (by decide) 18 rfl ?_
    refine wm_iload_n dX3_member_8 rfl ?_
    refine wm_iconst dX3_member_9 ?_
    refine wm_bipush dX3_member_10 (by decide) ?_
    refine wm_calls dX3_member_12 (kS3_57 rfl) (kSn3_57 rfl) (mc_in hy (by omega) (by omega)) (by omega) rfl rfl ?_
    rintro _ _ ⟨rfl, ⟨h12, rfl⟩ | ⟨h12, rfl⟩⟩
    ·
      refine wm_ifT dX3_member_15 (by decide) 20 rfl ?_
      refine wm_iload_n dX3_member_20 rfl ?_
      refine wm_if dX3_member_21 (cB_ne ⟨by omega, by omega⟩ ⟨by omega, by omega⟩) 31 rfl (fun c21 => ?_) (fun c21 => ?_)
      ·
        refine wm_iload_n dX3_member_31 rfl ?_
        refine wm_iconst dX3_member_32 ?_
        refine wm_icmp dX3_member_33 (cB_le ⟨by omega, by omega⟩ ⟨by omega, by omega⟩) 81 rfl (fun c33 => ?_) (fun c33 => ?_)
        ·
          refine wm_aload_n dX3_member_81 rfl ?_
          refine wm_callv dX3_member_82 (kV3_111 rfl) rfl (mc_gives (hS.wg hr) hf) (by omega) rfl rfl ?_
          rintro _ _ ⟨rfl, g⟩
          rename_i t
          have hw := g.1.w
          have hsl : t.2 7 m.toNat = slF (τ.2 0) m := g.2.2.1 m hm9.1 (by omega)
          refine wm_aload_n dX3_member_85 rfl ?_
          refine wm_getA dX3_member_86 (kF3_25 rfl) rfl ?_
          refine wm_iload_n dX3_member_89 rfl ?_
          refine wm_iaload dX3_member_90 rfl ⟨by omega, by omega⟩ _ rfl ?_
          refine wm_istore_n dX3_member_91 rfl ?_
          refine wm_iload_n dX3_member_92 rfl ?_
          refine wm_if dX3_member_93 (cB_ge (by rw [hsl]; omega) ⟨by omega, by omega⟩) 101 rfl (fun c93 => ?_) (fun c93 => ?_)
          ·
            refine wm_iload_n dX3_member_101 rfl ?_
            refine wm_iconst dX3_member_102 ?_
            refine wm_icmp dX3_member_103 (cB_ne ⟨by omega, by omega⟩ ⟨by omega, by omega⟩) 110 rfl (fun c103 => ?_) (fun c103 => ?_)
            ·
              refine wm_iload_n dX3_member_110 rfl ?_
              refine wm_iconst dX3_member_111 ?_
              refine wm_icmp dX3_member_112 (cB_ne ⟨by omega, by omega⟩ ⟨by omega, by omega⟩) 124 rfl (fun c112 => ?_) (fun c112 => ?_)
              ·
                refine wm_aload_n dX3_member_124 rfl ?_
                refine wm_getA dX3_member_125 (kF3_13 rfl) rfl ?_
                refine wm_bipush dX3_member_128 (by decide) ?_
                refine wm_iload_n dX3_member_130 rfl ?_
                refine wm_imul dX3_member_131 ?_
                refine wm_aload_n dX3_member_132 rfl ?_
                refine wm_iload_n dX3_member_133 rfl ?_
                refine wm_iconst dX3_member_134 ?_
                refine wm_callv dX3_member_135 (kV3_61 rfl) rfl (mc_of (by omega)) (by omega) rfl rfl ?_
                rintro _ _ ⟨rfl, rfl⟩
                refine wm_iadd dX3_member_138 ?_
                refine wm_iaload dX3_member_139 rfl (by rw [hsl, hw]; rw [hsl] at c93; show 0 ≤ 120 * slF (τ.2 0) m + celF (τ.2 0) m ∧ 120 * slF (τ.2 0) m + celF (τ.2 0) m < 1440; have h1 := h2.2; have h3 := hS.lt m hm9.1 hm9.2; unfold celF at h3 ⊢; omega) _ rfl ?_
                rw [hsl] at c93 ⊢
                rw [hw, show (τ.2 0) (12 + 6 * m + 0).toNat = celF (τ.2 0) m from rfl, (g.2.1 _ c93 (hsr.2.1 c93)).2 (slF_pl _ _ c93).2.2.1 (celF (τ.2 0) m) h2.2 (hS.lt m hm9.1 hm9.2)]
                refine wm_ireturn dX3_member_140 rfl ?_
                exact Or.inr ⟨⟨h2, h12⟩, by rw [memF, if_neg (by omega), if_neg (by omega), if_neg (by omega), if_neg (by omega), if_neg (by omega), if_neg (by omega), if_neg (by omega), if_neg (by omega), if_neg (by omega)], Or.inr g⟩
              ·
                refine wm_aload_n dX3_member_115 rfl ?_
                refine wm_getA dX3_member_116 (kF3_19 rfl) rfl ?_
                refine wm_iload_n dX3_member_119 rfl ?_
                refine wm_iaload dX3_member_120 rfl (by rw [hsl]; rw [hsl] at c93; omega) _ rfl ?_
                refine wm_goto dX3_member_121 140 rfl ?_
                rw [hsl] at c93 ⊢
                rw [(g.2.1 _ c93 (hsr.2.1 c93)).1]
                refine wm_ireturn dX3_member_140 rfl ?_
                exact Or.inr ⟨⟨h2, h12⟩, by rw [memF, if_neg (by omega), if_neg (by omega), if_neg (by omega), if_neg (by omega), if_neg (by omega), if_neg (by omega), if_neg (by omega), if_neg (by omega), if_pos (by omega)], Or.inr g⟩
            ·
              refine wm_iload_n dX3_member_106 rfl ?_
              refine wm_goto dX3_member_107 140 rfl ?_
              rw [hsl] at c93 ⊢
              refine wm_ireturn dX3_member_140 rfl ?_
              exact Or.inr ⟨⟨h2, h12⟩, by rw [memF, if_neg (by omega), if_neg (by omega), if_neg (by omega), if_neg (by omega), if_neg (by omega), if_neg (by omega), if_neg (by omega), if_pos (by omega)], Or.inr g⟩
          ·
            refine wm_bipush dX3_member_96 (by decide) ?_
            refine wm_goto dX3_member_98 140 rfl ?_
            rw [hsl] at c93
            refine wm_ireturn dX3_member_140 rfl ?_
            exact Or.inr ⟨⟨h2, h12⟩, by rw [memF, if_neg (by omega), if_neg (by omega), if_neg (by omega), if_neg (by omega), if_neg (by omega), if_neg (by omega), if_pos (by omega)], Or.inr g⟩
        ·
          refine wm_aload_n dX3_member_36 rfl ?_
          refine wm_iload_n dX3_member_37 rfl ?_
          refine wm_iload_n dX3_member_38 rfl ?_
          refine wm_iconst dX3_member_39 ?_
          refine wm_icmp dX3_member_40 (cB_ne ⟨by omega, by omega⟩ ⟨by omega, by omega⟩) 47 rfl (fun c40 => ?_) (fun c40 => ?_)
          ·
            refine wm_iload_n dX3_member_47 rfl ?_
            refine wm_iconst dX3_member_48 ?_
            refine wm_icmp dX3_member_49 (cB_ne ⟨by omega, by omega⟩ ⟨by omega, by omega⟩) 56 rfl (fun c49 => ?_) (fun c49 => ?_)
            ·
              refine wm_iload_n dX3_member_56 rfl ?_
              refine wm_bipush dX3_member_57 (by decide) ?_
              refine wm_icmp dX3_member_59 (cB_ne ⟨by omega, by omega⟩ ⟨by omega, by omega⟩) 66 rfl (fun c59 => ?_) (fun c59 => ?_)
              ·
                refine wm_iload_n dX3_member_66 rfl ?_
                refine wm_bipush dX3_member_67 (by decide) ?_
                refine wm_icmp dX3_member_69 (cB_ne ⟨by omega, by omega⟩ ⟨by omega, by omega⟩) 76 rfl (fun c69 => ?_) (fun c69 => ?_)
                ·
                  refine wm_iconst dX3_member_76 ?_
                  refine wm_callv dX3_member_77 (kV3_61 rfl) rfl (mc_of (by omega)) (by omega) rfl rfl ?_
                  rintro _ _ ⟨rfl, rfl⟩
                  refine wm_ireturn dX3_member_80 rfl ?_
                  exact Or.inr ⟨⟨h2, h12⟩, by rw [memF, if_neg (by omega), if_neg (by omega), if_neg (by omega), if_neg (by omega), if_neg (by omega), if_pos (by omega)], Or.inl rfl⟩
                ·
                  refine wm_iconst dX3_member_72 ?_
                  refine wm_goto dX3_member_73 77 rfl ?_
                  refine wm_callv dX3_member_77 (kV3_61 rfl) rfl (mc_of (by omega)) (by omega) rfl rfl ?_
                  rintro _ _ ⟨rfl, rfl⟩
                  refine wm_ireturn dX3_member_80 rfl ?_
                  exact Or.inr ⟨⟨h2, h12⟩, by rw [memF, if_neg (by omega), if_neg (by omega), if_neg (by omega), if_neg (by omega), if_pos (by omega)], Or.inl rfl⟩
              ·
                refine wm_iconst dX3_member_62 ?_
                refine wm_goto dX3_member_63 77 rfl ?_
                refine wm_callv dX3_member_77 (kV3_61 rfl) rfl (mc_of (by omega)) (by omega) rfl rfl ?_
                rintro _ _ ⟨rfl, rfl⟩
                refine wm_ireturn dX3_member_80 rfl ?_
                exact Or.inr ⟨⟨h2, h12⟩, by rw [memF, if_neg (by omega), if_neg (by omega), if_neg (by omega), if_pos (by omega)], Or.inl rfl⟩
            ·
              refine wm_iconst dX3_member_52 ?_
              refine wm_goto dX3_member_53 77 rfl ?_
              refine wm_callv dX3_member_77 (kV3_61 rfl) rfl (mc_of (by omega)) (by omega) rfl rfl ?_
              rintro _ _ ⟨rfl, rfl⟩
              refine wm_ireturn dX3_member_80 rfl ?_
              exact Or.inr ⟨⟨h2, h12⟩, by rw [memF, if_neg (by omega), if_neg (by omega), if_pos (by omega)], Or.inl rfl⟩
          ·
            refine wm_iconst dX3_member_43 ?_
            refine wm_goto dX3_member_44 77 rfl ?_
            refine wm_callv dX3_member_77 (kV3_61 rfl) rfl (mc_of (by omega)) (by omega) rfl rfl ?_
            rintro _ _ ⟨rfl, rfl⟩
            refine wm_ireturn dX3_member_80 rfl ?_
            exact Or.inr ⟨⟨h2, h12⟩, by rw [memF, if_neg (by omega), if_pos (by omega)], Or.inl rfl⟩
      ·
        refine wm_aload_n dX3_member_24 rfl ?_
        refine wm_iload_n dX3_member_25 rfl ?_
        refine wm_iconst dX3_member_26 ?_
        refine wm_callv dX3_member_27 (kV3_61 rfl) rfl (mc_of (by omega)) (by omega) rfl rfl ?_
        rintro _ _ ⟨rfl, rfl⟩
        refine wm_ireturn dX3_member_30 rfl ?_
        exact Or.inr ⟨⟨h2, h12⟩, by rw [memF, if_pos (by omega)]; rfl, Or.inl rfl⟩
    ·
      refine wm_ifF dX3_member_15 (by decide) 20 rfl ?_
      refine wm_iconst dX3_member_18 ?_
      refine wm_ireturn dX3_member_19 rfl ?_
      exact Or.inl ⟨fun h => h12 h.2, rfl, rfl⟩
  ·
    refine wm_ifT dX3_member_5 (by decide) 18 rfl ?_
    refine wm_iconst dX3_member_18 ?_
    refine wm_ireturn dX3_member_19 rfl ?_
    exact Or.inl ⟨fun h => h2 h.1, rfl, rfl⟩
theorem mc_refusal2 (hx : rng x) (hw : rng (τ.1 21)) : Mf 1 rX3_refusal_2 [.inr 1, .inl x] τ (some (if ¬ (0 ≤ x ∧ x ≤ 1) then -1 else if τ.1 21 = 0 then -5 else if x = 0 then τ.1 21 else τ.1 22)) τ := by
  intro d hd
  refine wm_iload_n dX3_refusal_2_0 rfl ?_
  refine wm_iconst dX3_refusal_2_1 ?_
  refine wm_iconst dX3_refusal_2_2 ?_
  refine wm_calls dX3_refusal_2_3 (kS3_57 rfl) (kSn3_57 rfl) (mc_in hx (by omega) (by omega)) (by omega) rfl rfl ?_
  rintro _ _ ⟨rfl, ⟨h3, rfl⟩ | ⟨h3, rfl⟩⟩
  ·
    refine wm_ifT dX3_refusal_2_6 (by decide) 13 rfl ?_
    refine wm_aload_n dX3_refusal_2_13 rfl ?_
    refine wm_getI dX3_refusal_2_14 (kF3_200 rfl) rfl rfl ?_
    refine wm_if dX3_refusal_2_17 (cB_ne ⟨by omega, by omega⟩ ⟨by omega, by omega⟩) 25 rfl (fun c17 => ?_) (fun c17 => ?_)
    ·
      refine wm_iload_n dX3_refusal_2_25 rfl ?_
      refine wm_if dX3_refusal_2_26 (cB_ne ⟨by omega, by omega⟩ ⟨by omega, by omega⟩) 36 rfl (fun c26 => ?_) (fun c26 => ?_)
      ·
        refine wm_aload_n dX3_refusal_2_36 rfl ?_
        refine wm_getI dX3_refusal_2_37 (kF3_203 rfl) rfl rfl ?_
        refine wm_ireturn dX3_refusal_2_40 rfl ?_
        exact ⟨by rw [if_neg (fun h => h h3), if_neg c17, if_neg c26], rfl⟩
      ·
        refine wm_aload_n dX3_refusal_2_29 rfl ?_
        refine wm_getI dX3_refusal_2_30 (kF3_200 rfl) rfl rfl ?_
        refine wm_goto dX3_refusal_2_33 40 rfl ?_
        refine wm_ireturn dX3_refusal_2_40 rfl ?_
        exact ⟨by rw [if_neg (fun h => h h3), if_neg c17, if_pos (by omega)], rfl⟩
    ·
      refine wm_bipush dX3_refusal_2_20 (by decide) ?_
      refine wm_goto dX3_refusal_2_22 40 rfl ?_
      refine wm_ireturn dX3_refusal_2_40 rfl ?_
      exact ⟨by rw [if_neg (fun h => h h3), if_pos (by omega)], rfl⟩
  ·
    refine wm_ifF dX3_refusal_2_6 (by decide) 13 rfl ?_
    refine wm_iconst dX3_refusal_2_9 ?_
    refine wm_goto dX3_refusal_2_10 40 rfl ?_
    refine wm_ireturn dX3_refusal_2_40 rfl ?_
    exact ⟨by rw [if_pos h3], rfl⟩
theorem fdR_step (τ : MT) {p : Int → Int} {k : Int} (hT : 0 ≤ τ.1 15) (hk : 0 ≤ k) : stI (stA (fdR τ p k) 14 (τ.1 15 + k).toNat (p k)) 15 (τ.1 15 + k + 1) = fdR τ p (k + 1) := by
  unfold stI stA fdR
  refine Prod.ext (funext fun j => ?_) (funext fun a => funext fun i => ?_)
  · dsimp only
    split
    · omega
    · rfl
  · dsimp only
    by_cases ha : a = 14
    · subst ha
      by_cases h1 : i = (τ.1 15 + k).toNat
      · rw [if_pos ⟨rfl, h1⟩, if_pos ⟨rfl, by omega, by omega⟩]
        exact congrArg p (by omega)
      · rw [if_neg (by omega)]
        by_cases h2 : τ.1 15 ≤ (i : Int) ∧ (i : Int) < τ.1 15 + k
        · rw [if_pos ⟨rfl, h2⟩, if_pos ⟨rfl, by omega, by omega⟩]
        · rw [if_neg (fun h => h2 h.2), if_neg (by omega)]
    · simp [ha]
theorem fdR_0 (τ : MT) (p : Int → Int) : fdR τ p 0 = τ := by
  unfold fdR
  refine Prod.ext (funext fun j => ?_) (funext fun a => funext fun i => ?_)
  · dsimp only
    split
    · rename_i e; rw [e, Int.add_zero]
    · rfl
  · dsimp only
    rw [if_neg (by omega)]
theorem mc_feed_82 (hn : 1 ≤ n ∧ n ≤ 5) (hT : 0 ≤ τ.1 15 ∧ τ.1 15 + n ≤ 60) : ∀ (k : Nat) (i : Int), i + k = n → 0 ≤ i → Wm d rX3_feed 82 [some (.inr 1), some (.inl n), some (.inl a1), some (.inl a2), some (.inl a3), some (.inl a4), some (.inl a5), some (.inl i)] [] (fdR τ (pkS a1 a2 a3 a4 a5) i) (fun v t => some (τ.1 15 + n) = v ∧ fdR τ (pkS a1 a2 a3 a4 a5) n = t) := by
  have h15 : ∀ i, (fdR τ (pkS a1 a2 a3 a4 a5) i).1 15 = τ.1 15 + i := fun i => by simp [fdR]
  intro k
  induction k with
  | zero =>
    intro i hi h0
    have e : i = n := by omega
    subst e
    refine wm_iload dX3_feed_82 rfl ?_
    refine wm_iload_n dX3_feed_84 rfl ?_
    refine wm_icmp dX3_feed_85 (cB_ge ⟨by omega, by omega⟩ ⟨by omega, by omega⟩) 156 rfl (fun c85 => ?_) (fun c85 => ?_)
    ·
      refine wm_aload_n dX3_feed_156 rfl ?_
      refine wm_getI dX3_feed_157 (kF3_172 rfl) rfl rfl ?_
      refine wm_ireturn dX3_feed_160 rfl ?_
      exact ⟨by rw [h15], rfl⟩
    ·
      omega
  | succ k ih =>
    intro i hi h0
    have hgo : ∀ u, u = pkS a1 a2 a3 a4 a5 i → Wm d rX3_feed 139 [some (.inr 1), some (.inl n), some (.inl a1), some (.inl a2), some (.inl a3), some (.inl a4), some (.inl a5), some (.inl i)] [.inl u, .inl ((fdR τ (pkS a1 a2 a3 a4 a5) i).1 15), .inr 16] (fdR τ (pkS a1 a2 a3 a4 a5) i) (fun v t => some (τ.1 15 + n) = v ∧ fdR τ (pkS a1 a2 a3 a4 a5) n = t) := fun u hu => by
      subst hu
      rw [h15]
      refine wm_iastore dX3_feed_139 rfl ⟨by omega, by omega⟩ _ rfl ?_
      refine wm_aload_n dX3_feed_140 rfl ?_
      refine wm_dup dX3_feed_141 ?_
      refine wm_getI dX3_feed_142 (kF3_172 rfl) rfl rfl ?_
      refine wm_iconst dX3_feed_145 ?_
      refine wm_iadd dX3_feed_146 ?_
      refine wm_putI dX3_feed_147 (kF3_172 rfl) rfl rfl (Or.inl rfl) ?_
      refine wm_iinc dX3_feed_150 rfl ?_
      refine wm_goto dX3_feed_153 82 rfl ?_
      rw [show (stA (fdR τ (pkS a1 a2 a3 a4 a5) i) 14 (τ.1 15 + i).toNat (pkS a1 a2 a3 a4 a5 i)).1 15 = τ.1 15 + i from h15 i, fdR_step τ hT.1 h0]
      exact ih (i + 1) (by omega) (by omega)
    refine wm_iload dX3_feed_82 rfl ?_
    refine wm_iload_n dX3_feed_84 rfl ?_
    refine wm_icmp dX3_feed_85 (cB_ge ⟨by omega, by omega⟩ ⟨by omega, by omega⟩) 156 rfl (fun c85 => ?_) (fun c85 => ?_)
    ·
      omega
    ·
      refine wm_aload_n dX3_feed_88 rfl ?_
      refine wm_getA dX3_feed_89 (kF3_40 rfl) rfl ?_
      refine wm_aload_n dX3_feed_92 rfl ?_
      refine wm_getI dX3_feed_93 (kF3_172 rfl) rfl rfl ?_
      refine wm_iload dX3_feed_96 rfl ?_
      refine wm_if dX3_feed_98 (cB_ne ⟨by omega, by omega⟩ ⟨by omega, by omega⟩) 105 rfl (fun c98 => ?_) (fun c98 => ?_)
      ·
        refine wm_iload dX3_feed_105 rfl ?_
        refine wm_iconst dX3_feed_107 ?_
        refine wm_icmp dX3_feed_108 (cB_ne ⟨by omega, by omega⟩ ⟨by omega, by omega⟩) 115 rfl (fun c108 => ?_) (fun c108 => ?_)
        ·
          refine wm_iload dX3_feed_115 rfl ?_
          refine wm_iconst dX3_feed_117 ?_
          refine wm_icmp dX3_feed_118 (cB_ne ⟨by omega, by omega⟩ ⟨by omega, by omega⟩) 126 rfl (fun c118 => ?_) (fun c118 => ?_)
          ·
            refine wm_iload dX3_feed_126 rfl ?_
            refine wm_iconst dX3_feed_128 ?_
            refine wm_icmp dX3_feed_129 (cB_ne ⟨by omega, by omega⟩ ⟨by omega, by omega⟩) 137 rfl (fun c129 => ?_) (fun c129 => ?_)
            ·
              refine wm_iload dX3_feed_137 rfl ?_
              exact hgo _ (by rw [pkS, if_neg (by omega), if_neg (by omega), if_neg (by omega), if_neg (by omega)])
            ·
              refine wm_iload dX3_feed_132 rfl ?_
              refine wm_goto dX3_feed_134 139 rfl ?_
              exact hgo _ (by rw [pkS, if_neg (by omega), if_neg (by omega), if_neg (by omega), if_pos (by omega)])
          ·
            refine wm_iload dX3_feed_121 rfl ?_
            refine wm_goto dX3_feed_123 139 rfl ?_
            exact hgo _ (by rw [pkS, if_neg (by omega), if_neg (by omega), if_pos (by omega)])
        ·
          refine wm_iload_n dX3_feed_111 rfl ?_
          refine wm_goto dX3_feed_112 139 rfl ?_
          exact hgo _ (by rw [pkS, if_neg (by omega), if_pos (by omega)])
      ·
        refine wm_iload_n dX3_feed_101 rfl ?_
        refine wm_goto dX3_feed_102 139 rfl ?_
        exact hgo _ (by rw [pkS, if_pos (by omega)])
def sgn (x : Int) : Prop := 0 ≤ x ∧ x ≤ 127
theorem mc_feed (hn : rng n) (r1 : rng a1) (r2 : rng a2) (r3 : rng a3) (r4 : rng a4) (r5 : rng a5) (hT : 0 ≤ τ.1 15 ∧ τ.1 15 ≤ 60) : Mt 1 rX3_feed [.inr 1, .inl n, .inl a1, .inl a2, .inl a3, .inl a4, .inl a5] τ (fun v t => (¬ ((1 ≤ n ∧ n ≤ 5) ∧ (0 ≤ a1 ∧ a1 ≤ 127) ∧ (0 ≤ a2 ∧ a2 ≤ 127) ∧ (0 ≤ a3 ∧ a3 ≤ 127) ∧ (0 ≤ a4 ∧ a4 ≤ 127) ∧ 0 ≤ a5 ∧ a5 ≤ 127) ∧ some (-2) = v ∧ τ = t) ∨ (((1 ≤ n ∧ n ≤ 5) ∧ (0 ≤ a1 ∧ a1 ≤ 127) ∧ (0 ≤ a2 ∧ a2 ≤ 127) ∧ (0 ≤ a3 ∧ a3 ≤ 127) ∧ (0 ≤ a4 ∧ a4 ≤ 127) ∧ 0 ≤ a5 ∧ a5 ≤ 127) ∧ ((60 < τ.1 15 + n ∧ some (-4) = v ∧ τ = t) ∨ (τ.1 15 + n ≤ 60 ∧ some (τ.1 15 + n) = v ∧ fdR τ (pkS a1 a2 a3 a4 a5) n = t)))) := by
  intro d hd
  refine wm_iload_n dX3_feed_0 rfl ?_
  refine wm_iconst dX3_feed_1 ?_
  refine wm_iconst dX3_feed_2 ?_
  refine wm_calls dX3_feed_3 (kS3_57 rfl) (kSn3_57 rfl) (mc_in hn (by omega) (by omega)) (by omega) rfl rfl ?_
  rintro _ _ ⟨rfl, ⟨h3, rfl⟩ | ⟨h3, rfl⟩⟩
  ·
    refine wm_ifF dX3_feed_6 (by decide) 62 rfl ?_
    refine wm_iload_n dX3_feed_9 rfl ?_
    refine wm_iconst dX3_feed_10 ?_
    refine wm_bipush dX3_feed_11 (by decide) ?_
    refine wm_calls dX3_feed_13 (kS3_57 rfl) (kSn3_57 rfl) (mc_in r1 (by omega) (by omega)) (by omega) rfl rfl ?_
    rintro _ _ ⟨rfl, ⟨h13, rfl⟩ | ⟨h13, rfl⟩⟩
    ·
      refine wm_ifF dX3_feed_16 (by decide) 62 rfl ?_
      refine wm_iload_n dX3_feed_19 rfl ?_
      refine wm_iconst dX3_feed_20 ?_
      refine wm_bipush dX3_feed_21 (by decide) ?_
      refine wm_calls dX3_feed_23 (kS3_57 rfl) (kSn3_57 rfl) (mc_in r2 (by omega) (by omega)) (by omega) rfl rfl ?_
      rintro _ _ ⟨rfl, ⟨h23, rfl⟩ | ⟨h23, rfl⟩⟩
      ·
        refine wm_ifF dX3_feed_26 (by decide) 62 rfl ?_
        refine wm_iload dX3_feed_29 rfl ?_
        refine wm_iconst dX3_feed_31 ?_
        refine wm_bipush dX3_feed_32 (by decide) ?_
        refine wm_calls dX3_feed_34 (kS3_57 rfl) (kSn3_57 rfl) (mc_in r3 (by omega) (by omega)) (by omega) rfl rfl ?_
        rintro _ _ ⟨rfl, ⟨h34, rfl⟩ | ⟨h34, rfl⟩⟩
        ·
          refine wm_ifF dX3_feed_37 (by decide) 62 rfl ?_
          refine wm_iload dX3_feed_40 rfl ?_
          refine wm_iconst dX3_feed_42 ?_
          refine wm_bipush dX3_feed_43 (by decide) ?_
          refine wm_calls dX3_feed_45 (kS3_57 rfl) (kSn3_57 rfl) (mc_in r4 (by omega) (by omega)) (by omega) rfl rfl ?_
          rintro _ _ ⟨rfl, ⟨h45, rfl⟩ | ⟨h45, rfl⟩⟩
          ·
            refine wm_ifF dX3_feed_48 (by decide) 62 rfl ?_
            refine wm_iload dX3_feed_51 rfl ?_
            refine wm_iconst dX3_feed_53 ?_
            refine wm_bipush dX3_feed_54 (by decide) ?_
            refine wm_calls dX3_feed_56 (kS3_57 rfl) (kSn3_57 rfl) (mc_in r5 (by omega) (by omega)) (by omega) rfl rfl ?_
            rintro _ _ ⟨rfl, ⟨h56, rfl⟩ | ⟨h56, rfl⟩⟩
            ·
              refine wm_ifT dX3_feed_59 (by decide) 65 rfl ?_
              refine wm_aload_n dX3_feed_65 rfl ?_
              refine wm_getI dX3_feed_66 (kF3_172 rfl) rfl rfl ?_
              refine wm_iload_n dX3_feed_69 rfl ?_
              refine wm_iadd dX3_feed_70 ?_
              refine wm_bipush dX3_feed_71 (by decide) ?_
              refine wm_icmp dX3_feed_73 (cB_le ⟨by omega, by omega⟩ ⟨by omega, by omega⟩) 79 rfl (fun c73 => ?_) (fun c73 => ?_)
              ·
                refine wm_iconst dX3_feed_79 ?_
                refine wm_istore dX3_feed_80 rfl ?_
                have K := mc_feed_82 (d := d) (a1 := a1) (a2 := a2) (a3 := a3) (a4 := a4) (a5 := a5) (τ := τ) h3 ⟨hT.1, c73⟩ n.toNat 0 (by omega) (by omega)
                rw [fdR_0] at K
                exact K.mono (fun v t h => Or.inr ⟨⟨h3, h13, h23, h34, h45, h56⟩, Or.inr ⟨c73, h.1, h.2⟩⟩)
              ·
                refine wm_bipush dX3_feed_76 (by decide) ?_
                refine wm_ireturn dX3_feed_78 rfl ?_
                exact Or.inr ⟨⟨h3, h13, h23, h34, h45, h56⟩, Or.inl ⟨by omega, rfl, rfl⟩⟩
            ·
              refine wm_ifF dX3_feed_59 (by decide) 65 rfl ?_
              refine wm_bipush dX3_feed_62 (by decide) ?_
              refine wm_ireturn dX3_feed_64 rfl ?_
              exact Or.inl ⟨fun h => h56 h.2.2.2.2.2, rfl, rfl⟩
          ·
            refine wm_ifT dX3_feed_48 (by decide) 62 rfl ?_
            refine wm_bipush dX3_feed_62 (by decide) ?_
            refine wm_ireturn dX3_feed_64 rfl ?_
            exact Or.inl ⟨fun h => h45 h.2.2.2.2.1, rfl, rfl⟩
        ·
          refine wm_ifT dX3_feed_37 (by decide) 62 rfl ?_
          refine wm_bipush dX3_feed_62 (by decide) ?_
          refine wm_ireturn dX3_feed_64 rfl ?_
          exact Or.inl ⟨fun h => h34 h.2.2.2.1, rfl, rfl⟩
      ·
        refine wm_ifT dX3_feed_26 (by decide) 62 rfl ?_
        refine wm_bipush dX3_feed_62 (by decide) ?_
        refine wm_ireturn dX3_feed_64 rfl ?_
        exact Or.inl ⟨fun h => h23 h.2.2.1, rfl, rfl⟩
    ·
      refine wm_ifT dX3_feed_16 (by decide) 62 rfl ?_
      refine wm_bipush dX3_feed_62 (by decide) ?_
      refine wm_ireturn dX3_feed_64 rfl ?_
      exact Or.inl ⟨fun h => h13 h.2.1, rfl, rfl⟩
  ·
    refine wm_ifT dX3_feed_6 (by decide) 62 rfl ?_
    refine wm_bipush dX3_feed_62 (by decide) ?_
    refine wm_ireturn dX3_feed_64 rfl ?_
    exact Or.inl ⟨fun h => h3 h.1, rfl, rfl⟩
end M16
