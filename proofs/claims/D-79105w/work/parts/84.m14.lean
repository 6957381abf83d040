/-! THE MODEL'S METHODS, 14: recognizing -/
set_option maxRecDepth 100000
def rotF : Nat → Int × Int → Int × Int
  | 0, p => p
  | k + 1, p => rotF k (-p.2, p.1)
def trnR (w : Nat → Int) (x s y : Int) : Int × Int := rotF (y % 4).toNat (if 3 < y then -colF w x s else colF w x s, rowF w x s)
def setXY (τ : MT) (p : Int × Int) : MT := (fun j => if j = 23 then p.1 else if j = 24 then p.2 else τ.1 j, τ.2)
theorem setXY_st (τ : MT) (p : Int × Int) (a b : Int) : stI (stI (setXY τ p) 23 a) 24 b = setXY τ (a, b) := by
  unfold stI setXY
  refine Prod.ext (funext fun j => ?_) rfl
  dsimp only
  by_cases h4 : j = 24
  · subst h4; rfl
  · by_cases h3 : j = 23
    · subst h3; rfl
    · simp [h3, h4]
theorem setXY_0 (τ : MT) (a b : Int) : stI (stI τ 23 a) 24 b = setXY τ (a, b) := by
  unfold stI setXY
  refine Prod.ext (funext fun j => ?_) rfl
  dsimp only
  by_cases h4 : j = 24
  · subst h4; rfl
  · by_cases h3 : j = 23
    · subst h3; rfl
    · simp [h3, h4]
theorem setXY_2 (τ : MT) (p q : Int × Int) : setXY (setXY τ p) q = setXY τ q := by
  unfold setXY
  refine Prod.ext (funext fun j => ?_) rfl
  dsimp only
  by_cases h3 : j = 23
  · simp [h3]
  · by_cases h4 : j = 24
    · simp [h4]
    · simp [h3, h4]
theorem rotF_rng {C : Int} : ∀ (k : Nat) (p : Int × Int), (-C ≤ p.1 ∧ p.1 ≤ C) ∧ (-C ≤ p.2 ∧ p.2 ≤ C) → (-C ≤ (rotF k p).1 ∧ (rotF k p).1 ≤ C) ∧ (-C ≤ (rotF k p).2 ∧ (rotF k p).2 ≤ C) := by
  intro k
  induction k with
  | zero => intro p h; exact h
  | succ k ih => intro p h; exact ih _ (by dsimp only; omega)
/-- columns and rows of shape x in order -/
def CR (w : Nat → Int) (x : Int) : Prop := ∀ k, 0 ≤ k → k < sltF w x → (-1000 ≤ colF w x k ∧ colF w x k ≤ 1000) ∧ -1000 ≤ rowF w x k ∧ rowF w x k ≤ 1000
theorem trnR_rng {w : Nat → Int} {x s y : Int} (h : CR w x) (hs : 0 ≤ s ∧ s < sltF w x) : (-1000 ≤ (trnR w x s y).1 ∧ (trnR w x s y).1 ≤ 1000) ∧ (-1000 ≤ (trnR w x s y).2 ∧ (trnR w x s y).2 ≤ 1000) := by
  have := h s hs.1 hs.2
  refine rotF_rng _ _ ⟨?_, this.2⟩
  dsimp only
  split <;> omega
/-- where slot s comes to if slot 0 lies on member m's cell -/
def atX (w : Nat → Int) (x y m s : Int) : Int := (trnR w x s y).1 + (celF w m % 12 - (trnR w x 0 y).1)
def atY (w : Nat → Int) (x y m s : Int) : Int := (trnR w x s y).2 + (celF w m / 12 - (trnR w x 0 y).2)
def lk1F (w : Nat → Int) (x y m s : Int) : Prop := (0 ≤ atX w x y m s ∧ atX w x y m s ≤ 11) ∧ (0 ≤ atY w x y m s ∧ atY w x y m s ≤ 9) ∧ 0 ≤ onF w (12 * atY w x y m s + atX w x y m s)
def likF (w : Nat → Int) (x y m : Int) : Prop := ∀ s, 0 ≤ s → s < sltF w x → lk1F w x y m s
def recF (w : Nat → Int) (x y : Int) : Prop := ∃ m, isM w m ∧ likF w x y m
section M18
variable {τ : MT} {m c v x y z b n dd a s : Int} {d : Nat} {Q : Option Int → MT → Prop}
theorem mc_turnsRound_38 (hy : 0 ≤ y ∧ y ≤ 7) : ∀ (j : Nat) (k : Int) (p : Int × Int) (o5 : Option AV), k + j = y % 4 → 0 ≤ k → Wm d rX3_turnsRound 38 [some (.inr 1), some (.inl x), some (.inl s), some (.inl y), some (.inl k), o5] [] (setXY τ p) (fun v t => none = v ∧ setXY τ (rotF j p) = t) := by
  intro j
  induction j with
  | zero =>
    intro k p o5 hk h0
    refine wm_iload dX3_turnsRound_38 rfl ?_
    refine wm_iload_n dX3_turnsRound_40 rfl ?_
    refine wm_iconst dX3_turnsRound_41 ?_
    refine wm_irem dX3_turnsRound_42 ⟨by omega, by omega⟩ ⟨by omega, by omega⟩ ?_
    refine wm_icmp dX3_turnsRound_43 (cB_ge ⟨by omega, by omega⟩ ⟨by omega, by omega⟩) 73 rfl (fun c43 => ?_) (fun c43 => ?_)
    ·
      refine wm_vreturn dX3_turnsRound_73 rfl ?_
      exact ⟨rfl, rfl⟩
    ·
      omega
  | succ j ih =>
    intro k p o5 hk h0
    refine wm_iload dX3_turnsRound_38 rfl ?_
    refine wm_iload_n dX3_turnsRound_40 rfl ?_
    refine wm_iconst dX3_turnsRound_41 ?_
    refine wm_irem dX3_turnsRound_42 ⟨by omega, by omega⟩ ⟨by omega, by omega⟩ ?_
    refine wm_icmp dX3_turnsRound_43 (cB_ge ⟨by omega, by omega⟩ ⟨by omega, by omega⟩) 73 rfl (fun c43 => ?_) (fun c43 => ?_)
    ·
      omega
    ·
      refine wm_aload_n dX3_turnsRound_46 rfl ?_
      refine wm_getI dX3_turnsRound_47 (kF3_219 rfl) rfl rfl ?_
      refine wm_istore dX3_turnsRound_50 rfl ?_
      refine wm_aload_n dX3_turnsRound_52 rfl ?_
      refine wm_aload_n dX3_turnsRound_53 rfl ?_
      refine wm_getI dX3_turnsRound_54 (kF3_222 rfl) rfl rfl ?_
      refine wm_ineg dX3_turnsRound_57 ?_
      refine wm_putI dX3_turnsRound_58 (kF3_219 rfl) rfl rfl (Or.inl rfl) ?_
      refine wm_aload_n dX3_turnsRound_61 rfl ?_
      refine wm_iload dX3_turnsRound_62 rfl ?_
      refine wm_putI dX3_turnsRound_64 (kF3_222 rfl) rfl rfl (Or.inl rfl) ?_
      refine wm_iinc dX3_turnsRound_67 rfl ?_
      refine wm_goto dX3_turnsRound_70 38 rfl ?_
      rw [setXY_st]
      exact ih (k + 1) (-p.2, p.1) _ (by omega) (by omega)
theorem mc_turnsRound (hx : 0 ≤ x ∧ x ≤ 2) (hs : 0 ≤ s ∧ s ≤ 9) (hy : 0 ≤ y ∧ y ≤ 7) (ha : 0 ≤ ancF (τ.2 0) x ∧ ancF (τ.2 0) x ≤ 9) : Mf 3 rX3_turnsRound [.inr 1, .inl x, .inl s, .inl y] τ none (setXY τ (trnR (τ.2 0) x s y)) := by
  intro d hd
  refine wm_aload_n dX3_turnsRound_0 rfl ?_
  refine wm_iload_n dX3_turnsRound_1 rfl ?_
  refine wm_iconst dX3_turnsRound_2 ?_
  refine wm_icmp dX3_turnsRound_3 (cB_le ⟨by omega, by omega⟩ ⟨by omega, by omega⟩) 16 rfl (fun c3 => ?_) (fun c3 => ?_)
  ·
    refine wm_aload_n dX3_turnsRound_16 rfl ?_
    refine wm_iload_n dX3_turnsRound_17 rfl ?_
    refine wm_iload_n dX3_turnsRound_18 rfl ?_
    refine wm_callv dX3_turnsRound_19 (kV3_89 rfl) rfl (mc_column hx hs ha) (by omega) rfl rfl ?_
    rintro _ _ ⟨rfl, rfl⟩
    refine wm_putI dX3_turnsRound_22 (kF3_219 rfl) rfl rfl (Or.inl rfl) ?_
    refine wm_aload_n dX3_turnsRound_25 rfl ?_
    refine wm_aload_n dX3_turnsRound_26 rfl ?_
    refine wm_iload_n dX3_turnsRound_27 rfl ?_
    refine wm_iload_n dX3_turnsRound_28 rfl ?_
    refine wm_callv dX3_turnsRound_29 (kV3_92 rfl) rfl (mc_rowOf hx hs ha) (by omega) rfl rfl ?_
    rintro _ _ ⟨rfl, rfl⟩
    refine wm_putI dX3_turnsRound_32 (kF3_222 rfl) rfl rfl (Or.inl rfl) ?_
    refine wm_iconst dX3_turnsRound_35 ?_
    refine wm_istore dX3_turnsRound_36 rfl ?_
    rw [setXY_0, trnR, if_neg (by omega)]
    exact mc_turnsRound_38 hy (y % 4).toNat 0 _ _ (by omega) (by omega)
  ·
    refine wm_aload_n dX3_turnsRound_6 rfl ?_
    refine wm_iload_n dX3_turnsRound_7 rfl ?_
    refine wm_iload_n dX3_turnsRound_8 rfl ?_
    refine wm_callv dX3_turnsRound_9 (kV3_89 rfl) rfl (mc_column hx hs ha) (by omega) rfl rfl ?_
    rintro _ _ ⟨rfl, rfl⟩
    refine wm_ineg dX3_turnsRound_12 ?_
    refine wm_goto dX3_turnsRound_13 22 rfl ?_
    refine wm_putI dX3_turnsRound_22 (kF3_219 rfl) rfl rfl (Or.inl rfl) ?_
    refine wm_aload_n dX3_turnsRound_25 rfl ?_
    refine wm_aload_n dX3_turnsRound_26 rfl ?_
    refine wm_iload_n dX3_turnsRound_27 rfl ?_
    refine wm_iload_n dX3_turnsRound_28 rfl ?_
    refine wm_callv dX3_turnsRound_29 (kV3_92 rfl) rfl (mc_rowOf hx hs ha) (by omega) rfl rfl ?_
    rintro _ _ ⟨rfl, rfl⟩
    refine wm_putI dX3_turnsRound_32 (kF3_222 rfl) rfl rfl (Or.inl rfl) ?_
    refine wm_iconst dX3_turnsRound_35 ?_
    refine wm_istore dX3_turnsRound_36 rfl ?_
    rw [setXY_0, trnR, if_pos (by omega)]
    exact mc_turnsRound_38 hy (y % 4).toNat 0 _ _ (by omega) (by omega)
theorem mc_isLike_42 {C : Int} (hC : 300 ≤ C ∧ C < 1999999000) (hb : bdW C (τ.2 0)) (hS : WS (τ.2 0)) (hd : 4 ≤ d) (hx : 0 ≤ x ∧ x ≤ 2) (hy : 0 ≤ y ∧ y ≤ 7) (hm : isM (τ.2 0) m) (hsh : (0 ≤ sltF (τ.2 0) x ∧ sltF (τ.2 0) x ≤ 10) ∧ (0 ≤ ancF (τ.2 0) x ∧ ancF (τ.2 0) x ≤ 9)) (hcr : CR (τ.2 0) x) : ∀ (j : Nat) (s : Int) (p : Int × Int) (o7 o8 : Option AV), s + j = sltF (τ.2 0) x → 0 ≤ s → (∀ s', 0 ≤ s' → s' < s → lk1F (τ.2 0) x y m s') → Wm d rX3_isLike 42 [some (.inr 1), some (.inl x), some (.inl y), some (.inl m), some (.inl (celF (τ.2 0) m % 12 - (trnR (τ.2 0) x 0 y).1)), some (.inl (celF (τ.2 0) m / 12 - (trnR (τ.2 0) x 0 y).2)), some (.inl s), o7, o8] [] (setXY τ p) (fun v t => (∃ q, t = setXY τ q) ∧ ((likF (τ.2 0) x y m ∧ some 1 = v) ∨ (¬ likF (τ.2 0) x y m ∧ some 0 = v))) := by
  have hr := hb.rng (by omega)
  intro j
  induction j with
  | zero =>
    intro s p o7 o8 hs h0 hok
    refine wm_iload dX3_isLike_42 rfl ?_
    refine wm_aload_n dX3_isLike_44 rfl ?_
    refine wm_iload_n dX3_isLike_45 rfl ?_
    refine wm_callv dX3_isLike_46 (kV3_101 rfl) rfl (mc_slots (τ := setXY τ p) hx) (by omega) rfl rfl ?_
    rintro _ _ ⟨rfl, rfl⟩
    refine wm_icmp dX3_isLike_49 (cB_ge ⟨by omega, by omega⟩ (show rng (sltF (τ.2 0) x) by omega)) 123 rfl (fun c49 => ?_) (fun c49 => ?_)
    ·
      refine wm_iconst dX3_isLike_123 ?_
      refine wm_breturn dX3_isLike_124 rfl (by omega) ?_
      exact ⟨⟨p, rfl⟩, Or.inl ⟨fun s' a1 a2 => hok s' a1 (by omega), rfl⟩⟩
    ·
      exact absurd (show sltF (τ.2 0) x ≤ s by omega) c49
  | succ j ih =>
    intro s p o7 o8 hs h0 hok
    have hmm : 0 ≤ m ∧ m ≤ 9 := by have h1 := hm.1; have := hS.1; omega
    have hcm := hS.2.2.1 m hmm.1 hmm.2
    have t0 := trnR_rng (y := y) hcr (s := 0) (by omega)
    have t1 := trnR_rng (y := y) hcr (s := s) (by omega)
    have hpos := hm.2
    have hcd : celF (τ.2 0) m = τ.2 0 (12 + 6 * m + 0).toNat := rfl
    refine wm_iload dX3_isLike_42 rfl ?_
    refine wm_aload_n dX3_isLike_44 rfl ?_
    refine wm_iload_n dX3_isLike_45 rfl ?_
    refine wm_callv dX3_isLike_46 (kV3_101 rfl) rfl (mc_slots (τ := setXY τ p) hx) (by omega) rfl rfl ?_
    rintro _ _ ⟨rfl, rfl⟩
    refine wm_icmp dX3_isLike_49 (cB_ge ⟨by omega, by omega⟩ (show rng (sltF (τ.2 0) x) by omega)) 123 rfl (fun c49 => ?_) (fun c49 => ?_)
    ·
      exact absurd c49 (show ¬ sltF (τ.2 0) x ≤ s by omega)
    ·
      refine wm_aload_n dX3_isLike_52 rfl ?_
      refine wm_iload_n dX3_isLike_53 rfl ?_
      refine wm_iload dX3_isLike_54 rfl ?_
      refine wm_iload_n dX3_isLike_56 rfl ?_
      refine wm_callv dX3_isLike_57 (kV3_225 rfl) rfl (mc_turnsRound (τ := setXY τ p) hx (by omega) hy hsh.2) (by omega) rfl rfl ?_
      rintro _ _ ⟨rfl, rfl⟩
      rw [setXY_2]
      refine wm_aload_n dX3_isLike_60 rfl ?_
      refine wm_getI dX3_isLike_61 (kF3_219 rfl) rfl rfl ?_
      refine wm_iload dX3_isLike_64 rfl ?_
      refine wm_iadd dX3_isLike_66 ?_
      refine wm_istore dX3_isLike_67 rfl ?_
      refine wm_aload_n dX3_isLike_69 rfl ?_
      refine wm_getI dX3_isLike_70 (kF3_222 rfl) rfl rfl ?_
      refine wm_iload dX3_isLike_73 rfl ?_
      refine wm_iadd dX3_isLike_75 ?_
      refine wm_istore dX3_isLike_76 rfl ?_
      refine wm_iload dX3_isLike_78 rfl ?_
      refine wm_iconst dX3_isLike_80 ?_
      refine wm_bipush dX3_isLike_81 (by decide) ?_
      refine wm_calls dX3_isLike_83 (kS3_57 rfl) (kSn3_57 rfl) (mc_in (show rng (atX (τ.2 0) x y m s) by unfold atX; omega) (by omega) (by omega)) (by omega) rfl rfl ?_
      rintro _ _ ⟨rfl, ⟨h83, rfl⟩ | ⟨h83, rfl⟩⟩
      ·
        refine wm_ifF dX3_isLike_86 (by decide) 115 rfl ?_
        refine wm_iload dX3_isLike_89 rfl ?_
        refine wm_iconst dX3_isLike_91 ?_
        refine wm_bipush dX3_isLike_92 (by decide) ?_
        refine wm_calls dX3_isLike_94 (kS3_57 rfl) (kSn3_57 rfl) (mc_in (show rng (atY (τ.2 0) x y m s) by unfold atY; omega) (by omega) (by omega)) (by omega) rfl rfl ?_
        rintro _ _ ⟨rfl, ⟨h94, rfl⟩ | ⟨h94, rfl⟩⟩
        ·
          refine wm_ifF dX3_isLike_97 (by decide) 115 rfl ?_
          refine wm_aload_n dX3_isLike_100 rfl ?_
          refine wm_bipush dX3_isLike_101 (by decide) ?_
          refine wm_iload dX3_isLike_103 rfl ?_
          refine wm_imul dX3_isLike_105 ?_
          refine wm_iload dX3_isLike_106 rfl ?_
          refine wm_iadd dX3_isLike_108 ?_
          refine wm_callv dX3_isLike_109 (kV3_121 rfl) rfl (mc_on (τ := setXY τ (trnR (τ.2 0) x s y)) (show rng (12 * atY (τ.2 0) x y m s + atX (τ.2 0) x y m s) by omega) hS.1 hr) (by omega) rfl rfl ?_
          rintro _ _ ⟨rfl, rfl⟩
          refine wm_if dX3_isLike_112 (cB_ge (show rng (onF (τ.2 0) (12 * atY (τ.2 0) x y m s + atX (τ.2 0) x y m s)) by have := onF_rng (τ.2 0) (12 * atY (τ.2 0) x y m s + atX (τ.2 0) x y m s); omega) ⟨by omega, by omega⟩) 117 rfl (fun c112 => ?_) (fun c112 => ?_)
          ·
            refine wm_iinc dX3_isLike_117 rfl ?_
            refine wm_goto dX3_isLike_120 42 rfl ?_
            exact ih (s + 1) (trnR (τ.2 0) x s y) _ _ (by omega) (by omega) (fun s' a1 a2 => by
              by_cases e : s' = s
              · subst e; exact ⟨h83, h94, c112⟩
              · exact hok s' a1 (by omega))
          ·
            refine wm_iconst dX3_isLike_115 ?_
            refine wm_breturn dX3_isLike_116 rfl (by omega) ?_
            exact ⟨⟨_, rfl⟩, Or.inr ⟨fun h => c112 (h s h0 (by omega)).2.2, rfl⟩⟩
        ·
          refine wm_ifT dX3_isLike_97 (by decide) 115 rfl ?_
          refine wm_iconst dX3_isLike_115 ?_
          refine wm_breturn dX3_isLike_116 rfl (by omega) ?_
          exact ⟨⟨_, rfl⟩, Or.inr ⟨fun h => h94 (h s h0 (by omega)).2.1, rfl⟩⟩
      ·
        refine wm_ifT dX3_isLike_86 (by decide) 115 rfl ?_
        refine wm_iconst dX3_isLike_115 ?_
        refine wm_breturn dX3_isLike_116 rfl (by omega) ?_
        exact ⟨⟨_, rfl⟩, Or.inr ⟨fun h => h83 (h s h0 (by omega)).1, rfl⟩⟩
theorem mc_isLike {C : Int} (hC : 300 ≤ C ∧ C < 1999999000) (hb : bdW C (τ.2 0)) (hS : WS (τ.2 0)) (hx : 0 ≤ x ∧ x ≤ 2) (hy : 0 ≤ y ∧ y ≤ 7) (hm : isM (τ.2 0) m) (hsh : (0 ≤ sltF (τ.2 0) x ∧ sltF (τ.2 0) x ≤ 10) ∧ (0 ≤ ancF (τ.2 0) x ∧ ancF (τ.2 0) x ≤ 9)) (hcr : CR (τ.2 0) x) : Mt 4 rX3_isLike [.inr 1, .inl x, .inl y, .inl m] τ (fun v t => (∃ q, t = setXY τ q) ∧ ((likF (τ.2 0) x y m ∧ some 1 = v) ∨ (¬ likF (τ.2 0) x y m ∧ some 0 = v))) := by
  intro d hd
  have hmm : 0 ≤ m ∧ m ≤ 9 := by have h1 := hm.1; have := hS.1; omega
  have hcm := hS.2.2.1 m hmm.1 hmm.2
  have hpos := hm.2
  have hcd : celF (τ.2 0) m = τ.2 0 (12 + 6 * m + 0).toNat := rfl
  have hcq : ∀ p, celF ((setXY τ p).2 0) m = τ.2 0 (12 + 6 * m + 0).toNat := fun _ => rfl
  refine wm_aload_n dX3_isLike_0 rfl ?_
  refine wm_iload_n dX3_isLike_1 rfl ?_
  refine wm_iconst dX3_isLike_2 ?_
  refine wm_iload_n dX3_isLike_3 rfl ?_
  refine wm_callv dX3_isLike_4 (kV3_225 rfl) rfl (mc_turnsRound hx (by omega) hy hsh.2) (by omega) rfl rfl ?_
  rintro _ _ ⟨rfl, rfl⟩
  refine wm_aload_n dX3_isLike_7 rfl ?_
  refine wm_iload_n dX3_isLike_8 rfl ?_
  refine wm_iconst dX3_isLike_9 ?_
  refine wm_callv dX3_isLike_10 (kV3_61 rfl) rfl (mc_of (by omega)) (by omega) rfl rfl ?_
  rintro _ _ ⟨rfl, rfl⟩
  refine wm_bipush dX3_isLike_13 (by decide) ?_
  refine wm_irem dX3_isLike_15 (by show 0 ≤ celF (τ.2 0) m ∧ celF (τ.2 0) m < 2147483648; omega) ⟨by omega, by omega⟩ ?_
  refine wm_aload_n dX3_isLike_16 rfl ?_
  refine wm_getI dX3_isLike_17 (kF3_219 rfl) rfl rfl ?_
  refine wm_isub dX3_isLike_20 ?_
  refine wm_istore dX3_isLike_21 rfl ?_
  refine wm_aload_n dX3_isLike_23 rfl ?_
  refine wm_iload_n dX3_isLike_24 rfl ?_
  refine wm_iconst dX3_isLike_25 ?_
  refine wm_callv dX3_isLike_26 (kV3_61 rfl) rfl (mc_of (by omega)) (by omega) rfl rfl ?_
  rintro _ _ ⟨rfl, rfl⟩
  refine wm_bipush dX3_isLike_29 (by decide) ?_
  refine wm_idiv dX3_isLike_31 (by show 0 ≤ celF (τ.2 0) m ∧ celF (τ.2 0) m < 2147483648; omega) ⟨by omega, by omega⟩ ?_
  refine wm_aload_n dX3_isLike_32 rfl ?_
  refine wm_getI dX3_isLike_33 (kF3_222 rfl) rfl rfl ?_
  refine wm_isub dX3_isLike_36 ?_
  refine wm_istore dX3_isLike_37 rfl ?_
  refine wm_iconst dX3_isLike_39 ?_
  refine wm_istore dX3_isLike_40 rfl ?_
  exact mc_isLike_42 hC hb hS hd hx hy hm hsh hcr (sltF (τ.2 0) x).toNat 0 _ _ _ (by omega) (by omega) (fun s a1 a2 => by omega)
/-- some way from y on by which members stand as the shape -/
theorem mc_recognized_44 {C : Int} (hC : 300 ≤ C ∧ C < 1999999000) (hb : bdW C (τ.2 0)) (hS : WS (τ.2 0)) (hd : 5 ≤ d) (hx : 0 ≤ x ∧ x ≤ 2) (hy : 0 ≤ y ∧ y ≤ 7) (hsh : (0 ≤ sltF (τ.2 0) x ∧ sltF (τ.2 0) x ≤ 10) ∧ (0 ≤ ancF (τ.2 0) x ∧ ancF (τ.2 0) x ≤ 9)) (hcr : CR (τ.2 0) x) : ∀ (j : Nat) (m : Int) (t : MT), m + j = 10 → 0 ≤ m → (t = τ ∨ ∃ q, t = setXY τ q) → (∀ m', 0 ≤ m' → m' < m → ¬ (isM (τ.2 0) m' ∧ likF (τ.2 0) x y m')) →
    (∀ t', (t' = τ ∨ ∃ q, t' = setXY τ q) → recF (τ.2 0) x y → Q (some y) t') →
    (∀ t', (t' = τ ∨ ∃ q, t' = setXY τ q) → ¬ recF (τ.2 0) x y → Wm d rX3_recognized 76 [some (.inr 1), some (.inl x), some (.inl y), some (.inl 10)] [] t' Q) →
    Wm d rX3_recognized 44 [some (.inr 1), some (.inl x), some (.inl y), some (.inl m)] [] t Q := by
  intro j
  induction j with
  | zero =>
    intro m t hm h0 ht hno K1 K2
    have e : m = 10 := by omega
    subst e
    refine wm_iload_n dX3_recognized_44 rfl ?_
    refine wm_bipush dX3_recognized_45 (by decide) ?_
    refine wm_icmp dX3_recognized_47 (cB_ge ⟨by omega, by omega⟩ ⟨by omega, by omega⟩) 76 rfl (fun c47 => ?_) (fun c47 => ?_)
    ·
      exact K2 t ht (fun ⟨m, h1, h2⟩ => hno m h1.1.1 (by have := h1.1.2; have := hS.1; omega) ⟨h1, h2⟩)
    ·
      omega
  | succ j ih =>
    intro m t hm h0 ht hno K1 K2
    have h2 : t.2 = τ.2 := by
      rcases ht with rfl | ⟨q, rfl⟩
      · rfl
      · rfl
    have hw : t.2 0 = τ.2 0 := by rw [h2]
    have hex : ∀ q, setXY t q = setXY τ q := fun q => by
      rcases ht with rfl | ⟨p, rfl⟩
      · rfl
      · exact setXY_2 τ p q
    have hn : ∀ t', (t' = τ ∨ ∃ q, t' = setXY τ q) → ¬ (isM (τ.2 0) m ∧ likF (τ.2 0) x y m) → Wm d rX3_recognized 70 [some (.inr 1), some (.inl x), some (.inl y), some (.inl m)] [] t' Q := fun t' ht' hq => by
      refine wm_iinc dX3_recognized_70 rfl ?_
      refine wm_goto dX3_recognized_73 44 rfl ?_
      exact ih (m + 1) t' (by omega) (by omega) ht' (fun m' a1 a2 => by
        by_cases e : m' = m
        · subst e; exact hq
        · exact hno m' a1 (by omega)) K1 K2
    refine wm_iload_n dX3_recognized_44 rfl ?_
    refine wm_bipush dX3_recognized_45 (by decide) ?_
    refine wm_icmp dX3_recognized_47 (cB_ge ⟨by omega, by omega⟩ ⟨by omega, by omega⟩) 76 rfl (fun c47 => ?_) (fun c47 => ?_)
    ·
      omega
    ·
      refine wm_aload_n dX3_recognized_50 rfl ?_
      refine wm_iload_n dX3_recognized_51 rfl ?_
      refine wm_callv dX3_recognized_52 (kV3_65 rfl) rfl (mc_isMember (by omega) (by rw [hw]; exact hS.1) (by rw [hw]; exact hb.rng (by omega))) (by omega) rfl rfl ?_
      rintro _ _ ⟨rfl, ⟨h52, rfl⟩ | ⟨h52, rfl⟩⟩
      rw [hw] at h52
      ·
        refine wm_ifF dX3_recognized_55 (by decide) 70 rfl ?_
        refine wm_aload_n dX3_recognized_58 rfl ?_
        refine wm_iload_n dX3_recognized_59 rfl ?_
        refine wm_iload_n dX3_recognized_60 rfl ?_
        refine wm_iload_n dX3_recognized_61 rfl ?_
        refine wm_callv dX3_recognized_62 (kV3_228 rfl) rfl (mc_isLike (C := C) hC (by rw [hw]; exact hb) (by rw [hw]; exact hS) hx hy (by rw [hw]; exact h52) (by rw [hw]; exact hsh) (by rw [hw]; exact hcr)) (by omega) rfl rfl ?_
        rintro _ _ ⟨⟨q, rfl⟩, ⟨hl, rfl⟩ | ⟨hl, rfl⟩⟩
        ·
          refine wm_ifF dX3_recognized_65 (by decide) 70 rfl ?_
          refine wm_iload_n dX3_recognized_68 rfl ?_
          refine wm_ireturn dX3_recognized_69 rfl ?_
          rw [hw] at hl
          exact K1 _ (Or.inr ⟨q, hex q⟩) ⟨m, h52, hl⟩
        ·
          refine wm_ifT dX3_recognized_65 (by decide) 70 rfl ?_
          rw [hw] at hl
          exact hn _ (Or.inr ⟨q, hex q⟩) (fun h => hl h.2)
      ·
        refine wm_ifT dX3_recognized_55 (by decide) 70 rfl ?_
        rw [hw] at h52
        exact hn t ht (fun h => h52 h.1)
/-- the first way -/
noncomputable def recgF (w : Nat → Int) (x : Int) : Nat → Int → Int
  | 0, _ => -5
  | k + 1, y => @ite Int (recF w x y) (Classical.propDecidable _) y (recgF w x k (y + 1))
theorem recg_y {w : Nat → Int} {x y : Int} (h : recF w x y) (k : Nat) : recgF w x (k + 1) y = y := if_pos h
theorem recg_n {w : Nat → Int} {x y : Int} (h : ¬ recF w x y) (k : Nat) : recgF w x (k + 1) y = recgF w x k (y + 1) := if_neg h
theorem mc_recognized_24 {C : Int} (hC : 300 ≤ C ∧ C < 1999999000) (hb : bdW C (τ.2 0)) (hS : WS (τ.2 0)) (hd : 5 ≤ d) (hx : 0 ≤ x ∧ x ≤ 2) (hsh : (0 ≤ sltF (τ.2 0) x ∧ sltF (τ.2 0) x ≤ 10) ∧ (0 ≤ ancF (τ.2 0) x ∧ ancF (τ.2 0) x ≤ 9)) (hcr : CR (τ.2 0) x) (hmr : rng (manyF (τ.2 0))) : ∀ (j : Nat) (y : Int) (t : MT) (o3 : Option AV), y + j = 8 → 0 ≤ y → (t = τ ∨ ∃ q, t = setXY τ q) → Wm d rX3_recognized 24 [some (.inr 1), some (.inl x), some (.inl y), o3] [] t (fun v t' => (t' = τ ∨ ∃ q, t' = setXY τ q) ∧ some (if manyF (τ.2 0) = sltF (τ.2 0) x then recgF (τ.2 0) x j y else -5) = v) := by
  have hr := hb.rng (by omega)
  intro j
  induction j with
  | zero =>
    intro y t o3 hy h0 ht
    refine wm_iload_n dX3_recognized_24 rfl ?_
    refine wm_bipush dX3_recognized_25 (by decide) ?_
    refine wm_icmp dX3_recognized_27 (cB_ge ⟨by omega, by omega⟩ ⟨by omega, by omega⟩) 82 rfl (fun c27 => ?_) (fun c27 => ?_)
    ·
      refine wm_bipush dX3_recognized_82 (by decide) ?_
      refine wm_ireturn dX3_recognized_84 rfl ?_
      exact ⟨ht, by rw [recgF]; split <;> rfl⟩
    ·
      omega
  | succ j ih =>
    intro y t o3 hy h0 ht
    have hw : t.2 0 = τ.2 0 := by
      rcases ht with rfl | ⟨q, rfl⟩
      · rfl
      · rfl
    refine wm_iload_n dX3_recognized_24 rfl ?_
    refine wm_bipush dX3_recognized_25 (by decide) ?_
    refine wm_icmp dX3_recognized_27 (cB_ge ⟨by omega, by omega⟩ ⟨by omega, by omega⟩) 82 rfl (fun c27 => ?_) (fun c27 => ?_)
    ·
      omega
    ·
      refine wm_aload_n dX3_recognized_30 rfl ?_
      refine wm_callv dX3_recognized_31 (kV3_157 rfl) rfl (mc_members (by rw [hw]; exact hS.1) (by rw [hw]; exact hr)) (by omega) rfl rfl ?_
      rintro _ _ ⟨rfl, rfl⟩
      rw [hw]
      refine wm_aload_n dX3_recognized_34 rfl ?_
      refine wm_iload_n dX3_recognized_35 rfl ?_
      refine wm_callv dX3_recognized_36 (kV3_101 rfl) rfl (mc_slots hx) (by omega) rfl rfl ?_
      rintro _ _ ⟨rfl, rfl⟩
      rw [hw]
      refine wm_icmp dX3_recognized_39 (cB_ne ⟨by omega, by omega⟩ ⟨by omega, by omega⟩) 82 rfl (fun c39 => ?_) (fun c39 => ?_)
      ·
        refine wm_bipush dX3_recognized_82 (by decide) ?_
        refine wm_ireturn dX3_recognized_84 rfl ?_
        exact ⟨ht, by rw [if_neg c39]⟩
      ·
        refine wm_iconst dX3_recognized_42 ?_
        refine wm_istore_n dX3_recognized_43 rfl ?_
        refine mc_recognized_44 hC hb hS hd hx ⟨h0, by omega⟩ hsh hcr 10 0 t (by omega) (by omega) ht (fun m a1 a2 => by omega) (fun t' a1 a2 => ⟨a1, by rw [if_pos (by omega), recg_y a2]⟩) (fun t' a1 a2 => ?_)
        refine wm_iinc dX3_recognized_76 rfl ?_
        refine wm_goto dX3_recognized_79 24 rfl ?_
        refine (ih (y + 1) t' _ (by omega) (by omega) a1).mono (fun v t h => ⟨h.1, ?_⟩)
        rw [← h.2, recg_n a2]
theorem mc_recognized {C : Int} (hx : rng x) (hC : 300 ≤ C ∧ C < 1999999000) (hb : bdW C (τ.2 0)) (hS : WS (τ.2 0)) (hsh : SH (τ.2 0)) (hcr : ∀ x, 0 ≤ x → x ≤ 2 → CR (τ.2 0) x) (hmr : rng (manyF (τ.2 0))) : Mt 5 rX3_recognized [.inr 1, .inl x] τ (fun v t => (¬ (0 ≤ x ∧ x ≤ 2) ∧ some (-1) = v ∧ t = τ) ∨ ((0 ≤ x ∧ x ≤ 2) ∧ ((sltF (τ.2 0) x = 0 ∧ some (-3) = v ∧ t = τ) ∨ (¬ sltF (τ.2 0) x = 0 ∧ (t = τ ∨ ∃ q, t = setXY τ q) ∧ some (if manyF (τ.2 0) = sltF (τ.2 0) x then recgF (τ.2 0) x 8 0 else -5) = v)))) := by
  intro d hd
  refine wm_iload_n dX3_recognized_0 rfl ?_
  refine wm_iconst dX3_recognized_1 ?_
  refine wm_iconst dX3_recognized_2 ?_
  refine wm_calls dX3_recognized_3 (kS3_57 rfl) (kSn3_57 rfl) (mc_in hx (by omega) (by omega)) (by omega) rfl rfl ?_
  rintro _ _ ⟨rfl, ⟨h3, rfl⟩ | ⟨h3, rfl⟩⟩
  ·
    refine wm_ifT dX3_recognized_6 (by decide) 11 rfl ?_
    refine wm_aload_n dX3_recognized_11 rfl ?_
    refine wm_iload_n dX3_recognized_12 rfl ?_
    refine wm_callv dX3_recognized_13 (kV3_101 rfl) rfl (mc_slots h3) (by omega) rfl rfl ?_
    rintro _ _ ⟨rfl, rfl⟩
    have hss := hsh x h3.1 h3.2
    refine wm_if dX3_recognized_16 (cB_ne ⟨by omega, by omega⟩ ⟨by omega, by omega⟩) 22 rfl (fun c16 => ?_) (fun c16 => ?_)
    ·
      refine wm_iconst dX3_recognized_22 ?_
      refine wm_istore_n dX3_recognized_23 rfl ?_
      exact (mc_recognized_24 hC hb hS hd h3 hss (hcr x h3.1 h3.2) hmr 8 0 τ _ (by omega) (by omega) (Or.inl rfl)).mono (fun v t h => Or.inr ⟨h3, Or.inr ⟨c16, h.1, h.2⟩⟩)
    ·
      refine wm_bipush dX3_recognized_19 (by decide) ?_
      refine wm_ireturn dX3_recognized_21 rfl ?_
      exact Or.inr ⟨h3, Or.inl ⟨by omega, rfl, rfl⟩⟩
  ·
    refine wm_ifF dX3_recognized_6 (by decide) 11 rfl ?_
    refine wm_iconst dX3_recognized_9 ?_
    refine wm_ireturn dX3_recognized_10 rfl ?_
    exact Or.inl ⟨h3, rfl, rfl⟩
end M18
