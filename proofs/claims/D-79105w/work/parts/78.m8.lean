/-! THE MODEL'S METHODS, 8: rows kept, rounds made -/
set_option maxRecDepth 100000
def shR (τ : MT) (k : Int) : MT := (τ.1, fun a i => if a = 0 ∧ 258 ≤ (i : Int) ∧ (i : Int) < 258 * k then τ.2 0 (i + 258) else τ.2 a i)
theorem shR_1 (τ : MT) : shR τ 1 = τ := by
  unfold shR
  refine Prod.ext rfl (funext fun a => funext fun i => ?_)
  dsimp only
  rw [if_neg (by omega)]
theorem shR_step (τ : MT) {k : Int} (hk : 1 ≤ k) : copyR (shR τ k) (k + 1) k 0 = shR τ (k + 1) := by
  unfold copyR shR
  refine Prod.ext rfl (funext fun a => funext fun i => ?_)
  dsimp only
  by_cases ha : a = 0
  · subst ha
    simp only [true_and]
    by_cases h1 : 258 * k + 0 ≤ (i : Int) ∧ (i : Int) < 258 * k + 258
    · rw [if_pos h1, if_neg (by omega), if_pos (by omega)]
      exact congrArg (τ.2 0) (by omega)
    · rw [if_neg h1]
      by_cases h2 : 258 ≤ (i : Int) ∧ (i : Int) < 258 * k
      · rw [if_pos h2, if_pos (by omega)]
      · rw [if_neg h2, if_neg (by omega)]
  · simp [ha]
def keepR (τ : MT) : MT := if τ.1 1 = 8 then copyR (stI (stI (shR τ 8) 1 7) 1 8) 0 8 0 else copyR (stI τ 1 (τ.1 1 + 1)) 0 (τ.1 1 + 1) 0
section M12
variable {τ : MT} {m c v x y z b n dd : Int} {d : Nat} {Q : Option Int → MT → Prop}
theorem mc_keeps_11 (hd : 1 ≤ d) : ∀ (n : Nat) (k : Int) (τ0 : MT), k + n = 8 → 1 ≤ k → Wm d rX3_keeps 31 [some (.inr 1), some (.inl 8)] [] (shR τ0 8) Q → Wm d rX3_keeps 11 [some (.inr 1), some (.inl k)] [] (shR τ0 k) Q := by
  intro n
  induction n with
  | zero =>
    intro k τ0 hk h0 K
    have e : k = 8 := by omega
    subst e
    refine wm_iload_n dX3_keeps_11 rfl ?_
    refine wm_bipush dX3_keeps_12 (by decide) ?_
    refine wm_icmp dX3_keeps_14 (cB_ge ⟨by omega, by omega⟩ ⟨by omega, by omega⟩) 31 rfl (fun c14 => ?_) (fun c14 => ?_)
    ·
      exact K
    ·
      omega
  | succ n ih =>
    intro k τ0 hk h0 K
    refine wm_iload_n dX3_keeps_11 rfl ?_
    refine wm_bipush dX3_keeps_12 (by decide) ?_
    refine wm_icmp dX3_keeps_14 (cB_ge ⟨by omega, by omega⟩ ⟨by omega, by omega⟩) 31 rfl (fun c14 => ?_) (fun c14 => ?_)
    ·
      omega
    ·
      refine wm_aload_n dX3_keeps_17 rfl ?_
      refine wm_iload_n dX3_keeps_18 rfl ?_
      refine wm_iconst dX3_keeps_19 ?_
      refine wm_iadd dX3_keeps_20 ?_
      refine wm_iload_n dX3_keeps_21 rfl ?_
      refine wm_callv dX3_keeps_22 (kV3_53 rfl) rfl (mc_copies (x := k + 1) (y := k) (by omega) (by omega) (by omega)) (by omega) rfl rfl ?_
      rintro _ _ ⟨rfl, rfl⟩
      refine wm_iinc dX3_keeps_25 rfl ?_
      refine wm_goto dX3_keeps_28 11 rfl ?_
      rw [shR_step τ0 h0]
      exact ih (k + 1) τ0 (by omega) (by omega) K
theorem mc_keeps (hc : 0 ≤ τ.1 1 ∧ τ.1 1 ≤ 8) : Mf 1 rX3_keeps [.inr 1] τ none (keepR τ) := by
  intro d hd
  have a1 : ∀ (t : MT) (v : Int), (stI t 1 v).1 1 = v := fun t v => by simp [stI]
  refine wm_aload_n dX3_keeps_0 rfl ?_
  refine wm_getI dX3_keeps_1 (kF3_49 rfl) rfl rfl ?_
  refine wm_bipush dX3_keeps_4 (by decide) ?_
  refine wm_icmp dX3_keeps_6 (cB_ne ⟨by omega, by omega⟩ ⟨by omega, by omega⟩) 41 rfl (fun c6 => ?_) (fun c6 => ?_)
  ·
    refine wm_aload_n dX3_keeps_41 rfl ?_
    refine wm_dup dX3_keeps_42 ?_
    refine wm_getI dX3_keeps_43 (kF3_49 rfl) rfl rfl ?_
    refine wm_iconst dX3_keeps_46 ?_
    refine wm_iadd dX3_keeps_47 ?_
    refine wm_putI dX3_keeps_48 (kF3_49 rfl) rfl rfl (Or.inl rfl) ?_
    refine wm_aload_n dX3_keeps_51 rfl ?_
    refine wm_iconst dX3_keeps_52 ?_
    refine wm_aload_n dX3_keeps_53 rfl ?_
    refine wm_getI dX3_keeps_54 (kF3_49 rfl) rfl rfl ?_
    refine wm_callv dX3_keeps_57 (kV3_53 rfl) rfl (mc_copies (by omega) (by rw [a1]; omega) (by rw [a1]; omega)) (by omega) rfl rfl ?_
    rintro _ _ ⟨rfl, rfl⟩
    refine wm_vreturn dX3_keeps_60 rfl ?_
    exact ⟨rfl, by rw [keepR, if_neg (by omega), a1]⟩
  ·
    refine wm_iconst dX3_keeps_9 ?_
    refine wm_istore_n dX3_keeps_10 rfl ?_
    have h8 : τ.1 1 = 8 := by omega
    have K : Wm d rX3_keeps 31 [some (.inr 1), some (.inl 8)] [] (shR τ 8) (fun r t => none = r ∧ keepR τ = t) := by
      refine wm_aload_n dX3_keeps_31 rfl ?_
      refine wm_dup dX3_keeps_32 ?_
      refine wm_getI dX3_keeps_33 (kF3_49 rfl) rfl rfl ?_
      refine wm_iconst dX3_keeps_36 ?_
      refine wm_isub dX3_keeps_37 ?_
      rw [show (shR τ 8).1 1 - 1 = 7 by show τ.1 1 - 1 = 7; omega]
      refine wm_putI dX3_keeps_38 (kF3_49 rfl) rfl rfl (Or.inl rfl) ?_
      refine wm_aload_n dX3_keeps_41 rfl ?_
      refine wm_dup dX3_keeps_42 ?_
      refine wm_getI dX3_keeps_43 (kF3_49 rfl) rfl rfl ?_
      refine wm_iconst dX3_keeps_46 ?_
      refine wm_iadd dX3_keeps_47 ?_
      rw [a1]
      refine wm_putI dX3_keeps_48 (kF3_49 rfl) rfl rfl (Or.inl rfl) ?_
      refine wm_aload_n dX3_keeps_51 rfl ?_
      refine wm_iconst dX3_keeps_52 ?_
      refine wm_aload_n dX3_keeps_53 rfl ?_
      refine wm_getI dX3_keeps_54 (kF3_49 rfl) rfl rfl ?_
      rw [a1]
      refine wm_callv dX3_keeps_57 (kV3_53 rfl) rfl (mc_copies (x := 0) (y := 8) (by omega) (by omega) (by omega)) (by omega) rfl rfl ?_
      rintro _ _ ⟨rfl, rfl⟩
      refine wm_vreturn dX3_keeps_60 rfl ?_
      exact ⟨rfl, by rw [keepR, if_pos h8]; rfl⟩
    have K2 := mc_keeps_11 hd 7 1 τ (by omega) (by omega) K
    rw [shR_1] at K2
    exact K2
def rndsF : Nat → (Nat → Int) → (Nat → Int)
  | 0, w => w
  | k + 1, w => rndsF k (roundF w)
def cwF (w : Nat → Int) (m : Int) : Int := if isM w m then celF w m else -1
def movF (w' : Nat → Int) (cw : Int → Int) : Nat → Int → Int
  | 0, _ => 0
  | k + 1, m => (if isM w' m ∧ ¬ celF w' m = cw m then 1 else 0) + movF w' cw k (m + 1)
/-- what rounds may write -/
def FrM (τ t : MT) : Prop := (∀ a, ¬ (a = 0 ∨ a = 3 ∨ a = 4 ∨ a = 5 ∨ a = 6 ∨ a = 7 ∨ a = 10 ∨ a = 11 ∨ a = 12 ∨ a = 13) → t.2 a = τ.2 a) ∧ ∀ j, j ≠ 8 → j ≠ 9 → t.1 j = τ.1 j
theorem FrR.mm {τ t : MT} (h : FrR τ t) : FrM τ t := ⟨fun a ha => h.1 a (by omega), h.2⟩
theorem FrM.tr {a b c : MT} (h : FrM a b) (k : FrM b c) : FrM a c := ⟨fun x hx => (k.1 x hx).trans (h.1 x hx), fun j h8 h9 => (k.2 j h8 h9).trans (h.2 j h8 h9)⟩
theorem FrM.rf {a : MT} : FrM a a := ⟨fun _ _ => rfl, fun _ _ _ => rfl⟩
theorem mc_makes_2 {w : Nat → Int} (hd : 2 ≤ d) (h0 : 0 ≤ w 0 ∧ w 0 ≤ 10) (hr : ∀ i, rng (w i)) {n : Int} {o3 : Option AV} : ∀ (k : Nat) (m : Int) (t : MT), m + k = 10 → 0 ≤ m → t.2 0 = w → (∀ m', 0 ≤ m' → m' < m → t.2 13 m'.toNat = cwF w m') →
    (∀ t', t'.1 = t.1 → (∀ a, a ≠ 13 → t'.2 a = t.2 a) → (∀ m', 0 ≤ m' → m' < 10 → t'.2 13 m'.toNat = cwF w m') → Wm d rX3_makes 38 [some (.inr 1), some (.inl n), some (.inl 10), o3] [] t' Q) →
    Wm d rX3_makes 2 [some (.inr 1), some (.inl n), some (.inl m), o3] [] t Q := by
  intro k
  induction k with
  | zero =>
    intro m t hm hm0 hw h1 K
    have e : m = 10 := by omega
    subst e
    refine wm_iload_n dX3_makes_2 rfl ?_
    refine wm_bipush dX3_makes_3 (by decide) ?_
    refine wm_icmp dX3_makes_5 (cB_ge ⟨by omega, by omega⟩ ⟨by omega, by omega⟩) 38 rfl (fun c5 => ?_) (fun c5 => ?_)
    ·
      exact K t rfl (fun _ _ => rfl) h1
    ·
      omega
  | succ k ih =>
    intro m t hm hm0 hw h1 K
    have hst : ∀ u, u = cwF w m → Wm d rX3_makes 31 [some (.inr 1), some (.inl n), some (.inl m), o3] [.inl u, .inl m, .inr 15] t Q := fun u hu => by
      subst hu
      refine wm_iastore dX3_makes_31 rfl ⟨by omega, by omega⟩ _ rfl ?_
      refine wm_iinc dX3_makes_32 rfl ?_
      refine wm_goto dX3_makes_35 2 rfl ?_
      refine ih (m + 1) _ (by omega) (by omega) hw (fun m' a1 a2 => ?_) (fun t' e1 e2 e3 => K t' e1 (fun a ha => ?_) e3)
      · by_cases e : m' = m
        · subst e; simp [stA]
        · have e4 : ¬ m'.toNat = m.toNat := by omega
          simp [stA, e4, h1 m' a1 (by omega)]
      · rw [e2 a ha]
        funext i
        simp [stA, ha]
    refine wm_iload_n dX3_makes_2 rfl ?_
    refine wm_bipush dX3_makes_3 (by decide) ?_
    refine wm_icmp dX3_makes_5 (cB_ge ⟨by omega, by omega⟩ ⟨by omega, by omega⟩) 38 rfl (fun c5 => ?_) (fun c5 => ?_)
    ·
      omega
    ·
      refine wm_aload_n dX3_makes_8 rfl ?_
      refine wm_getA dX3_makes_9 (kF3_37 rfl) rfl ?_
      refine wm_iload_n dX3_makes_12 rfl ?_
      refine wm_aload_n dX3_makes_13 rfl ?_
      refine wm_iload_n dX3_makes_14 rfl ?_
      refine wm_callv dX3_makes_15 (kV3_65 rfl) rfl (mc_isMember (by omega) (by rw [hw]; exact h0) (by rw [hw]; exact hr)) (by omega) rfl rfl ?_
      rintro _ _ ⟨rfl, ⟨h15, rfl⟩ | ⟨h15, rfl⟩⟩
      ·
        refine wm_ifF dX3_makes_18 (by decide) 30 rfl ?_
        refine wm_aload_n dX3_makes_21 rfl ?_
        refine wm_iload_n dX3_makes_22 rfl ?_
        refine wm_iconst dX3_makes_23 ?_
        refine wm_callv dX3_makes_24 (kV3_61 rfl) rfl (mc_of (by omega)) (by omega) rfl rfl ?_
        rintro _ _ ⟨rfl, rfl⟩
        refine wm_goto dX3_makes_27 31 rfl ?_
        rw [hw] at h15 ⊢
        exact hst _ (by rw [cwF, if_pos h15]; rfl)
      ·
        refine wm_ifT dX3_makes_18 (by decide) 30 rfl ?_
        refine wm_iconst dX3_makes_30 ?_
        rw [hw] at h15
        exact hst _ (by rw [cwF, if_neg h15])
theorem mc_makes_59 {w : Nat → Int} {cw : Int → Int} {t : MT} (hd : 2 ≤ d) (h0 : 0 ≤ w 0 ∧ w 0 ≤ 10) (hr : ∀ i, rng (w i)) (hw : t.2 0 = w) (hc : ∀ m, 0 ≤ m → m < 10 → t.2 13 m.toNat = cw m) (hcr : ∀ m, rng (cw m)) {n : Int} : ∀ (k : Nat) (m a : Int), m + k = 10 → 0 ≤ m →
    Wm d rX3_makes 59 [some (.inr 1), some (.inl n), some (.inl a), some (.inl m)] [] t (fun v t' => some (a + movF w cw k m) = v ∧ t = t') := by
  intro k
  induction k with
  | zero =>
    intro m a hm hm0
    refine wm_iload_n dX3_makes_59 rfl ?_
    refine wm_bipush dX3_makes_60 (by decide) ?_
    refine wm_icmp dX3_makes_62 (cB_ge ⟨by omega, by omega⟩ ⟨by omega, by omega⟩) 102 rfl (fun c62 => ?_) (fun c62 => ?_)
    ·
      refine wm_iload_n dX3_makes_102 rfl ?_
      refine wm_ireturn dX3_makes_103 rfl ?_
      exact ⟨by simp [movF], rfl⟩
    ·
      omega
  | succ k ih =>
    intro m a hm hm0
    have hcm := hc m hm0 (by omega)
    have hgo : ∀ u, u = (if isM w m ∧ ¬ celF w m = cw m then (1 : Int) else 0) → Wm d rX3_makes 94 [some (.inr 1), some (.inl n), some (.inl a), some (.inl m)] [.inl u, .inl a] t (fun v t' => some (a + movF w cw (k + 1) m) = v ∧ t = t') := fun u hu => by
      refine wm_iadd dX3_makes_94 ?_
      refine wm_istore_n dX3_makes_95 rfl ?_
      refine wm_iinc dX3_makes_96 rfl ?_
      refine wm_goto dX3_makes_99 59 rfl ?_
      refine (ih (m + 1) _ (by omega) (by omega)).mono (fun v t h => ⟨?_, h.2⟩)
      rw [← h.1, movF, ← hu, Int.add_assoc]
    refine wm_iload_n dX3_makes_59 rfl ?_
    refine wm_bipush dX3_makes_60 (by decide) ?_
    refine wm_icmp dX3_makes_62 (cB_ge ⟨by omega, by omega⟩ ⟨by omega, by omega⟩) 102 rfl (fun c62 => ?_) (fun c62 => ?_)
    ·
      omega
    ·
      refine wm_iload_n dX3_makes_65 rfl ?_
      refine wm_aload_n dX3_makes_66 rfl ?_
      refine wm_iload_n dX3_makes_67 rfl ?_
      refine wm_callv dX3_makes_68 (kV3_65 rfl) rfl (mc_isMember (by omega) (by rw [hw]; exact h0) (by rw [hw]; exact hr)) (by omega) rfl rfl ?_
      rintro _ _ ⟨rfl, ⟨h68, rfl⟩ | ⟨h68, rfl⟩⟩
      rw [hw] at h68
      ·
        refine wm_ifF dX3_makes_71 (by decide) 93 rfl ?_
        refine wm_aload_n dX3_makes_74 rfl ?_
        refine wm_iload_n dX3_makes_75 rfl ?_
        refine wm_iconst dX3_makes_76 ?_
        refine wm_callv dX3_makes_77 (kV3_61 rfl) rfl (mc_of (by omega)) (by omega) rfl rfl ?_
        rintro _ _ ⟨rfl, rfl⟩
        rw [hw]
        refine wm_aload_n dX3_makes_80 rfl ?_
        refine wm_getA dX3_makes_81 (kF3_37 rfl) rfl ?_
        refine wm_iload_n dX3_makes_84 rfl ?_
        refine wm_iaload dX3_makes_85 rfl ⟨by omega, by omega⟩ _ rfl ?_
        refine wm_icmp dX3_makes_86 (cB_eq (hr _) (by rw [hcm]; exact hcr m)) 93 rfl (fun c86 => ?_) (fun c86 => ?_)
        ·
          refine wm_iconst dX3_makes_93 ?_
          rw [hcm] at c86
          exact hgo _ (by rw [if_neg (fun h => h.2 c86)])
        ·
          refine wm_iconst dX3_makes_89 ?_
          refine wm_goto dX3_makes_90 94 rfl ?_
          rw [hcm] at c86
          exact hgo _ (by rw [if_pos ⟨h68, c86⟩])
      ·
        refine wm_ifT dX3_makes_71 (by decide) 93 rfl ?_
        refine wm_iconst dX3_makes_93 ?_
        rw [hw] at h68
        exact hgo _ (by rw [if_neg (fun h => h68 h.1)])
theorem mc_makes_40 {n : Int} {o3 : Option AV} (hd : 8 ≤ d) (hn : 0 ≤ n ∧ n ≤ 100000) : ∀ (k : Nat) (i : Int) (w : Nat → Int) (t : MT) (C : Int), i + k = n → 0 ≤ i → t.2 0 = w → (300 ≤ C ∧ C + 100 * (k : Int) < 1999999000) → bdW C w → WS w → 0 ≤ ledF w → HF t →
    (∀ t', t'.2 0 = rndsF k w → SW w (t'.2 0) → bdW (C + 100 * k) (t'.2 0) → FrR t t' → HF t' → Wm d rX3_makes 55 [some (.inr 1), some (.inl n), some (.inl n), o3] [] t' Q) →
    Wm d rX3_makes 40 [some (.inr 1), some (.inl n), some (.inl i), o3] [] t Q := by
  intro k
  induction k with
  | zero =>
    intro i w t C hi h0 hw hC hb hS hl hf K
    have e : i = n := by omega
    subst e
    refine wm_iload_n dX3_makes_40 rfl ?_
    refine wm_iload_n dX3_makes_41 rfl ?_
    refine wm_icmp dX3_makes_42 (cB_ge ⟨by omega, by omega⟩ ⟨by omega, by omega⟩) 55 rfl (fun c42 => ?_) (fun c42 => ?_)
    ·
      exact K t hw (by rw [hw]; exact SW.of SC.rf hS.lt) (by rw [hw]; exact hb.mono (by omega)) ⟨fun _ _ => rfl, fun _ _ _ => rfl⟩ hf
    ·
      omega
  | succ k ih =>
    intro i w t C hi h0 hw hC hb hS hl hf K
    refine wm_iload_n dX3_makes_40 rfl ?_
    refine wm_iload_n dX3_makes_41 rfl ?_
    refine wm_icmp dX3_makes_42 (cB_ge ⟨by omega, by omega⟩ ⟨by omega, by omega⟩) 55 rfl (fun c42 => ?_) (fun c42 => ?_)
    ·
      omega
    ·
      refine wm_aload_n dX3_makes_45 rfl ?_
      refine wm_callv dX3_makes_46 (kV3_148 rfl) rfl (mc_round (C := C) (by omega) (by rw [hw]; exact hb) (by rw [hw]; exact hS) (by rw [hw]; exact hl) hf) (by omega) rfl rfl ?_
      rintro _ _ ⟨rfl, r1, r2, r3, r4, r5⟩
      rename_i t1
      rw [hw] at r1 r2
      refine wm_iinc dX3_makes_49 rfl ?_
      refine wm_goto dX3_makes_52 40 rfl ?_
      refine ih (i + 1) (roundF w) t1 (C + 100) (by omega) (by omega) r1 (by omega) (by rw [← r1]; exact r3) (by rw [← r1]; exact hS.sw r2) (by rw [← r1, r2.led hS.1.2]; exact hl) r5 (fun t' a1 a2 a3 a4 a5 => K t' a1 (r2.tr (by rw [r1]; exact a2)) (a3.mono (by omega)) ⟨fun a ha => by rw [a4.1 a ha, r4.1 a ha], fun j h8 h9 => by rw [a4.2 j h8 h9, r4.2 j h8 h9]⟩ a5)
theorem mc_makes {C : Int} (hn : 0 ≤ n ∧ n ≤ 100000) (hC : 300 ≤ C ∧ C + 100 * n < 1999999000) (hb : bdW C (τ.2 0)) (hS : WS (τ.2 0)) (hl : 0 ≤ ledF (τ.2 0)) (hf : HF τ) : Mt 8 rX3_makes [.inr 1, .inl n] τ (fun v t => some (movF (rndsF n.toNat (τ.2 0)) (cwF (τ.2 0)) 10 0) = v ∧ t.2 0 = rndsF n.toNat (τ.2 0) ∧ SW (τ.2 0) (t.2 0) ∧ bdW (C + 100 * n) (t.2 0) ∧ FrM τ t ∧ HF t) := by
  intro d hd
  have hcr : ∀ m, rng (cwF (τ.2 0) m) := fun m => by
    unfold cwF
    split
    · exact hb.rng (by omega) _
    · omega
  refine wm_iconst dX3_makes_0 ?_
  refine wm_istore_n dX3_makes_1 rfl ?_
  refine mc_makes_2 (by omega) hS.1 (hb.rng (by omega)) 10 0 τ (by omega) (by omega) rfl (fun m' a1 a2 => by omega) (fun t1 e1 e2 e3 => ?_)
  refine wm_iconst dX3_makes_38 ?_
  refine wm_istore_n dX3_makes_39 rfl ?_
  refine mc_makes_40 (by omega) hn n.toNat 0 (τ.2 0) t1 C (by omega) (by omega) (e2 0 (by decide)) (by omega) hb hS hl (hf.other (e2 3 (by decide))) (fun t2 f1 f2 f3 f4 f5 => ?_)
  refine wm_iconst dX3_makes_55 ?_
  refine wm_istore_n dX3_makes_56 rfl ?_
  refine wm_iconst dX3_makes_57 ?_
  refine wm_istore_n dX3_makes_58 rfl ?_
  refine (mc_makes_59 (w := t2.2 0) (cw := cwF (τ.2 0)) (by omega) (by rw [f2.1 0 (by omega)]; exact hS.1) (f3.rng (by omega)) rfl (fun m m0 m1 => by rw [f4.1 13 (by decide)]; exact e3 m m0 m1) hcr 10 0 0 (by omega) (by omega)).mono (fun v t h => ?_)
  obtain ⟨h1, rfl⟩ := h
  refine ⟨?_, f1, f2, f3.mono (by omega), ⟨fun a ha => by rw [f4.1 a (by omega), e2 a (by omega)], fun j h8 h9 => by rw [f4.2 j h8 h9, e1]⟩, f5⟩
  rw [← h1, f1, Int.zero_add]
end M12
