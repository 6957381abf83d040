/-! THE MODEL'S METHODS, 23: shape -/
set_option maxRecDepth 100000
def rd0F (tp : Nat → Int) (T : Int) (s : Nat → Int) : Int × (Nat → Int) := rdF tp T 100 0 0 0 (updW (updW s 0 0) 1 (-1))
theorem RI.slot {r : Nat → Int} {c x y : Int} (h : RI r) (h9 : r 0 ≤ 9) : RI (slotR r c x y) := by
  obtain ⟨h0, h1⟩ := h
  unfold RI slotR
  refine ⟨by rw [show ∀ (w : Nat → Int) v, updW w 0 v 0 = v from fun w v => if_pos rfl]; omega, ?_⟩
  rw [upd_ne (by decide), upd_ne (by omega), upd_ne (by omega), show ∀ (w : Nat → Int) v, updW w 1 v 1 = v from fun w v => if_pos rfl]
  split <;> omega
theorem rdF_RI {tp : Nat → Int} {T : Int} : ∀ (n : Nat) (y x p : Int) (r : Nat → Int), RI r → RI (rdF tp T n y x p r).2 := by
  intro n
  induction n with
  | zero => intro y x p r h; exact h
  | succ n ih =>
    intro y x p r h
    unfold rdF
    split
    · exact h
    · split
      · split
        · exact h
        · exact ih _ _ _ _ h
      · split
        · exact h
        · rename_i q
          refine ih _ _ _ _ ?_
          split
          · rename_i q2
            exact h.slot (by have := h.1; omega)
          · exact h
theorem rdF_rng {tp : Nat → Int} {T : Int} (hT : 0 ≤ T ∧ T ≤ 60) : ∀ (n : Nat) (y x p : Int) (r : Nat → Int), 0 ≤ p → p + n ≤ 300 → -1 ≤ (rdF tp T n y x p r).1 ∧ (rdF tp T n y x p r).1 ≤ 300 := by
  intro n
  induction n with
  | zero => intro y x p r h1 h2; show -1 ≤ p ∧ p ≤ 300; omega
  | succ n ih =>
    intro y x p r h1 h2
    unfold rdF
    split
    · dsimp only; split <;> omega
    · split
      · split
        · dsimp only; omega
        · exact ih _ _ _ _ (by omega) (by omega)
      · split
        · dsimp only; omega
        · exact ih _ _ _ _ (by omega) (by omega)
def cpS (w : Nat → Int) (x : Int) (r : Nat → Int) (a n : Int) : Nat → Int := fun i => if 192 + 22 * x + a ≤ (i : Int) ∧ (i : Int) < 192 + 22 * x + n then r ((i : Int) - (192 + 22 * x)).toNat else w i
theorem cpS_end (w : Nat → Int) (x : Int) (r : Nat → Int) (n : Int) : cpS w x r n n = w := by
  unfold cpS
  funext i
  rw [if_neg (by omega)]
theorem cpS_step (w : Nat → Int) {x : Int} (r : Nat → Int) {a n : Int} (hx : 0 ≤ x) (ha : 0 ≤ a ∧ a < n) : cpS (updW w (192 + 22 * x + a).toNat (r a.toNat)) x r (a + 1) n = cpS w x r a n := by
  unfold cpS updW
  funext i
  by_cases h : 192 + 22 * x + a ≤ (i : Int) ∧ (i : Int) < 192 + 22 * x + n
  · rw [if_pos h]
    by_cases h2 : i = (192 + 22 * x + a).toNat
    · rw [if_neg (by omega), if_pos h2]
      exact congrArg r (by omega)
    · rw [if_pos (by omega)]
  · rw [if_neg h, if_neg (by omega), if_neg (by omega)]
section M27
variable {τ : MT} {p f k x y c : Int} {d : Nat} {Q : Option Int → MT → Prop} {r : Nat → Int}
theorem setRd_0 (τ : MT) : stI (stI (stA (stA τ 18 0 0) 18 1 (-1)) 16 0) 17 (-1) = setRd τ 0 (-1) (updW (updW (τ.2 18) 0 0) 1 (-1)) := by
  unfold stI stA setRd updW
  refine Prod.ext (funext fun j => ?_) (funext fun a => funext fun i => ?_)
  · dsimp only
    by_cases h : j = 16
    · subst h; rfl
    · by_cases h2 : j = 17
      · subst h2; rfl
      · simp [h, h2]
  · dsimp only
    by_cases h : a = 18
    · subst h
      by_cases h1 : i = 1
      · simp [h1]
      · by_cases h0 : i = 0
        · simp [h0]
        · simp [h1, h0]
    · simp [h]
theorem mc_readsShape (hT : 0 ≤ τ.1 15 ∧ τ.1 15 ≤ 60) (ht : ∀ i, 0 ≤ τ.2 14 i ∧ τ.2 14 i ≤ 127) : Mt 1 rX3_readsShape [.inr 1] τ (fun v t => none = v ∧ ∃ q, t = setRd τ q (rd0F (τ.2 14) (τ.1 15) (τ.2 18)).1 (rd0F (τ.2 14) (τ.1 15) (τ.2 18)).2) := by
  intro d hd
  refine wm_iconst dX3_readsShape_0 ?_
  refine wm_istore_n dX3_readsShape_1 rfl ?_
  refine wm_iconst dX3_readsShape_2 ?_
  refine wm_istore_n dX3_readsShape_3 rfl ?_
  refine wm_aload_n dX3_readsShape_4 rfl ?_
  refine wm_getA dX3_readsShape_5 (kF3_43 rfl) rfl ?_
  refine wm_iconst dX3_readsShape_8 ?_
  refine wm_iconst dX3_readsShape_9 ?_
  refine wm_iastore dX3_readsShape_10 rfl ⟨by omega, by omega⟩ _ rfl ?_
  refine wm_aload_n dX3_readsShape_11 rfl ?_
  refine wm_getA dX3_readsShape_12 (kF3_43 rfl) rfl ?_
  refine wm_iconst dX3_readsShape_15 ?_
  refine wm_iconst dX3_readsShape_16 ?_
  refine wm_iastore dX3_readsShape_17 rfl ⟨by omega, by omega⟩ _ rfl ?_
  refine wm_aload_n dX3_readsShape_18 rfl ?_
  refine wm_iconst dX3_readsShape_19 ?_
  refine wm_putI dX3_readsShape_20 (kF3_175 rfl) rfl rfl (Or.inl rfl) ?_
  refine wm_aload_n dX3_readsShape_23 rfl ?_
  refine wm_iconst dX3_readsShape_24 ?_
  refine wm_putI dX3_readsShape_25 (kF3_178 rfl) rfl rfl (Or.inl rfl) ?_
  rw [show stI (stI (stA (stA τ 18 (Int.toNat 0) 0) 18 (Int.toNat 1) (-1)) 16 0) 17 (-1) = _ from setRd_0 τ]
  exact mc_readsShape_28 hT ht hd 100 0 0 0 _ none none (by omega) (by omega) (by omega) (by omega) ⟨by show 0 ≤ (0 : Int) ∧ (0 : Int) ≤ 10; omega, by show (-1 : Int) ≤ -1 ∧ (-1 : Int) < 10; omega⟩
theorem mc_shape_41 {n : Int} (hx : 0 ≤ x ∧ x ≤ 2) (hr : r 0 ≤ 10 ∧ 0 ≤ r 0) (hn : n = 2 + 2 * r 0) (hd : 1 ≤ d) {X : MT} (h18 : X.2 18 = r) : ∀ (j : Nat) (a : Int) (w : Nat → Int), a + j = n → 0 ≤ a → Wm d rX3_shape 41 [some (.inr 1), some (.inl x), some (.inl a)] [] (setW X w) (fun v t => some (r 0) = v ∧ setW X (cpS w x r a n) = t) := by
  have e18 : ∀ w, (setW X w).2 18 = r := fun w => h18
  intro j
  induction j with
  | zero =>
    intro a w ha h0
    have e : a = n := by omega
    subst e
    rw [cpS_end]
    refine wm_iload_n dX3_shape_41 rfl ?_
    refine wm_iconst dX3_shape_42 ?_
    refine wm_iconst dX3_shape_43 ?_
    refine wm_aload_n dX3_shape_44 rfl ?_
    refine wm_getA dX3_shape_45 (kF3_43 rfl) rfl ?_
    refine wm_iconst dX3_shape_48 ?_
    refine wm_iaload dX3_shape_49 rfl ⟨by omega, by omega⟩ 0 rfl ?_
    rw [e18]
    refine wm_imul dX3_shape_50 ?_
    refine wm_iadd dX3_shape_51 ?_
    refine wm_icmp dX3_shape_52 (cB_ge ⟨by omega, by omega⟩ ⟨by omega, by omega⟩) 78 rfl (fun c52 => ?_) (fun c52 => ?_)
    ·
      refine wm_aload_n dX3_shape_78 rfl ?_
      refine wm_getA dX3_shape_79 (kF3_43 rfl) rfl ?_
      refine wm_iconst dX3_shape_82 ?_
      refine wm_iaload dX3_shape_83 rfl ⟨by omega, by omega⟩ 0 rfl ?_
      rw [e18]
      refine wm_ireturn dX3_shape_84 rfl ?_
      exact ⟨rfl, rfl⟩
    ·
      omega
  | succ j ih =>
    intro a w ha h0
    refine wm_iload_n dX3_shape_41 rfl ?_
    refine wm_iconst dX3_shape_42 ?_
    refine wm_iconst dX3_shape_43 ?_
    refine wm_aload_n dX3_shape_44 rfl ?_
    refine wm_getA dX3_shape_45 (kF3_43 rfl) rfl ?_
    refine wm_iconst dX3_shape_48 ?_
    refine wm_iaload dX3_shape_49 rfl ⟨by omega, by omega⟩ 0 rfl ?_
    rw [e18]
    refine wm_imul dX3_shape_50 ?_
    refine wm_iadd dX3_shape_51 ?_
    refine wm_icmp dX3_shape_52 (cB_ge ⟨by omega, by omega⟩ ⟨by omega, by omega⟩) 78 rfl (fun c52 => ?_) (fun c52 => ?_)
    ·
      omega
    ·
      refine wm_aload_n dX3_shape_55 rfl ?_
      refine wm_getA dX3_shape_56 (kF3_9 rfl) rfl ?_
      refine wm_iload_n dX3_shape_59 rfl ?_
      refine wm_calls dX3_shape_60 (kS3_78 rfl) (kSn3_78 rfl) (mc_shapeAt) (by omega) rfl rfl ?_
      rintro _ _ ⟨rfl, rfl⟩
      refine wm_iload_n dX3_shape_63 rfl ?_
      refine wm_iadd dX3_shape_64 ?_
      refine wm_aload_n dX3_shape_65 rfl ?_
      refine wm_getA dX3_shape_66 (kF3_43 rfl) rfl ?_
      refine wm_iload_n dX3_shape_69 rfl ?_
      refine wm_iaload dX3_shape_70 rfl ⟨by omega, by omega⟩ _ rfl ?_
      rw [e18]
      refine wm_iastore dX3_shape_71 rfl ⟨by omega, by omega⟩ _ rfl ?_
      rw [stA_setW]
      refine wm_iinc dX3_shape_72 rfl ?_
      refine wm_goto dX3_shape_75 41 rfl ?_
      rw [← cpS_step w r hx.1 ⟨h0, by omega⟩]
      exact ih (a + 1) _ (by omega) (by omega)
theorem mc_shape (hx : rng x) (hT : 0 ≤ τ.1 15 ∧ τ.1 15 ≤ 60) (ht : ∀ i, 0 ≤ τ.2 14 i ∧ τ.2 14 i ≤ 127) (hc8 : 0 ≤ τ.1 1 ∧ τ.1 1 ≤ 8) : Mt 2 rX3_shape [.inr 1, .inl x] τ (fun v t => (¬ (0 ≤ x ∧ x ≤ 2) ∧ some (-1) = v ∧ τ = t) ∨ ((0 ≤ x ∧ x ≤ 2) ∧ ((0 ≤ (rd0F (τ.2 14) (τ.1 15) (τ.2 18)).1 ∧ some (-100 - (rd0F (τ.2 14) (τ.1 15) (τ.2 18)).1) = v ∧ ∃ q, t = stI (setRd τ q (rd0F (τ.2 14) (τ.1 15) (τ.2 18)).1 (rd0F (τ.2 14) (τ.1 15) (τ.2 18)).2) 15 0) ∨
    ((rd0F (τ.2 14) (τ.1 15) (τ.2 18)).1 = -1 ∧ some ((rd0F (τ.2 14) (τ.1 15) (τ.2 18)).2 0) = v ∧ ∃ (q : Int) (X : MT), X = keepR (stI (setRd τ q (-1) (rd0F (τ.2 14) (τ.1 15) (τ.2 18)).2) 15 0) ∧ t = setW X (cpS (X.2 0) x (rd0F (τ.2 14) (τ.1 15) (τ.2 18)).2 0 (2 + 2 * (rd0F (τ.2 14) (τ.1 15) (τ.2 18)).2 0)))))) := by
  intro d hd
  have hRI : RI (rd0F (τ.2 14) (τ.1 15) (τ.2 18)).2 := rdF_RI _ _ _ _ _ ⟨by show 0 ≤ (0 : Int) ∧ (0 : Int) ≤ 10; omega, by show (-1 : Int) ≤ -1 ∧ (-1 : Int) < 10; omega⟩
  have hRr : -1 ≤ (rd0F (τ.2 14) (τ.1 15) (τ.2 18)).1 ∧ (rd0F (τ.2 14) (τ.1 15) (τ.2 18)).1 ≤ 300 := rdF_rng hT 100 0 0 0 _ (by omega) (by omega)
  refine wm_iload_n dX3_shape_0 rfl ?_
  refine wm_iconst dX3_shape_1 ?_
  refine wm_iconst dX3_shape_2 ?_
  refine wm_calls dX3_shape_3 (kS3_57 rfl) (kSn3_57 rfl) (mc_in hx (by omega) (by omega)) (by omega) rfl rfl ?_
  rintro _ _ ⟨rfl, ⟨h3, rfl⟩ | ⟨h3, rfl⟩⟩
  ·
    refine wm_ifT dX3_shape_6 (by decide) 11 rfl ?_
    refine wm_aload_n dX3_shape_11 rfl ?_
    refine wm_callv dX3_shape_12 (kV3_184 rfl) rfl (mc_readsShape hT ht) (by omega) rfl rfl ?_
    rintro _ _ ⟨rfl, q, rfl⟩
    refine wm_aload_n dX3_shape_15 rfl ?_
    refine wm_iconst dX3_shape_16 ?_
    refine wm_putI dX3_shape_17 (kF3_172 rfl) rfl rfl (Or.inl rfl) ?_
    refine wm_aload_n dX3_shape_20 rfl ?_
    refine wm_getI dX3_shape_21 (kF3_178 rfl) rfl rfl ?_
    refine wm_if dX3_shape_24 (cB_lt (show rng (rd0F (τ.2 14) (τ.1 15) (τ.2 18)).1 by omega) ⟨by omega, by omega⟩) 35 rfl (fun c24 => ?_) (fun c24 => ?_)
    ·
      refine wm_aload_n dX3_shape_35 rfl ?_
      refine wm_callv dX3_shape_36 (kV3_151 rfl) rfl (mc_keeps hc8) (by omega) rfl rfl ?_
      rintro _ _ ⟨rfl, rfl⟩
      refine wm_iconst dX3_shape_39 ?_
      refine wm_istore_n dX3_shape_40 rfl ?_
      have c24 : (rd0F (τ.2 14) (τ.1 15) (τ.2 18)).1 < 0 := c24
      have e1 : (rd0F (τ.2 14) (τ.1 15) (τ.2 18)).1 = -1 := by omega
      rw [e1]
      have hid : ∀ X : MT, setW X (X.2 0) = X := fun X => Prod.ext rfl (funext fun a => by cases a <;> rfl)
      have K := mc_shape_41 (d := d) (x := x) (r := (rd0F (τ.2 14) (τ.1 15) (τ.2 18)).2) h3 ⟨hRI.1.2, hRI.1.1⟩ rfl (by omega) (X := keepR (stI (setRd τ q (-1) (rd0F (τ.2 14) (τ.1 15) (τ.2 18)).2) 15 0)) (by rw [keepR_o _ 18 (by decide)]; exact setRd_18 τ q (-1) (rd0F (τ.2 14) (τ.1 15) (τ.2 18)).2) (2 + 2 * (rd0F (τ.2 14) (τ.1 15) (τ.2 18)).2 0).toNat 0 ((keepR (stI (setRd τ q (-1) (rd0F (τ.2 14) (τ.1 15) (τ.2 18)).2) 15 0)).2 0) (by have := hRI.1; omega) (by omega)
      rw [hid] at K
      exact K.mono (fun v t h => Or.inr ⟨h3, Or.inr ⟨rfl, h.1, q, _, rfl, h.2.symm⟩⟩)
    ·
      refine wm_bipush dX3_shape_27 (by decide) ?_
      refine wm_aload_n dX3_shape_29 rfl ?_
      refine wm_getI dX3_shape_30 (kF3_178 rfl) rfl rfl ?_
      refine wm_isub dX3_shape_33 ?_
      refine wm_ireturn dX3_shape_34 rfl ?_
      have c24 : ¬ (rd0F (τ.2 14) (τ.1 15) (τ.2 18)).1 < 0 := c24
      exact Or.inr ⟨h3, Or.inl ⟨by omega, rfl, q, rfl⟩⟩
  ·
    refine wm_ifF dX3_shape_6 (by decide) 11 rfl ?_
    refine wm_iconst dX3_shape_9 ?_
    refine wm_ireturn dX3_shape_10 rfl ?_
    exact Or.inl ⟨h3, rfl, rfl⟩
end M27
