/-! THE MODEL'S METHODS, 10: in thought, again, accounts, back, the snapshot -/
set_option maxRecDepth 100000
noncomputable def frmF : Nat → Int → (Nat → Int) → Int
  | 0, _, _ => -5
  | k + 1, n, w => @ite Int (formF w) (Classical.propDecidable _) n (frmF k (n + 1) (roundF w))
theorem frmF_y {w : Nat → Int} (h : formF w) (k : Nat) (n : Int) : frmF (k + 1) n w = n := if_pos h
theorem frmF_n {w : Nat → Int} (h : ¬ formF w) (k : Nat) (n : Int) : frmF (k + 1) n w = frmF k (n + 1) (roundF w) := if_neg h
def oF (w : Nat → Int) : Nat → Int → Int
  | 0, _ => 0
  | k + 1, c => w (72 + c).toNat + oF w k (c + 1)
theorem WS.upd {w : Nat → Int} {i : Nat} {v : Int} (h : WS w) (hi : (i = 2 ∧ v < 120) ∨ i = 1 ∨ (4 ≤ i ∧ i < 12) ∨ (∃ m : Int, (0 ≤ m ∧ m ≤ 9) ∧ i = (12 + 6 * m + 0).toNat ∧ -1 ≤ v ∧ v < 120)) : WS (updW w i v) := by
  obtain ⟨h1, h2, h3, h4, h5, h6, h7⟩ := h
  have hne : ∀ j, j = 0 ∨ j = 3 ∨ 72 ≤ j → updW w i v j = w j := fun j hj => upd_ne (by
    rcases hi with q | q | q | ⟨m, hm, q, -⟩ <;> omega)
  have e3 := hne 3 (by omega)
  have es : sltF (updW w i v) (updW w i v 3) = sltF w (w 3) := by unfold sltF; rw [e3]; exact hne _ (by omega)
  have ea : ancF (updW w i v) (updW w i v 3) = ancF w (w 3) := by unfold ancF; rw [e3]; exact hne _ (by omega)
  refine ⟨by rw [hne 0 (by omega)]; exact h1, by rw [e3]; exact h2, fun m m0 m1 => ?_, by rw [es]; exact h4, by rw [ea]; exact h5, fun k k0 k1 => ?_, ?_⟩
  · have := h3 m m0 m1
    unfold celF updW at *
    split
    · rename_i e
      rcases hi with q | q | q | ⟨m', hm, q, q2⟩
      · omega
      · omega
      · omega
      · exact q2
    · exact this
  · rw [es] at k1
    have ec : colF (updW w i v) (updW w i v 3) k = colF w (w 3) k := by
      unfold colF
      rw [ea, e3, hne _ (by omega), hne _ (by omega)]
    have er : rowF (updW w i v) (updW w i v 3) k = rowF w (w 3) k := by
      unfold rowF
      rw [ea, e3, hne _ (by omega), hne _ (by omega)]
    rw [ec, er]
    exact h6 k k0 k1
  · unfold updW
    split
    · rcases hi with q | q | q | ⟨m', hm, q, q2⟩ <;> omega
    · exact h7
section M14
variable {τ : MT} {m c v x y z b n dd : Int} {d : Nat} {Q : Option Int → MT → Prop}
theorem mc_forms_9 {n : Int} (hd : 9 ≤ d) (hn : 0 ≤ n ∧ n ≤ 40) : ∀ (k : Nat) (i : Int) (w : Nat → Int) (t : MT) (C : Int), i + k = n + 1 → 0 ≤ i → t.2 0 = w → (300 ≤ C ∧ C + 100 * (k : Int) < 1999999000) → bdW C w → WS w → 0 ≤ ledF w → HF t →
    Wm d rX3_forms 9 [some (.inr 1), some (.inl n), some (.inl i)] [] t (fun v t' => some (frmF k i w) = v ∧ SW w (t'.2 0) ∧ bdW (C + 100 * k) (t'.2 0) ∧ FrM t t' ∧ HF t') := by
  intro k
  induction k with
  | zero =>
    intro i w t C hi h0 hw hC hb hS hl hf
    refine wm_iload_n dX3_forms_9 rfl ?_
    refine wm_iload_n dX3_forms_10 rfl ?_
    refine wm_icmp dX3_forms_11 (cB_gt ⟨by omega, by omega⟩ ⟨by omega, by omega⟩) 33 rfl (fun c11 => ?_) (fun c11 => ?_)
    ·
      refine wm_bipush dX3_forms_33 (by decide) ?_
      refine wm_ireturn dX3_forms_35 rfl ?_
      exact ⟨rfl, by rw [hw]; exact SW.of SC.rf hS.lt, by rw [hw]; exact hb.mono (by omega), FrM.rf, hf⟩
    ·
      omega
  | succ k ih =>
    intro i w t C hi h0 hw hC hb hS hl hf
    have hfg : ∀ t1, GV (t.2 0) t t1 → FrM t t1 := fun t1 g => ⟨fun a ha => g.1.1 a (by omega), g.1.2⟩
    refine wm_iload_n dX3_forms_9 rfl ?_
    refine wm_iload_n dX3_forms_10 rfl ?_
    refine wm_icmp dX3_forms_11 (cB_gt ⟨by omega, by omega⟩ ⟨by omega, by omega⟩) 33 rfl (fun c11 => ?_) (fun c11 => ?_)
    ·
      omega
    ·
      refine wm_aload_n dX3_forms_14 rfl ?_
      refine wm_callv dX3_forms_15 (kV3_209 rfl) rfl (mc_isFormed (by rw [hw]; exact hS.wg (hb.rng (by omega))) hf) (by omega) rfl rfl ?_
      rintro _ _ ⟨g, ⟨hy, rfl⟩ | ⟨hy, rfl⟩⟩
      ·
        refine wm_ifF dX3_forms_18 (by decide) 23 rfl ?_
        refine wm_iload_n dX3_forms_21 rfl ?_
        refine wm_ireturn dX3_forms_22 rfl ?_
        rw [hw] at hy
        exact ⟨by rw [frmF_y hy], by rw [g.1.w, hw]; exact SW.of SC.rf hS.lt, by rw [g.1.w, hw]; exact hb.mono (by omega), hfg _ g, g.2.2.2.2.2⟩
      ·
        refine wm_ifT dX3_forms_18 (by decide) 23 rfl ?_
        refine wm_aload_n dX3_forms_23 rfl ?_
        refine wm_callv dX3_forms_24 (kV3_148 rfl) rfl (mc_round (C := C) (by omega) (by rw [g.1.w, hw]; exact hb) (by rw [g.1.w, hw]; exact hS) (by rw [g.1.w, hw]; exact hl) g.2.2.2.2.2) (by omega) rfl rfl ?_
        rintro _ _ ⟨rfl, r1, r2, r3, r4, r5⟩
        refine wm_iinc dX3_forms_27 rfl ?_
        refine wm_goto dX3_forms_30 9 rfl ?_
        rename_i t1 t2
        rw [g.1.w, hw] at r1 r2
        rw [hw] at hy
        refine (ih (i + 1) (roundF w) t2 (C + 100) (by omega) (by omega) r1 (by omega) (by rw [← r1]; exact r3) (by rw [← r1]; exact hS.sw r2) (by rw [← r1, r2.led hS.1.2]; exact hl) r5).mono (fun v t' h => ?_)
        exact ⟨by rw [frmF_n hy]; exact h.1, r2.tr (by rw [r1]; exact h.2.1), h.2.2.1.mono (by omega), (hfg _ g).tr (r4.mm.tr h.2.2.2.1), h.2.2.2.2⟩
theorem mc_forms {C : Int} (hn : 0 ≤ n ∧ n ≤ 40) (hC : 300 ≤ C ∧ C + 5000 < 1999999000) (hb : bdW C (τ.2 0)) (hS : WS (τ.2 0)) (hl : 0 ≤ ledF (τ.2 0)) (hf : HF τ) : Mt 9 rX3_forms [.inr 1, .inl n] τ (fun v t => some (frmF (n + 1).toNat 0 (updW (τ.2 0) 2 (-1))) = v ∧ SW (updW (τ.2 0) 2 (-1)) (t.2 0) ∧ bdW (C + 5000) (t.2 0) ∧ FrM τ t ∧ HF t) := by
  intro d hd
  have hl2 : ledF (updW (τ.2 0) 2 (-1)) = ledF (τ.2 0) := ledF_congr (upd_ne (by omega)) (upd_ne (by omega)) hS.1.2 (fun m m0 m1 => by
    unfold celF
    rw [upd_ne (by omega)])
  refine wm_aload_n dX3_forms_0 rfl ?_
  refine wm_getA dX3_forms_1 (kF3_9 rfl) rfl ?_
  refine wm_iconst dX3_forms_4 ?_
  refine wm_iconst dX3_forms_5 ?_
  refine wm_iastore dX3_forms_6 rfl ⟨by omega, by omega⟩ _ rfl ?_
  rw [stA_setW]
  refine wm_iconst dX3_forms_7 ?_
  refine wm_istore_n dX3_forms_8 rfl ?_
  refine (mc_forms_9 (by omega) hn (n + 1).toNat 0 (updW (τ.2 0) 2 (-1)) (setW τ (updW (τ.2 0) 2 (-1))) C (by omega) (by omega) rfl (by omega) (hb.upd (by omega)) (hS.upd (Or.inl ⟨rfl, by omega⟩)) (by rw [hl2]; exact hl) (show HF (setW τ (updW (τ.2 0) 2 (-1))) from hf)).mono (fun v t h => ⟨h.1, h.2.1, h.2.2.1.mono (by omega), ⟨fun a ha => ?_, h.2.2.2.1.2⟩, h.2.2.2.2⟩)
  rw [h.2.2.2.1.1 a ha]
  cases a with
  | zero => exact absurd (Or.inl rfl) ha
  | succ a => rfl
/-- thought is forgotten: what is left is a copy put aside -/
theorem thought {t : MT} {w : Nat → Int} (hs : ∀ i, 258 ≤ i → t.2 0 i = (copyR τ 0 10 0).2 0 i) : (copyR t 10 0 0).2 0 = (copyR τ 0 10 0).2 0 := by
  funext i
  by_cases hi : i < 258
  · have e1 : (copyR t 10 0 0).2 0 i = t.2 0 (i + 2580) := by
      unfold copyR
      dsimp only
      rw [if_pos ⟨rfl, by omega, by omega⟩]
      exact congrArg (t.2 0) (by omega)
    rw [e1, hs _ (by omega)]
    unfold copyR
    dsimp only
    rw [if_pos ⟨rfl, by omega, by omega⟩, if_neg (by omega)]
    exact congrArg (τ.2 0) (by omega)
  · have e1 : (copyR t 10 0 0).2 0 i = t.2 0 i := by
      unfold copyR
      dsimp only
      rw [if_neg (by omega)]
    rw [e1, hs _ (by omega)]
theorem copyR_bd {x y k C : Int} (h : bdW C (τ.2 0)) : bdW C ((copyR τ x y k).2 0) := fun i => by
  simp only [copyR]
  split <;> exact h _
theorem copyR_o (τ : MT) (x y k : Int) {a : Nat} (ha : a ≠ 0) : (copyR τ x y k).2 a = τ.2 a := by
  funext i
  simp [copyR, ha]
theorem copyR_lo (τ : MT) (x y : Int) (hy : 1 ≤ y) : LO (τ.2 0) ((copyR τ x y 0).2 0) := fun i hi => by
  simp only [copyR]
  rw [if_neg (by omega)]
/-- what is left behind a thought -/
def RH (τ t : MT) : Prop := t.2 0 = (copyR τ 0 10 0).2 0 ∧ FrM τ t ∧ HF t
theorem mc_healed {C : Int} (hn : rng n) (hC : 300 ≤ C ∧ C + 5000 < 1999999000) (hb : bdW C (τ.2 0)) (hS : WS (τ.2 0)) (hf : HF τ) : Mt 10 rX3_healed [.inr 1, .inl n] τ (fun v t => (¬ (0 ≤ n ∧ n ≤ 40) ∧ some (-2) = v ∧ τ = t) ∨ ((0 ≤ n ∧ n ≤ 40) ∧ ledF (τ.2 0) < 0 ∧ some (-3) = v ∧ τ = t) ∨ ((0 ≤ n ∧ n ≤ 40) ∧ 0 ≤ ledF (τ.2 0) ∧ some (frmF (n + 1).toNat 0 (updW ((copyR τ 0 10 0).2 0) 2 (-1))) = v ∧ RH τ t)) := by
  intro d hd
  have hr := hb.rng (by omega)
  have hlr := ledF_rng (τ.2 0) hS.1.2
  have hlo := copyR_lo τ 0 10 (by omega)
  refine wm_iload_n dX3_healed_0 rfl ?_
  refine wm_iconst dX3_healed_1 ?_
  refine wm_bipush dX3_healed_2 (by decide) ?_
  refine wm_calls dX3_healed_4 (kS3_57 rfl) (kSn3_57 rfl) (mc_in hn (by omega) (by omega)) (by omega) rfl rfl ?_
  rintro _ _ ⟨rfl, ⟨h4, rfl⟩ | ⟨h4, rfl⟩⟩
  ·
    refine wm_ifT dX3_healed_7 (by decide) 13 rfl ?_
    refine wm_aload_n dX3_healed_13 rfl ?_
    refine wm_callv dX3_healed_14 (kV3_85 rfl) rfl (mc_leader hS.1 hr) (by omega) rfl rfl ?_
    rintro _ _ ⟨rfl, rfl⟩
    refine wm_if dX3_healed_17 (cB_ge ⟨by omega, by omega⟩ ⟨by omega, by omega⟩) 23 rfl (fun c17 => ?_) (fun c17 => ?_)
    ·
      refine wm_aload_n dX3_healed_23 rfl ?_
      refine wm_iconst dX3_healed_24 ?_
      refine wm_bipush dX3_healed_25 (by decide) ?_
      refine wm_callv dX3_healed_27 (kV3_53 rfl) rfl (mc_copies (x := 0) (y := 10) (by omega) (by omega) (by omega)) (by omega) rfl rfl ?_
      rintro _ _ ⟨rfl, rfl⟩
      refine wm_aload_n dX3_healed_30 rfl ?_
      refine wm_iload_n dX3_healed_31 rfl ?_
      refine wm_callv dX3_healed_32 (kV3_231 rfl) rfl (mc_forms (C := C) h4 hC (copyR_bd hb) (hlo.ws hS) (by rw [hlo.led hS.1.2]; omega) (hf.other (copyR_o _ _ _ _ (by decide)))) (by omega) rfl rfl ?_
      rintro _ _ ⟨rfl, r1, r2, r3, r4⟩
      rename_i t1
      refine wm_istore_n dX3_healed_35 rfl ?_
      refine wm_aload_n dX3_healed_36 rfl ?_
      refine wm_bipush dX3_healed_37 (by decide) ?_
      refine wm_iconst dX3_healed_39 ?_
      refine wm_callv dX3_healed_40 (kV3_53 rfl) rfl (mc_copies (x := 10) (y := 0) (by omega) (by omega) (by omega)) (by omega) rfl rfl ?_
      rintro _ _ ⟨rfl, rfl⟩
      refine wm_iload_n dX3_healed_43 rfl ?_
      refine wm_ireturn dX3_healed_44 rfl ?_
      exact Or.inr (Or.inr ⟨h4, by omega, rfl, thought (w := τ.2 0) (fun i hi => by rw [r1.1 i (by omega), upd_ne (by omega)]), ⟨fun a ha => by rw [copyR_o _ _ _ _ (by omega), r3.1 a ha, copyR_o _ _ _ _ (by omega)], fun j h8 h9 => r3.2 j h8 h9⟩, r4.other (copyR_o _ _ _ _ (by decide))⟩)
    ·
      refine wm_bipush dX3_healed_20 (by decide) ?_
      refine wm_ireturn dX3_healed_22 rfl ?_
      exact Or.inr (Or.inl ⟨h4, by omega, rfl, rfl⟩)
  ·
    refine wm_ifF dX3_healed_7 (by decide) 13 rfl ?_
    refine wm_bipush dX3_healed_10 (by decide) ?_
    refine wm_ireturn dX3_healed_12 rfl ?_
    exact Or.inl ⟨h4, rfl, rfl⟩
theorem mc_healedWithout {C : Int} (hm : rng m) (hn : rng n) (hC : 300 ≤ C ∧ C + 5000 < 1999999000) (hb : bdW C (τ.2 0)) (hS : WS (τ.2 0)) (hf : HF τ) (hl : isM (τ.2 0) m → ¬ manyF (τ.2 0) = 1 → 0 ≤ ledF (updW ((copyR τ 0 10 0).2 0) (12 + 6 * m + 0).toNat (-1))) (hmr : rng (manyF (τ.2 0))) : Mt 10 rX3_healedWithout [.inr 1, .inl m, .inl n] τ (fun v t => (¬ isM (τ.2 0) m ∧ some (-1) = v ∧ τ = t) ∨ (isM (τ.2 0) m ∧ ((¬ (0 ≤ n ∧ n ≤ 40) ∧ some (-2) = v ∧ τ = t) ∨ ((0 ≤ n ∧ n ≤ 40) ∧ manyF (τ.2 0) = 1 ∧ some (-3) = v ∧ τ = t) ∨ ((0 ≤ n ∧ n ≤ 40) ∧ ¬ manyF (τ.2 0) = 1 ∧ some (frmF (n + 1).toNat 0 (updW (updW ((copyR τ 0 10 0).2 0) (12 + 6 * m + 0).toNat (-1)) 2 (-1))) = v ∧ RH τ t)))) := by
  intro d hd
  have hr := hb.rng (by omega)
  have hlo := copyR_lo τ 0 10 (by omega)
  have hS1 := hS.1
  refine wm_aload_n dX3_healedWithout_0 rfl ?_
  refine wm_iload_n dX3_healedWithout_1 rfl ?_
  refine wm_callv dX3_healedWithout_2 (kV3_65 rfl) rfl (mc_isMember hm hS.1 hr) (by omega) rfl rfl ?_
  rintro _ _ ⟨rfl, ⟨h2, rfl⟩ | ⟨h2, rfl⟩⟩
  ·
    refine wm_ifT dX3_healedWithout_5 (by decide) 10 rfl ?_
    refine wm_iload_n dX3_healedWithout_10 rfl ?_
    refine wm_iconst dX3_healedWithout_11 ?_
    refine wm_bipush dX3_healedWithout_12 (by decide) ?_
    refine wm_calls dX3_healedWithout_14 (kS3_57 rfl) (kSn3_57 rfl) (mc_in hn (by omega) (by omega)) (by omega) rfl rfl ?_
    rintro _ _ ⟨rfl, ⟨h14, rfl⟩ | ⟨h14, rfl⟩⟩
    ·
      refine wm_ifT dX3_healedWithout_17 (by decide) 23 rfl ?_
      refine wm_aload_n dX3_healedWithout_23 rfl ?_
      refine wm_callv dX3_healedWithout_24 (kV3_157 rfl) rfl (mc_members hS.1 hr) (by omega) rfl rfl ?_
      rintro _ _ ⟨rfl, rfl⟩
      refine wm_iconst dX3_healedWithout_27 ?_
      refine wm_icmp dX3_healedWithout_28 (cB_ne hmr (by omega)) 34 rfl (fun c28 => ?_) (fun c28 => ?_)
      ·
        refine wm_aload_n dX3_healedWithout_34 rfl ?_
        refine wm_iconst dX3_healedWithout_35 ?_
        refine wm_bipush dX3_healedWithout_36 (by decide) ?_
        refine wm_callv dX3_healedWithout_38 (kV3_53 rfl) rfl (mc_copies (x := 0) (y := 10) (by omega) (by omega) (by omega)) (by omega) rfl rfl ?_
        rintro _ _ ⟨rfl, rfl⟩
        refine wm_aload_n dX3_healedWithout_41 rfl ?_
        refine wm_iload_n dX3_healedWithout_42 rfl ?_
        refine wm_iconst dX3_healedWithout_43 ?_
        refine wm_iconst dX3_healedWithout_44 ?_
        refine wm_callv dX3_healedWithout_45 (kV3_114 rfl) rfl (mc_layW (by have := h2.1; omega)) (by omega) rfl rfl ?_
        rintro _ _ ⟨rfl, rfl⟩
        refine wm_aload_n dX3_healedWithout_48 rfl ?_
        refine wm_iload_n dX3_healedWithout_49 rfl ?_
        refine wm_callv dX3_healedWithout_50 (kV3_231 rfl) rfl (mc_forms (τ := setW (copyR τ 0 10 0) (updW ((copyR τ 0 10 0).2 0) (12 + 6 * m + 0).toNat (-1))) (C := C) h14 hC ((copyR_bd hb).upd (by omega)) ((hlo.ws hS).upd (Or.inr (Or.inr (Or.inr ⟨m, by have := h2.1; omega, rfl, by omega, by omega⟩)))) (hl h2 c28) (hf.other (copyR_o τ 0 10 0 (a := 3) (by decide)))) (by omega) rfl rfl ?_
        rintro _ _ ⟨rfl, r1, r2, r3, r4⟩
        rename_i t1
        refine wm_istore_n dX3_healedWithout_53 rfl ?_
        refine wm_aload_n dX3_healedWithout_54 rfl ?_
        refine wm_bipush dX3_healedWithout_55 (by decide) ?_
        refine wm_iconst dX3_healedWithout_57 ?_
        refine wm_callv dX3_healedWithout_58 (kV3_53 rfl) rfl (mc_copies (x := 10) (y := 0) (by omega) (by omega) (by omega)) (by omega) rfl rfl ?_
        rintro _ _ ⟨rfl, rfl⟩
        refine wm_iload_n dX3_healedWithout_61 rfl ?_
        refine wm_ireturn dX3_healedWithout_62 rfl ?_
        have hm9 : 0 ≤ m ∧ m ≤ 9 := by have := h2.1; omega
        exact Or.inr ⟨h2, Or.inr (Or.inr ⟨h14, c28, rfl, thought (w := τ.2 0) (fun i hi => by
          rw [r1.1 i (by omega), upd_ne (by omega)]
          show updW ((copyR τ 0 10 0).2 0) (12 + 6 * m + 0).toNat (-1) i = _
          rw [upd_ne (by omega)]), ⟨fun a ha => by
          rw [copyR_o _ _ _ _ (by omega), r3.1 a ha]
          cases a with
          | zero => exact absurd (Or.inl rfl) ha
          | succ a => exact copyR_o τ 0 10 0 (a := a + 1) (Nat.succ_ne_zero a), fun j h8 h9 => r3.2 j h8 h9⟩, r4.other (copyR_o _ _ _ _ (by decide))⟩)⟩
      ·
        refine wm_bipush dX3_healedWithout_31 (by decide) ?_
        refine wm_ireturn dX3_healedWithout_33 rfl ?_
        exact Or.inr ⟨h2, Or.inr (Or.inl ⟨h14, by omega, rfl, rfl⟩)⟩
    ·
      refine wm_ifF dX3_healedWithout_17 (by decide) 23 rfl ?_
      refine wm_bipush dX3_healedWithout_20 (by decide) ?_
      refine wm_ireturn dX3_healedWithout_22 rfl ?_
      exact Or.inr ⟨h2, Or.inl ⟨h14, rfl, rfl⟩⟩
  ·
    refine wm_ifF dX3_healedWithout_5 (by decide) 10 rfl ?_
    refine wm_iconst dX3_healedWithout_8 ?_
    refine wm_ireturn dX3_healedWithout_9 rfl ?_
    exact Or.inl ⟨h2, rfl, rfl⟩
theorem mc_again {C : Int} (hC : 300 ≤ C ∧ C < 1999999000) (hb : bdW C (τ.2 0)) (hS : WS (τ.2 0)) (hf : HF τ) : Mt 6 rX3_again [.inr 1] τ (fun v t => some (givF (τ.2 0)).2.2.1 = v ∧ GV (τ.2 0) τ t) := by
  intro d hd
  refine wm_aload_n dX3_again_0 rfl ?_
  refine wm_callv dX3_again_1 (kV3_111 rfl) rfl (mc_gives (hS.wg (hb.rng (by omega))) hf) (by omega) rfl rfl ?_
  rintro _ _ ⟨rfl, g⟩
  refine wm_aload_n dX3_again_4 rfl ?_
  refine wm_getI dX3_again_5 (kF3_98 rfl) rfl rfl ?_
  refine wm_ireturn dX3_again_8 rfl ?_
  exact ⟨by rw [g.2.2.2.2.1], g⟩
theorem mc_back (hc8 : 0 ≤ τ.1 1 ∧ τ.1 1 ≤ 8) : Mt 1 rX3_back [.inr 1] τ (fun v t => (τ.1 1 = 0 ∧ some (-3) = v ∧ τ = t) ∨ (¬ τ.1 1 = 0 ∧ some (τ.1 1 - 1) = v ∧ stI (copyR τ (τ.1 1) 0 0) 1 (τ.1 1 - 1) = t)) := by
  intro d hd
  refine wm_aload_n dX3_back_0 rfl ?_
  refine wm_getI dX3_back_1 (kF3_49 rfl) rfl rfl ?_
  refine wm_if dX3_back_4 (cB_ne ⟨by omega, by omega⟩ ⟨by omega, by omega⟩) 10 rfl (fun c4 => ?_) (fun c4 => ?_)
  ·
    refine wm_aload_n dX3_back_10 rfl ?_
    refine wm_aload_n dX3_back_11 rfl ?_
    refine wm_getI dX3_back_12 (kF3_49 rfl) rfl rfl ?_
    refine wm_iconst dX3_back_15 ?_
    refine wm_callv dX3_back_16 (kV3_53 rfl) rfl (mc_copies (x := τ.1 1) (y := 0) (by omega) (by omega) (by omega)) (by omega) rfl rfl ?_
    rintro _ _ ⟨rfl, rfl⟩
    refine wm_aload_n dX3_back_19 rfl ?_
    refine wm_dup dX3_back_20 ?_
    refine wm_getI dX3_back_21 (kF3_49 rfl) rfl rfl ?_
    refine wm_iconst dX3_back_24 ?_
    refine wm_isub dX3_back_25 ?_
    refine wm_putI dX3_back_26 (kF3_49 rfl) rfl rfl (Or.inl rfl) ?_
    refine wm_aload_n dX3_back_29 rfl ?_
    refine wm_getI dX3_back_30 (kF3_49 rfl) rfl rfl ?_
    refine wm_ireturn dX3_back_33 rfl ?_
    exact Or.inr ⟨c4, by simp [stI, copyR], rfl⟩
  ·
    refine wm_bipush dX3_back_7 (by decide) ?_
    refine wm_ireturn dX3_back_9 rfl ?_
    exact Or.inl ⟨by omega, rfl, rfl⟩
theorem mc_image {C : Int} (hC : 300 ≤ C ∧ C < 1999999000) (hb : bdW C (τ.2 0)) (hS : WS (τ.2 0)) : Mf 3 rX3_image [.inr 1] τ (some (manyF ((copyR τ 0 9 0).2 0))) (copyR (stI τ 2 1) 0 9 0) := by
  intro d hd
  have hlo := copyR_lo τ 0 9 (by omega)
  refine wm_aload_n dX3_image_0 rfl ?_
  refine wm_iconst dX3_image_1 ?_
  refine wm_putI dX3_image_2 (kF3_234 rfl) rfl rfl (Or.inr ⟨rfl, by omega⟩) ?_
  refine wm_aload_n dX3_image_5 rfl ?_
  refine wm_iconst dX3_image_6 ?_
  refine wm_bipush dX3_image_7 (by decide) ?_
  refine wm_callv dX3_image_9 (kV3_53 rfl) rfl (mc_copies (x := 0) (y := 9) (by omega) (by omega) (by omega)) (by omega) rfl rfl ?_
  rintro _ _ ⟨rfl, rfl⟩
  refine wm_aload_n dX3_image_12 rfl ?_
  refine wm_callv dX3_image_13 (kV3_157 rfl) rfl (mc_members (τ := copyR (stI τ 2 1) 0 9 0) (hlo.ws hS).1 ((copyR_bd (τ := τ) hb).rng (by omega))) (by omega) rfl rfl ?_
  rintro _ _ ⟨rfl, rfl⟩
  refine wm_ireturn dX3_image_16 rfl ?_
  exact ⟨rfl, rfl⟩
theorem mc_undo {C : Int} (hs : rng (τ.1 2)) (hC : 300 ≤ C ∧ C < 1999999000) (hb : bdW C (τ.2 0)) (hS : ¬ τ.1 2 = 0 → 0 ≤ τ.2 0 2322 ∧ τ.2 0 2322 ≤ 10) : Mt 3 rX3_undo [.inr 1] τ (fun v t => (τ.1 2 = 0 ∧ some (-3) = v ∧ τ = t) ∨ (¬ τ.1 2 = 0 ∧ some (manyF ((copyR τ 9 0 0).2 0)) = v ∧ stI (copyR τ 9 0 0) 1 0 = t)) := by
  intro d hd
  refine wm_aload_n dX3_undo_0 rfl ?_
  refine wm_getI dX3_undo_1 (kF3_234 rfl) rfl rfl ?_
  refine wm_if dX3_undo_4 (cB_ne ⟨by omega, by omega⟩ ⟨by omega, by omega⟩) 10 rfl (fun c4 => ?_) (fun c4 => ?_)
  ·
    refine wm_aload_n dX3_undo_10 rfl ?_
    refine wm_bipush dX3_undo_11 (by decide) ?_
    refine wm_iconst dX3_undo_13 ?_
    refine wm_callv dX3_undo_14 (kV3_53 rfl) rfl (mc_copies (x := 9) (y := 0) (by omega) (by omega) (by omega)) (by omega) rfl rfl ?_
    rintro _ _ ⟨rfl, rfl⟩
    refine wm_aload_n dX3_undo_17 rfl ?_
    refine wm_iconst dX3_undo_18 ?_
    refine wm_putI dX3_undo_19 (kF3_49 rfl) rfl rfl (Or.inl rfl) ?_
    refine wm_aload_n dX3_undo_22 rfl ?_
    refine wm_callv dX3_undo_23 (kV3_157 rfl) rfl (mc_members (τ := stI (copyR τ 9 0 0) 1 0) (by have e : (copyR τ 9 0 0).2 0 0 = τ.2 0 2322 := by { unfold copyR; dsimp only; rw [if_pos ⟨rfl, by omega, by omega⟩]; rfl }; show 0 ≤ (copyR τ 9 0 0).2 0 0 ∧ (copyR τ 9 0 0).2 0 0 ≤ 10; rw [e]; exact hS c4) ((copyR_bd (τ := τ) hb).rng (by omega))) (by omega) rfl rfl ?_
    rintro _ _ ⟨rfl, rfl⟩
    refine wm_ireturn dX3_undo_26 rfl ?_
    exact Or.inr ⟨c4, rfl, rfl⟩
  ·
    refine wm_bipush dX3_undo_7 (by decide) ?_
    refine wm_ireturn dX3_undo_9 rfl ?_
    exact Or.inl ⟨by omega, rfl, rfl⟩
end M14
