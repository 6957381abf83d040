/-! THE MODEL'S METHODS, 3: shapes, places, single steps of members -/
set_option maxRecDepth 100000
def updW (w : Nat → Int) (i : Nat) (v : Int) : Nat → Int := fun j => if j = i then v else w j
/-- the store with another row 'all' -/
def setW (τ : MT) (w : Nat → Int) : MT := (τ.1, fun a => match a with
  | 0 => w
  | a + 1 => τ.2 (a + 1))
theorem stA_setW (τ : MT) (i : Nat) (v : Int) : stA τ 0 i v = setW τ (updW (τ.2 0) i v) := by
  refine Prod.ext rfl (funext fun a => funext fun j => ?_)
  cases a with
  | zero => simp [stA, setW, updW]
  | succ a => simp [stA, setW]
def goesF (w : Nat → Int) (m c : Int) : Nat → Int := updW (updW (updW w (12 + 6 * m + 0).toNat c) (12 + 6 * m + 1).toNat 0) (12 + 6 * m + 2).toNat (updW (updW w (12 + 6 * m + 0).toNat c) (12 + 6 * m + 1).toNat 0 (12 + 6 * m + 2).toNat + 1)
def cntW (w : Nat → Int) (k : Int) : Nat → Int := updW w (4 + k).toNat (w (4 + k).toNat + 1)
def waitsF (w : Nat → Int) (m : Int) : Nat → Int := cntW (updW w (12 + 6 * m + 3).toNat (w (12 + 6 * m + 3).toNat + 1)) 2
def celF (w : Nat → Int) (m : Int) : Int := w (12 + 6 * m + 0).toNat
def sltF (w : Nat → Int) (s : Int) : Int := w (192 + 22 * s).toNat
def ancF (w : Nat → Int) (s : Int) : Int := w (192 + 22 * s + 1).toNat
def colF (w : Nat → Int) (s k : Int) : Int := w (192 + 22 * s + 2 + 2 * k).toNat - w (192 + 22 * s + 2 + 2 * ancF w s).toNat
def rowF (w : Nat → Int) (s k : Int) : Int := w (192 + 22 * s + 3 + 2 * k).toNat - w (192 + 22 * s + 3 + 2 * ancF w s).toNat
/-- the place of a slot of the present shape, or -1 -/
def plcF (w : Nat → Int) (k : Int) : Int := if ledF w < 0 then -1 else
  if ((0 ≤ celF w (ledF w) % 12 + colF w (w 3) k ∧ celF w (ledF w) % 12 + colF w (w 3) k ≤ 11) ∧ (0 ≤ celF w (ledF w) / 12 + rowF w (w 3) k ∧ celF w (ledF w) / 12 + rowF w (w 3) k ≤ 9)) ∧ ¬ w (72 + (12 * (celF w (ledF w) / 12 + rowF w (w 3) k) + (celF w (ledF w) % 12 + colF w (w 3) k))).toNat = 1
  then 12 * (celF w (ledF w) / 12 + rowF w (w 3) k) + (celF w (ledF w) % 12 + colF w (w 3) k) else -1
section M3
variable {τ : MT} {m c v x y z b dd : Int} {d : Nat}
theorem mc_layW (h : 0 ≤ 12 + 6 * m + x ∧ 12 + 6 * m + x < 2838) : Mf 0 rX3_lays [.inr 1, .inl m, .inl x, .inl v] τ none (setW τ (updW (τ.2 0) (12 + 6 * m + x).toNat v)) := by
  rw [← stA_setW]
  exact mc_lays h
theorem mc_countW (h : 0 ≤ 4 + x ∧ 4 + x < 2838) : Mf 0 rX3_counts [.inr 1, .inl x, .inl v] τ none (setW τ (updW (τ.2 0) (4 + x).toNat (τ.2 0 (4 + x).toNat + v))) := by
  rw [← stA_setW]
  exact mc_counts h
theorem mc_shapeAt : Mf 0 rX3_shapeAt [.inl x] τ (some (192 + 22 * x)) τ := by
  intro d hd
  refine wm_sipush dX3_shapeAt_0 (by decide) ?_
  refine wm_bipush dX3_shapeAt_3 (by decide) ?_
  refine wm_iload_n dX3_shapeAt_5 rfl ?_
  refine wm_imul dX3_shapeAt_6 ?_
  refine wm_iadd dX3_shapeAt_7 ?_
  refine wm_ireturn dX3_shapeAt_8 rfl ?_
  exact ⟨rfl, rfl⟩
theorem mc_slots (hx : 0 ≤ x ∧ x ≤ 2) : Mf 1 rX3_slots [.inr 1, .inl x] τ (some (sltF (τ.2 0) x)) τ := by
  intro d hd
  refine wm_aload_n dX3_slots_0 rfl ?_
  refine wm_getA dX3_slots_1 (kF3_9 rfl) rfl ?_
  refine wm_iload_n dX3_slots_4 rfl ?_
  refine wm_calls dX3_slots_5 (kS3_78 rfl) (kSn3_78 rfl) (mc_shapeAt) (by omega) rfl rfl ?_
  rintro _ _ ⟨rfl, rfl⟩
  refine wm_iaload dX3_slots_8 rfl ⟨by omega, by omega⟩ _ rfl ?_
  refine wm_ireturn dX3_slots_9 rfl ?_
  exact ⟨rfl, rfl⟩
theorem mc_anchor (hx : 0 ≤ x ∧ x ≤ 2) : Mf 1 rX3_anchor [.inr 1, .inl x] τ (some (ancF (τ.2 0) x)) τ := by
  intro d hd
  refine wm_aload_n dX3_anchor_0 rfl ?_
  refine wm_getA dX3_anchor_1 (kF3_9 rfl) rfl ?_
  refine wm_iload_n dX3_anchor_4 rfl ?_
  refine wm_calls dX3_anchor_5 (kS3_78 rfl) (kSn3_78 rfl) (mc_shapeAt) (by omega) rfl rfl ?_
  rintro _ _ ⟨rfl, rfl⟩
  refine wm_iconst dX3_anchor_8 ?_
  refine wm_iadd dX3_anchor_9 ?_
  refine wm_iaload dX3_anchor_10 rfl ⟨by omega, by omega⟩ _ rfl ?_
  refine wm_ireturn dX3_anchor_11 rfl ?_
  exact ⟨rfl, rfl⟩
theorem mc_column (hx : 0 ≤ x ∧ x ≤ 2) (hy : 0 ≤ y ∧ y ≤ 9) (ha : 0 ≤ ancF (τ.2 0) x ∧ ancF (τ.2 0) x ≤ 9) : Mf 2 rX3_column [.inr 1, .inl x, .inl y] τ (some (colF (τ.2 0) x y)) τ := by
  intro d hd
  refine wm_aload_n dX3_column_0 rfl ?_
  refine wm_getA dX3_column_1 (kF3_9 rfl) rfl ?_
  refine wm_iload_n dX3_column_4 rfl ?_
  refine wm_calls dX3_column_5 (kS3_78 rfl) (kSn3_78 rfl) (mc_shapeAt) (by omega) rfl rfl ?_
  rintro _ _ ⟨rfl, rfl⟩
  refine wm_iconst dX3_column_8 ?_
  refine wm_iadd dX3_column_9 ?_
  refine wm_iconst dX3_column_10 ?_
  refine wm_iload_n dX3_column_11 rfl ?_
  refine wm_imul dX3_column_12 ?_
  refine wm_iadd dX3_column_13 ?_
  refine wm_iaload dX3_column_14 rfl ⟨by omega, by omega⟩ _ rfl ?_
  refine wm_aload_n dX3_column_15 rfl ?_
  refine wm_getA dX3_column_16 (kF3_9 rfl) rfl ?_
  refine wm_iload_n dX3_column_19 rfl ?_
  refine wm_calls dX3_column_20 (kS3_78 rfl) (kSn3_78 rfl) (mc_shapeAt) (by omega) rfl rfl ?_
  rintro _ _ ⟨rfl, rfl⟩
  refine wm_iconst dX3_column_23 ?_
  refine wm_iadd dX3_column_24 ?_
  refine wm_iconst dX3_column_25 ?_
  refine wm_aload_n dX3_column_26 rfl ?_
  refine wm_iload_n dX3_column_27 rfl ?_
  refine wm_callv dX3_column_28 (kV3_82 rfl) rfl (mc_anchor hx) (by omega) rfl rfl ?_
  rintro _ _ ⟨rfl, rfl⟩
  refine wm_imul dX3_column_31 ?_
  refine wm_iadd dX3_column_32 ?_
  refine wm_iaload dX3_column_33 rfl ⟨by omega, by omega⟩ _ rfl ?_
  refine wm_isub dX3_column_34 ?_
  refine wm_ireturn dX3_column_35 rfl ?_
  exact ⟨rfl, rfl⟩
theorem mc_rowOf (hx : 0 ≤ x ∧ x ≤ 2) (hy : 0 ≤ y ∧ y ≤ 9) (ha : 0 ≤ ancF (τ.2 0) x ∧ ancF (τ.2 0) x ≤ 9) : Mf 2 rX3_rowOf [.inr 1, .inl x, .inl y] τ (some (rowF (τ.2 0) x y)) τ := by
  intro d hd
  refine wm_aload_n dX3_rowOf_0 rfl ?_
  refine wm_getA dX3_rowOf_1 (kF3_9 rfl) rfl ?_
  refine wm_iload_n dX3_rowOf_4 rfl ?_
  refine wm_calls dX3_rowOf_5 (kS3_78 rfl) (kSn3_78 rfl) (mc_shapeAt) (by omega) rfl rfl ?_
  rintro _ _ ⟨rfl, rfl⟩
  refine wm_iconst dX3_rowOf_8 ?_
  refine wm_iadd dX3_rowOf_9 ?_
  refine wm_iconst dX3_rowOf_10 ?_
  refine wm_iload_n dX3_rowOf_11 rfl ?_
  refine wm_imul dX3_rowOf_12 ?_
  refine wm_iadd dX3_rowOf_13 ?_
  refine wm_iaload dX3_rowOf_14 rfl ⟨by omega, by omega⟩ _ rfl ?_
  refine wm_aload_n dX3_rowOf_15 rfl ?_
  refine wm_getA dX3_rowOf_16 (kF3_9 rfl) rfl ?_
  refine wm_iload_n dX3_rowOf_19 rfl ?_
  refine wm_calls dX3_rowOf_20 (kS3_78 rfl) (kSn3_78 rfl) (mc_shapeAt) (by omega) rfl rfl ?_
  rintro _ _ ⟨rfl, rfl⟩
  refine wm_iconst dX3_rowOf_23 ?_
  refine wm_iadd dX3_rowOf_24 ?_
  refine wm_iconst dX3_rowOf_25 ?_
  refine wm_aload_n dX3_rowOf_26 rfl ?_
  refine wm_iload_n dX3_rowOf_27 rfl ?_
  refine wm_callv dX3_rowOf_28 (kV3_82 rfl) rfl (mc_anchor hx) (by omega) rfl rfl ?_
  rintro _ _ ⟨rfl, rfl⟩
  refine wm_imul dX3_rowOf_31 ?_
  refine wm_iadd dX3_rowOf_32 ?_
  refine wm_iaload dX3_rowOf_33 rfl ⟨by omega, by omega⟩ _ rfl ?_
  refine wm_isub dX3_rowOf_34 ?_
  refine wm_ireturn dX3_rowOf_35 rfl ?_
  exact ⟨rfl, rfl⟩
theorem mc_goes (hm : 0 ≤ m ∧ m ≤ 9) : Mf 1 rX3_goes [.inr 1, .inl m, .inl c] τ none (setW τ (goesF (τ.2 0) m c)) := by
  intro d hd
  refine wm_aload_n dX3_goes_0 rfl ?_
  refine wm_iload_n dX3_goes_1 rfl ?_
  refine wm_iconst dX3_goes_2 ?_
  refine wm_iload_n dX3_goes_3 rfl ?_
  refine wm_callv dX3_goes_4 (kV3_114 rfl) rfl (mc_layW (by omega)) (by omega) rfl rfl ?_
  rintro _ _ ⟨rfl, rfl⟩
  refine wm_aload_n dX3_goes_7 rfl ?_
  refine wm_iload_n dX3_goes_8 rfl ?_
  refine wm_iconst dX3_goes_9 ?_
  refine wm_iconst dX3_goes_10 ?_
  refine wm_callv dX3_goes_11 (kV3_114 rfl) rfl (mc_layW (by omega)) (by omega) rfl rfl ?_
  rintro _ _ ⟨rfl, rfl⟩
  refine wm_aload_n dX3_goes_14 rfl ?_
  refine wm_iload_n dX3_goes_15 rfl ?_
  refine wm_iconst dX3_goes_16 ?_
  refine wm_aload_n dX3_goes_17 rfl ?_
  refine wm_iload_n dX3_goes_18 rfl ?_
  refine wm_iconst dX3_goes_19 ?_
  refine wm_callv dX3_goes_20 (kV3_61 rfl) rfl (mc_of (by omega)) (by omega) rfl rfl ?_
  rintro _ _ ⟨rfl, rfl⟩
  refine wm_iconst dX3_goes_23 ?_
  refine wm_iadd dX3_goes_24 ?_
  refine wm_callv dX3_goes_25 (kV3_114 rfl) rfl (mc_layW (by omega)) (by omega) rfl rfl ?_
  rintro _ _ ⟨rfl, rfl⟩
  refine wm_vreturn dX3_goes_28 rfl ?_
  exact ⟨rfl, rfl⟩
theorem mc_waits (hm : 0 ≤ m ∧ m ≤ 9) : Mf 1 rX3_waits [.inr 1, .inl m] τ none (setW τ (waitsF (τ.2 0) m)) := by
  intro d hd
  refine wm_aload_n dX3_waits_0 rfl ?_
  refine wm_iload_n dX3_waits_1 rfl ?_
  refine wm_iconst dX3_waits_2 ?_
  refine wm_aload_n dX3_waits_3 rfl ?_
  refine wm_iload_n dX3_waits_4 rfl ?_
  refine wm_iconst dX3_waits_5 ?_
  refine wm_callv dX3_waits_6 (kV3_61 rfl) rfl (mc_of (by omega)) (by omega) rfl rfl ?_
  rintro _ _ ⟨rfl, rfl⟩
  refine wm_iconst dX3_waits_9 ?_
  refine wm_iadd dX3_waits_10 ?_
  refine wm_callv dX3_waits_11 (kV3_114 rfl) rfl (mc_layW (by omega)) (by omega) rfl rfl ?_
  rintro _ _ ⟨rfl, rfl⟩
  refine wm_aload_n dX3_waits_14 rfl ?_
  refine wm_iconst dX3_waits_15 ?_
  refine wm_iconst dX3_waits_16 ?_
  refine wm_callv dX3_waits_17 (kV3_118 rfl) rfl (mc_countW (by omega)) (by omega) rfl rfl ?_
  rintro _ _ ⟨rfl, rfl⟩
  refine wm_vreturn dX3_waits_20 rfl ?_
  exact ⟨rfl, rfl⟩
theorem mc_distanceOf (hx : 0 ≤ x ∧ x < 120) (hy : 0 ≤ y ∧ y < 120) (hr : ∀ i, rng (τ.2 0 i)) : Mt 3 rX3_distanceOf [.inr 1, .inl x, .inl y] τ (fun v t => some (bfsF (blkF (τ.2 0)) y x) = v ∧ ∃ q, t = flR τ 1200 (bfsF (blkF (τ.2 0)) y) q) := by
  intro d hd
  refine wm_aload_n dX3_distanceOf_0 rfl ?_
  refine wm_bipush dX3_distanceOf_1 (by decide) ?_
  refine wm_iload_n dX3_distanceOf_3 rfl ?_
  refine wm_callv dX3_distanceOf_4 (kV3_75 rfl) rfl (mc_floods (x := 10) (by omega) hy hr) (by omega) rfl rfl ?_
  rintro _ _ ⟨rfl, q, rfl⟩
  refine wm_aload_n dX3_distanceOf_7 rfl ?_
  refine wm_getA dX3_distanceOf_8 (kF3_13 rfl) rfl ?_
  refine wm_sipush dX3_distanceOf_11 (by decide) ?_
  refine wm_iload_n dX3_distanceOf_14 rfl ?_
  refine wm_iadd dX3_distanceOf_15 ?_
  refine wm_iaload dX3_distanceOf_16 rfl ⟨by omega, by omega⟩ _ rfl ?_
  refine wm_ireturn dX3_distanceOf_17 rfl ?_
  rw [show (120 * (10 : Int)) = 1200 from rfl]
  exact ⟨by rw [flR_f τ _ _ (by omega) hx], q, rfl⟩
theorem fstI_rng (p : Int → Bool) : ∀ (n : Nat) (i : Int), 0 ≤ i → fstI p n i = -1 ∨ (i ≤ fstI p n i ∧ fstI p n i < i + n ∧ p (fstI p n i) = true ∧ ∀ j, i ≤ j → j < fstI p n i → p j = false) := by
  intro n
  induction n with
  | zero => intro i hi; exact Or.inl rfl
  | succ n ih =>
    intro i hi
    unfold fstI
    by_cases h : p i = true
    · rw [if_pos h]
      exact Or.inr ⟨Int.le_refl _, by omega, h, fun j h1 h2 => by omega⟩
    · rw [if_neg h]
      rcases ih (i + 1) (by omega) with e | ⟨a1, a2, a3, a4⟩
      · exact Or.inl e
      · refine Or.inr ⟨by omega, by omega, a3, fun j h1 h2 => ?_⟩
        by_cases e : j = i
        · subst e; exact Bool.eq_false_iff.mpr h
        · exact a4 j (by omega) h2
theorem ledF_rng (w : Nat → Int) (h : w 0 ≤ 10) : -1 ≤ ledF w ∧ ledF w ≤ 9 ∧ (0 ≤ ledF w → isM w (ledF w)) := by
  unfold ledF
  split
  · rename_i h1
    exact ⟨by omega, by have := h1.2.1.2; omega, fun _ => h1.2⟩
  · rcases fstI_rng (fun m => decide (isM w m)) 10 0 (by omega) with e | ⟨a1, a2, a3, -⟩
    · rw [e]; exact ⟨by omega, by omega, fun h => by omega⟩
    · exact ⟨by omega, by omega, fun _ => of_decide_eq_true a3⟩
theorem onF_rng (w : Nat → Int) (c : Int) : -1 ≤ onF w c ∧ onF w c ≤ 9 ∧ (0 ≤ onF w c → isM w (onF w c) ∧ w (12 + 6 * onF w c + 0).toNat = c) := by
  unfold onF
  rcases fstI_rng (fun m => decide (isM w m ∧ w (12 + 6 * m + 0).toNat = c)) 10 0 (by omega) with e | ⟨a1, a2, a3, -⟩
  · rw [e]; exact ⟨by omega, by omega, fun h => by omega⟩
  · exact ⟨by omega, by omega, fun _ => of_decide_eq_true a3⟩
theorem mc_placeOf (h0 : 0 ≤ τ.2 0 0 ∧ τ.2 0 0 ≤ 10) (hr : ∀ i, rng (τ.2 0 i)) (hp : 0 ≤ τ.2 0 3 ∧ τ.2 0 3 ≤ 2) (hc : ∀ m, 0 ≤ m → m ≤ 9 → celF (τ.2 0) m < 120) (hy : 0 ≤ y ∧ y ≤ 9) (ha : 0 ≤ ancF (τ.2 0) (τ.2 0 3) ∧ ancF (τ.2 0) (τ.2 0 3) ≤ 9) (hk : (-1000 ≤ colF (τ.2 0) (τ.2 0 3) y ∧ colF (τ.2 0) (τ.2 0 3) y ≤ 1000) ∧ -1000 ≤ rowF (τ.2 0) (τ.2 0 3) y ∧ rowF (τ.2 0) (τ.2 0 3) y ≤ 1000) : Mf 3 rX3_placeOf [.inr 1, .inl y] τ (some (plcF (τ.2 0) y)) τ := by
  intro d hd
  have hl := ledF_rng (τ.2 0) h0.2
  refine wm_aload_n dX3_placeOf_0 rfl ?_
  refine wm_callv dX3_placeOf_1 (kV3_85 rfl) rfl (mc_leader h0 hr) (by omega) rfl rfl ?_
  rintro _ _ ⟨rfl, rfl⟩
  refine wm_istore_n dX3_placeOf_4 rfl ?_
  refine wm_iload_n dX3_placeOf_5 rfl ?_
  refine wm_if dX3_placeOf_6 (cB_ge ⟨by omega, by omega⟩ ⟨by omega, by omega⟩) 11 rfl (fun c6 => ?_) (fun c6 => ?_)
  ·
    have hcl := hc _ (by omega) hl.2.1
    have hcg := (hl.2.2 (by omega)).2
    have hcd : celF (τ.2 0) (ledF (τ.2 0)) = τ.2 0 (12 + 6 * ledF (τ.2 0) + 0).toNat := rfl
    refine wm_aload_n dX3_placeOf_11 rfl ?_
    refine wm_iload_n dX3_placeOf_12 rfl ?_
    refine wm_iconst dX3_placeOf_13 ?_
    refine wm_callv dX3_placeOf_14 (kV3_61 rfl) rfl (mc_of (by omega)) (by omega) rfl rfl ?_
    rintro _ _ ⟨rfl, rfl⟩
    refine wm_bipush dX3_placeOf_17 (by decide) ?_
    refine wm_irem dX3_placeOf_19 (by unfold celF at hcl; omega) ⟨by omega, by omega⟩ ?_
    refine wm_aload_n dX3_placeOf_20 rfl ?_
    refine wm_aload_n dX3_placeOf_21 rfl ?_
    refine wm_getA dX3_placeOf_22 (kF3_9 rfl) rfl ?_
    refine wm_iconst dX3_placeOf_25 ?_
    refine wm_iaload dX3_placeOf_26 rfl ⟨by omega, by omega⟩ 3 rfl ?_
    refine wm_iload_n dX3_placeOf_27 rfl ?_
    refine wm_callv dX3_placeOf_28 (kV3_89 rfl) rfl (mc_column hp hy ha) (by omega) rfl rfl ?_
    rintro _ _ ⟨rfl, rfl⟩
    refine wm_iadd dX3_placeOf_31 ?_
    refine wm_istore_n dX3_placeOf_32 rfl ?_
    refine wm_aload_n dX3_placeOf_33 rfl ?_
    refine wm_iload_n dX3_placeOf_34 rfl ?_
    refine wm_iconst dX3_placeOf_35 ?_
    refine wm_callv dX3_placeOf_36 (kV3_61 rfl) rfl (mc_of (by omega)) (by omega) rfl rfl ?_
    rintro _ _ ⟨rfl, rfl⟩
    refine wm_bipush dX3_placeOf_39 (by decide) ?_
    refine wm_idiv dX3_placeOf_41 (by unfold celF at hcl; omega) ⟨by omega, by omega⟩ ?_
    refine wm_aload_n dX3_placeOf_42 rfl ?_
    refine wm_aload_n dX3_placeOf_43 rfl ?_
    refine wm_getA dX3_placeOf_44 (kF3_9 rfl) rfl ?_
    refine wm_iconst dX3_placeOf_47 ?_
    refine wm_iaload dX3_placeOf_48 rfl ⟨by omega, by omega⟩ 3 rfl ?_
    refine wm_iload_n dX3_placeOf_49 rfl ?_
    refine wm_callv dX3_placeOf_50 (kV3_92 rfl) rfl (mc_rowOf hp hy ha) (by omega) rfl rfl ?_
    rintro _ _ ⟨rfl, rfl⟩
    refine wm_iadd dX3_placeOf_53 ?_
    refine wm_istore dX3_placeOf_54 rfl ?_
    refine wm_iload_n dX3_placeOf_56 rfl ?_
    refine wm_iconst dX3_placeOf_57 ?_
    refine wm_bipush dX3_placeOf_58 (by decide) ?_
    refine wm_calls dX3_placeOf_60 (kS3_57 rfl) (kSn3_57 rfl) (mc_in (show rng (celF (τ.2 0) (ledF (τ.2 0)) % 12 + _) by omega) (by omega) (by omega)) (by omega) rfl rfl ?_
    rintro _ _ ⟨rfl, ⟨h60, rfl⟩ | ⟨h60, rfl⟩⟩
    ·
      refine wm_ifF dX3_placeOf_63 (by decide) 101 rfl ?_
      refine wm_iload dX3_placeOf_66 rfl ?_
      refine wm_iconst dX3_placeOf_68 ?_
      refine wm_bipush dX3_placeOf_69 (by decide) ?_
      refine wm_calls dX3_placeOf_71 (kS3_57 rfl) (kSn3_57 rfl) (mc_in (show rng (celF (τ.2 0) (ledF (τ.2 0)) / 12 + _) by omega) (by omega) (by omega)) (by omega) rfl rfl ?_
      rintro _ _ ⟨rfl, ⟨h71, rfl⟩ | ⟨h71, rfl⟩⟩
      ·
        refine wm_ifF dX3_placeOf_74 (by decide) 101 rfl ?_
        refine wm_aload_n dX3_placeOf_77 rfl ?_
        refine wm_bipush dX3_placeOf_78 (by decide) ?_
        refine wm_iload dX3_placeOf_80 rfl ?_
        refine wm_imul dX3_placeOf_82 ?_
        refine wm_iload_n dX3_placeOf_83 rfl ?_
        refine wm_iadd dX3_placeOf_84 ?_
        refine wm_callv dX3_placeOf_85 (kV3_69 rfl) rfl (mc_isBlocked (by omega) (hr _)) (by omega) rfl rfl ?_
        rintro _ _ ⟨rfl, ⟨h85, rfl⟩ | ⟨h85, rfl⟩⟩
        ·
          refine wm_ifT dX3_placeOf_88 (by decide) 101 rfl ?_
          refine wm_iconst dX3_placeOf_101 ?_
          refine wm_ireturn dX3_placeOf_102 rfl ?_
          refine ⟨?_, rfl⟩
          rw [plcF, if_neg (by omega)]
          first | (rw [if_pos ⟨⟨h60, h71⟩, h85⟩]; done) | (rw [if_pos ⟨⟨h60, h71⟩, h85⟩]; rfl) | (rw [if_neg (fun h => h60 h.1.1)]; done) | (rw [if_neg (fun h => h71 h.1.2)]; done) | (rw [if_neg (fun h => h.2 h85)]; done)
        ·
          refine wm_ifF dX3_placeOf_88 (by decide) 101 rfl ?_
          refine wm_bipush dX3_placeOf_91 (by decide) ?_
          refine wm_iload dX3_placeOf_93 rfl ?_
          refine wm_imul dX3_placeOf_95 ?_
          refine wm_iload_n dX3_placeOf_96 rfl ?_
          refine wm_iadd dX3_placeOf_97 ?_
          refine wm_goto dX3_placeOf_98 102 rfl ?_
          refine wm_ireturn dX3_placeOf_102 rfl ?_
          refine ⟨?_, rfl⟩
          rw [plcF, if_neg (by omega)]
          first | (rw [if_pos ⟨⟨h60, h71⟩, h85⟩]; done) | (rw [if_pos ⟨⟨h60, h71⟩, h85⟩]; rfl) | (rw [if_neg (fun h => h60 h.1.1)]; done) | (rw [if_neg (fun h => h71 h.1.2)]; done) | (rw [if_neg (fun h => h.2 h85)]; done)
      ·
        refine wm_ifT dX3_placeOf_74 (by decide) 101 rfl ?_
        refine wm_iconst dX3_placeOf_101 ?_
        refine wm_ireturn dX3_placeOf_102 rfl ?_
        refine ⟨?_, rfl⟩
        rw [plcF, if_neg (by omega)]
        first | (rw [if_pos ⟨⟨h60, h71⟩, h85⟩]; done) | (rw [if_pos ⟨⟨h60, h71⟩, h85⟩]; rfl) | (rw [if_neg (fun h => h60 h.1.1)]; done) | (rw [if_neg (fun h => h71 h.1.2)]; done) | (rw [if_neg (fun h => h.2 h85)]; done)
    ·
      refine wm_ifT dX3_placeOf_63 (by decide) 101 rfl ?_
      refine wm_iconst dX3_placeOf_101 ?_
      refine wm_ireturn dX3_placeOf_102 rfl ?_
      refine ⟨?_, rfl⟩
      rw [plcF, if_neg (by omega)]
      first | (rw [if_pos ⟨⟨h60, h71⟩, h85⟩]; done) | (rw [if_pos ⟨⟨h60, h71⟩, h85⟩]; rfl) | (rw [if_neg (fun h => h60 h.1.1)]; done) | (rw [if_neg (fun h => h71 h.1.2)]; done) | (rw [if_neg (fun h => h.2 h85)]; done)
  ·
    refine wm_iconst dX3_placeOf_9 ?_
    refine wm_ireturn dX3_placeOf_10 rfl ?_
    exact ⟨by rw [plcF, if_pos (by omega)], rfl⟩
end M3
