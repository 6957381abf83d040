/-! THE MODEL'S METHODS, 4: a member acts, the leader acts -/
set_option maxRecDepth 100000
/-- the first good way -/
def wayF (p : Int → Bool) : Int := fstI p 4 0
def stpF (F : Int → Int) (w : Nat → Int) (m dd : Int) : Int → Bool := fun v => decide (0 ≤ besF (celF w m) v ∧ F (besF (celF w m) v) = dd - 1 ∧ onF w (besF (celF w m) v) < 0)
def stepW (w : Nat → Int) (m c : Int) : Nat → Int := updW (cntW (goesF w m c) 1) (12 + 6 * m + 5).toNat 0
abbrev mexF (sl : Int → Int) (FF : Int → Int → Int) (w : Nat → Int) (o here there : Int) : Prop := o ≠ ledF w ∧ 0 ≤ sl o ∧ FF (sl o) there < FF (sl o) here
def excF (sl : Int → Int) (FF : Int → Int → Int) (F : Int → Int) (w : Nat → Int) (m dd : Int) : Int → Bool := fun v => decide (0 ≤ besF (celF w m) v ∧ F (besF (celF w m) v) = dd - 1 ∧ 0 ≤ onF w (besF (celF w m) v) ∧ mexF sl FF w (onF w (besF (celF w m) v)) (besF (celF w m) v) (celF w m))
def exchW (w : Nat → Int) (m o c here : Int) : Nat → Int := updW (updW (cntW (goesF (goesF w m c) o here) 3) (12 + 6 * m + 5).toNat 4) (12 + 6 * o + 5).toNat 4
def asdF (w : Nat → Int) (m : Int) : Int → Bool := fun v => decide (0 ≤ besF (celF w m) v ∧ ¬ w (72 + besF (celF w m) v).toNat = 1 ∧ onF w (besF (celF w m) v) < 0)
def asideW (w : Nat → Int) (m c : Int) : Nat → Int := updW (cntW (goesF w m c) 4) (12 + 6 * m + 5).toNat 5
def waitW (w : Nat → Int) (m : Int) : Nat → Int := updW (waitsF (updW w (12 + 6 * m + 1).toNat (w (12 + 6 * m + 1).toNat + 1)) m) (12 + 6 * m + 5).toNat 3
/-- an exchange by way v -/
def excW (w : Nat → Int) (m v : Int) : Nat → Int := exchW w m (onF w (besF (celF w m) v)) (besF (celF w m) v) (celF w m)
def actF (sl : Int → Int) (FF : Int → Int → Int) (w : Nat → Int) (m : Int) : Nat → Int :=
  if FF (sl m) (celF w m) = 0 then w else
  if 0 ≤ wayF (stpF (FF (sl m)) w m (FF (sl m) (celF w m))) then stepW w m (besF (celF w m) (wayF (stpF (FF (sl m)) w m (FF (sl m) (celF w m))))) else
  if 0 ≤ wayF (excF sl FF (FF (sl m)) w m (FF (sl m) (celF w m))) then excW w m (wayF (excF sl FF (FF (sl m)) w m (FF (sl m) (celF w m)))) else
  if 2 ≤ w (12 + 6 * m + 1).toNat ∧ 0 ≤ wayF (asdF w m) then asideW w m (besF (celF w m) (wayF (asdF w m))) else waitW w m
section M4
variable {τ : MT} {m c v x y z b dd o : Int} {d : Nat}
def gsl (τ : MT) (m : Int) : Int := τ.2 7 m.toNat
def gfr (τ : MT) (s x : Int) : Int := τ.2 3 (120 * s + x).toNat
theorem mc_steps_loop (hm : 0 ≤ m ∧ m ≤ 9) (hb : 0 ≤ b ∧ b ≤ 1320) (hc : 0 ≤ celF (τ.2 0) m ∧ celF (τ.2 0) m < 120) (h0 : 0 ≤ τ.2 0 0 ∧ τ.2 0 0 ≤ 10) (hr : ∀ i, rng (τ.2 0 i)) (hf : ∀ i, rng (τ.2 3 i)) (hdd : -100000 ≤ dd ∧ dd ≤ 100000) (hd : 3 ≤ d) : ∀ (n : Nat) (i : Int) (o5 : Option AV), i + n = 4 → 0 ≤ i → Wm d rX3_steps 3 [some (.inr 1), some (.inl m), some (.inl b), some (.inl dd), some (.inl i), o5] [] τ (fun v t => (fstI (stpF (fun x => τ.2 3 (b + x).toNat) (τ.2 0) m dd) n i < 0 ∧ some 0 = v ∧ τ = t) ∨ (0 ≤ fstI (stpF (fun x => τ.2 3 (b + x).toNat) (τ.2 0) m dd) n i ∧ some 1 = v ∧ setW τ (stepW (τ.2 0) m (besF (celF (τ.2 0) m) (fstI (stpF (fun x => τ.2 3 (b + x).toNat) (τ.2 0) m dd) n i))) = t)) := by
  intro n
  induction n with
  | zero =>
    intro i o5 hi hi0
    refine wm_iload dX3_steps_3 rfl ?_
    refine wm_iconst dX3_steps_5 ?_
    refine wm_icmp dX3_steps_6 (cB_ge ⟨by omega, by omega⟩ ⟨by omega, by omega⟩) 82 rfl (fun c6 => ?_) (fun c6 => ?_)
    ·
      refine wm_iconst dX3_steps_82 ?_
      refine wm_breturn dX3_steps_83 rfl (by omega) ?_
      exact Or.inl ⟨by rw [fstI]; omega, rfl, rfl⟩
    ·
      omega
  | succ n ih =>
    intro i o5 hi hi0
    have hbs := besF_rng (celF (τ.2 0) m) i
    have hno : stpF (fun x => τ.2 3 (b + x).toNat) (τ.2 0) m dd i = false → ∀ o5, Wm d rX3_steps 3 [some (.inr 1), some (.inl m), some (.inl b), some (.inl dd), some (.inl (i + 1)), o5] [] τ (fun v t => (fstI (stpF (fun x => τ.2 3 (b + x).toNat) (τ.2 0) m dd) (n + 1) i < 0 ∧ some 0 = v ∧ τ = t) ∨ (0 ≤ fstI (stpF (fun x => τ.2 3 (b + x).toNat) (τ.2 0) m dd) (n + 1) i ∧ some 1 = v ∧ setW τ (stepW (τ.2 0) m (besF (celF (τ.2 0) m) (fstI (stpF (fun x => τ.2 3 (b + x).toNat) (τ.2 0) m dd) (n + 1) i))) = t)) := fun h o5 => by
      rw [fstI, if_neg (by rw [h]; decide)]
      exact ih (i + 1) o5 (by omega) (by omega)
    refine wm_iload dX3_steps_3 rfl ?_
    refine wm_iconst dX3_steps_5 ?_
    refine wm_icmp dX3_steps_6 (cB_ge ⟨by omega, by omega⟩ ⟨by omega, by omega⟩) 82 rfl (fun c6 => ?_) (fun c6 => ?_)
    ·
      omega
    ·
      refine wm_aload_n dX3_steps_9 rfl ?_
      refine wm_iload_n dX3_steps_10 rfl ?_
      refine wm_iconst dX3_steps_11 ?_
      refine wm_callv dX3_steps_12 (kV3_61 rfl) rfl (mc_of (by omega)) (by omega) rfl rfl ?_
      rintro _ _ ⟨rfl, rfl⟩
      refine wm_iload dX3_steps_15 rfl ?_
      refine wm_calls dX3_steps_17 (kS3_72 rfl) (kSn3_72 rfl) (mc_beside hc (by omega)) (by omega) rfl rfl ?_
      rintro _ _ ⟨rfl, rfl⟩
      refine wm_istore dX3_steps_20 rfl ?_
      refine wm_iload dX3_steps_22 rfl ?_
      refine wm_if dX3_steps_24 (cB_lt (show rng (besF (celF (τ.2 0) m) i) by omega) ⟨by omega, by omega⟩) 76 rfl (fun c24 => ?_) (fun c24 => ?_)
      ·
        refine wm_iinc dX3_steps_76 rfl ?_
        refine wm_goto dX3_steps_79 3 rfl ?_
        exact hno (by unfold stpF; rw [decide_eq_false_iff_not]; exact fun h => by have := h.1; have : besF (celF (τ.2 0) m) i < 0 := c24; omega) _
      ·
        refine wm_aload_n dX3_steps_27 rfl ?_
        refine wm_getA dX3_steps_28 (kF3_13 rfl) rfl ?_
        refine wm_iload_n dX3_steps_31 rfl ?_
        refine wm_iload dX3_steps_32 rfl ?_
        refine wm_iadd dX3_steps_34 ?_
        refine wm_iaload dX3_steps_35 rfl ⟨show 0 ≤ b + besF (celF (τ.2 0) m) i by (have : ¬ besF (celF (τ.2 0) m) i < 0 := c24); omega, show b + besF (celF (τ.2 0) m) i < 1440 by omega⟩ _ rfl ?_
        refine wm_iload_n dX3_steps_36 rfl ?_
        refine wm_iconst dX3_steps_37 ?_
        refine wm_isub dX3_steps_38 ?_
        refine wm_icmp dX3_steps_39 (cB_ne (hf _) ⟨by omega, by omega⟩) 76 rfl (fun c39 => ?_) (fun c39 => ?_)
        ·
          refine wm_iinc dX3_steps_76 rfl ?_
          refine wm_goto dX3_steps_79 3 rfl ?_
          exact hno (by unfold stpF; rw [decide_eq_false_iff_not]; exact fun h => c39 h.2.1) _
        ·
          refine wm_aload_n dX3_steps_42 rfl ?_
          refine wm_iload dX3_steps_43 rfl ?_
          refine wm_callv dX3_steps_45 (kV3_121 rfl) rfl (mc_on (by omega) h0 hr) (by omega) rfl rfl ?_
          rintro _ _ ⟨rfl, rfl⟩
          refine wm_if dX3_steps_48 (cB_lt (by have := onF_rng (τ.2 0) (besF (celF (τ.2 0) m) i); omega) ⟨by omega, by omega⟩) 54 rfl (fun c48 => ?_) (fun c48 => ?_)
          ·
            refine wm_aload_n dX3_steps_54 rfl ?_
            refine wm_iload_n dX3_steps_55 rfl ?_
            refine wm_iload dX3_steps_56 rfl ?_
            refine wm_callv dX3_steps_58 (kV3_127 rfl) rfl (mc_goes hm) (by omega) rfl rfl ?_
            rintro _ _ ⟨rfl, rfl⟩
            refine wm_aload_n dX3_steps_61 rfl ?_
            refine wm_iconst dX3_steps_62 ?_
            refine wm_iconst dX3_steps_63 ?_
            refine wm_callv dX3_steps_64 (kV3_118 rfl) rfl (mc_countW (by omega)) (by omega) rfl rfl ?_
            rintro _ _ ⟨rfl, rfl⟩
            refine wm_aload_n dX3_steps_67 rfl ?_
            refine wm_iload_n dX3_steps_68 rfl ?_
            refine wm_iconst dX3_steps_69 ?_
            refine wm_iconst dX3_steps_70 ?_
            refine wm_callv dX3_steps_71 (kV3_114 rfl) rfl (mc_layW (by omega)) (by omega) rfl rfl ?_
            rintro _ _ ⟨rfl, rfl⟩
            refine wm_iconst dX3_steps_74 ?_
            refine wm_breturn dX3_steps_75 rfl (by omega) ?_
            have hy : stpF (fun x => τ.2 3 (b + x).toNat) (τ.2 0) m dd i = true := by
              unfold stpF
              rw [decide_eq_true_eq]
              exact ⟨by (have : ¬ besF (celF (τ.2 0) m) i < 0 := c24); omega, Classical.not_not.mp c39, c48⟩
            rw [fstI, if_pos hy]
            exact Or.inr ⟨hi0, rfl, rfl⟩
          ·
            refine wm_goto dX3_steps_51 76 rfl ?_
            refine wm_iinc dX3_steps_76 rfl ?_
            refine wm_goto dX3_steps_79 3 rfl ?_
            exact hno (by unfold stpF; rw [decide_eq_false_iff_not]; exact fun h => c48 h.2.2) _
theorem mc_steps (hm : 0 ≤ m ∧ m ≤ 9) (hb : 0 ≤ b ∧ b ≤ 1320) (hc : 0 ≤ celF (τ.2 0) m ∧ celF (τ.2 0) m < 120) (h0 : 0 ≤ τ.2 0 0 ∧ τ.2 0 0 ≤ 10) (hr : ∀ i, rng (τ.2 0 i)) (hf : ∀ i, rng (τ.2 3 i)) (hdd : -100000 ≤ dd ∧ dd ≤ 100000) : Mt 3 rX3_steps [.inr 1, .inl m, .inl b, .inl dd] τ (fun v t => (wayF (stpF (fun x => τ.2 3 (b + x).toNat) (τ.2 0) m dd) < 0 ∧ some 0 = v ∧ τ = t) ∨ (0 ≤ wayF (stpF (fun x => τ.2 3 (b + x).toNat) (τ.2 0) m dd) ∧ some 1 = v ∧ setW τ (stepW (τ.2 0) m (besF (celF (τ.2 0) m) (wayF (stpF (fun x => τ.2 3 (b + x).toNat) (τ.2 0) m dd)))) = t)) := by
  intro d hd
  refine wm_iconst dX3_steps_0 ?_
  refine wm_istore dX3_steps_1 rfl ?_
  exact mc_steps_loop hm hb hc h0 hr hf hdd hd 4 0 _ (by omega) (by omega)
theorem mc_stepsAside_loop (hm : 0 ≤ m ∧ m ≤ 9) (hc : 0 ≤ celF (τ.2 0) m ∧ celF (τ.2 0) m < 120) (h0 : 0 ≤ τ.2 0 0 ∧ τ.2 0 0 ≤ 10) (hr : ∀ i, rng (τ.2 0 i)) (hd : 3 ≤ d) : ∀ (n : Nat) (i : Int) (o5 : Option AV), i + n = 4 → 0 ≤ i → Wm d rX3_stepsAside 2 [some (.inr 1), some (.inl m), some (.inl i), o5] [] τ (fun v t => (fstI (asdF (τ.2 0) m) n i < 0 ∧ some 0 = v ∧ τ = t) ∨ (0 ≤ fstI (asdF (τ.2 0) m) n i ∧ some 1 = v ∧ setW τ (asideW (τ.2 0) m (besF (celF (τ.2 0) m) (fstI (asdF (τ.2 0) m) n i))) = t)) := by
  intro n
  induction n with
  | zero =>
    intro i o5 hi hi0
    refine wm_iload_n dX3_stepsAside_2 rfl ?_
    refine wm_iconst dX3_stepsAside_3 ?_
    refine wm_icmp dX3_stepsAside_4 (cB_ge ⟨by omega, by omega⟩ ⟨by omega, by omega⟩) 68 rfl (fun c4 => ?_) (fun c4 => ?_)
    ·
      refine wm_iconst dX3_stepsAside_68 ?_
      refine wm_breturn dX3_stepsAside_69 rfl (by omega) ?_
      exact Or.inl ⟨by rw [fstI]; omega, rfl, rfl⟩
    ·
      omega
  | succ n ih =>
    intro i o5 hi hi0
    have hbs := besF_rng (celF (τ.2 0) m) i
    have hno : asdF (τ.2 0) m i = false → ∀ o5, Wm d rX3_stepsAside 2 [some (.inr 1), some (.inl m), some (.inl (i + 1)), o5] [] τ (fun v t => (fstI (asdF (τ.2 0) m) (n + 1) i < 0 ∧ some 0 = v ∧ τ = t) ∨ (0 ≤ fstI (asdF (τ.2 0) m) (n + 1) i ∧ some 1 = v ∧ setW τ (asideW (τ.2 0) m (besF (celF (τ.2 0) m) (fstI (asdF (τ.2 0) m) (n + 1) i))) = t)) := fun h o5 => by
      rw [fstI, if_neg (by rw [h]; decide)]
      exact ih (i + 1) o5 (by omega) (by omega)
    refine wm_iload_n dX3_stepsAside_2 rfl ?_
    refine wm_iconst dX3_stepsAside_3 ?_
    refine wm_icmp dX3_stepsAside_4 (cB_ge ⟨by omega, by omega⟩ ⟨by omega, by omega⟩) 68 rfl (fun c4 => ?_) (fun c4 => ?_)
    ·
      omega
    ·
      refine wm_aload_n dX3_stepsAside_7 rfl ?_
      refine wm_iload_n dX3_stepsAside_8 rfl ?_
      refine wm_iconst dX3_stepsAside_9 ?_
      refine wm_callv dX3_stepsAside_10 (kV3_61 rfl) rfl (mc_of (by omega)) (by omega) rfl rfl ?_
      rintro _ _ ⟨rfl, rfl⟩
      refine wm_iload_n dX3_stepsAside_13 rfl ?_
      refine wm_calls dX3_stepsAside_14 (kS3_72 rfl) (kSn3_72 rfl) (mc_beside hc (by omega)) (by omega) rfl rfl ?_
      rintro _ _ ⟨rfl, rfl⟩
      refine wm_istore_n dX3_stepsAside_17 rfl ?_
      refine wm_iload_n dX3_stepsAside_18 rfl ?_
      refine wm_if dX3_stepsAside_19 (cB_lt (show rng (besF (celF (τ.2 0) m) i) by omega) ⟨by omega, by omega⟩) 62 rfl (fun c19 => ?_) (fun c19 => ?_)
      ·
        refine wm_iinc dX3_stepsAside_62 rfl ?_
        refine wm_goto dX3_stepsAside_65 2 rfl ?_
        exact hno (by unfold asdF; rw [decide_eq_false_iff_not]; exact fun h => by have := h.1; have : besF (celF (τ.2 0) m) i < 0 := c19; omega) _
      ·
        refine wm_aload_n dX3_stepsAside_22 rfl ?_
        refine wm_iload_n dX3_stepsAside_23 rfl ?_
        refine wm_callv dX3_stepsAside_24 (kV3_69 rfl) rfl (mc_isBlocked (show 0 ≤ besF (celF (τ.2 0) m) i ∧ besF (celF (τ.2 0) m) i < 120 from ⟨by (have : ¬ besF (celF (τ.2 0) m) i < 0 := c19); omega, by omega⟩) (hr _)) (by omega) rfl rfl ?_
        rintro _ _ ⟨rfl, ⟨h24, rfl⟩ | ⟨h24, rfl⟩⟩
        ·
          refine wm_ifT dX3_stepsAside_27 (by decide) 62 rfl ?_
          refine wm_iinc dX3_stepsAside_62 rfl ?_
          refine wm_goto dX3_stepsAside_65 2 rfl ?_
          exact hno (by unfold asdF; rw [decide_eq_false_iff_not]; exact fun h => h.2.1 h24) _
        ·
          refine wm_ifF dX3_stepsAside_27 (by decide) 62 rfl ?_
          refine wm_aload_n dX3_stepsAside_30 rfl ?_
          refine wm_iload_n dX3_stepsAside_31 rfl ?_
          refine wm_callv dX3_stepsAside_32 (kV3_121 rfl) rfl (mc_on (by omega) h0 hr) (by omega) rfl rfl ?_
          rintro _ _ ⟨rfl, rfl⟩
          refine wm_if dX3_stepsAside_35 (cB_lt (by have := onF_rng (τ.2 0) (besF (celF (τ.2 0) m) i); omega) ⟨by omega, by omega⟩) 41 rfl (fun c35 => ?_) (fun c35 => ?_)
          ·
            refine wm_aload_n dX3_stepsAside_41 rfl ?_
            refine wm_iload_n dX3_stepsAside_42 rfl ?_
            refine wm_iload_n dX3_stepsAside_43 rfl ?_
            refine wm_callv dX3_stepsAside_44 (kV3_127 rfl) rfl (mc_goes hm) (by omega) rfl rfl ?_
            rintro _ _ ⟨rfl, rfl⟩
            refine wm_aload_n dX3_stepsAside_47 rfl ?_
            refine wm_iconst dX3_stepsAside_48 ?_
            refine wm_iconst dX3_stepsAside_49 ?_
            refine wm_callv dX3_stepsAside_50 (kV3_118 rfl) rfl (mc_countW (by omega)) (by omega) rfl rfl ?_
            rintro _ _ ⟨rfl, rfl⟩
            refine wm_aload_n dX3_stepsAside_53 rfl ?_
            refine wm_iload_n dX3_stepsAside_54 rfl ?_
            refine wm_iconst dX3_stepsAside_55 ?_
            refine wm_iconst dX3_stepsAside_56 ?_
            refine wm_callv dX3_stepsAside_57 (kV3_114 rfl) rfl (mc_layW (by omega)) (by omega) rfl rfl ?_
            rintro _ _ ⟨rfl, rfl⟩
            refine wm_iconst dX3_stepsAside_60 ?_
            refine wm_breturn dX3_stepsAside_61 rfl (by omega) ?_
            have hy : asdF (τ.2 0) m i = true := by
              unfold asdF
              rw [decide_eq_true_eq]
              exact ⟨by (have : ¬ besF (celF (τ.2 0) m) i < 0 := c19); omega, h24, c35⟩
            rw [fstI, if_pos hy]
            exact Or.inr ⟨hi0, rfl, rfl⟩
          ·
            refine wm_goto dX3_stepsAside_38 62 rfl ?_
            refine wm_iinc dX3_stepsAside_62 rfl ?_
            refine wm_goto dX3_stepsAside_65 2 rfl ?_
            exact hno (by unfold asdF; rw [decide_eq_false_iff_not]; exact fun h => c35 h.2.2) _
theorem mc_stepsAside (hm : 0 ≤ m ∧ m ≤ 9) (hc : 0 ≤ celF (τ.2 0) m ∧ celF (τ.2 0) m < 120) (h0 : 0 ≤ τ.2 0 0 ∧ τ.2 0 0 ≤ 10) (hr : ∀ i, rng (τ.2 0 i)) : Mt 3 rX3_stepsAside [.inr 1, .inl m] τ (fun v t => (wayF (asdF (τ.2 0) m) < 0 ∧ some 0 = v ∧ τ = t) ∨ (0 ≤ wayF (asdF (τ.2 0) m) ∧ some 1 = v ∧ setW τ (asideW (τ.2 0) m (besF (celF (τ.2 0) m) (wayF (asdF (τ.2 0) m)))) = t)) := by
  intro d hd
  refine wm_iconst dX3_stepsAside_0 ?_
  refine wm_istore_n dX3_stepsAside_1 rfl ?_
  exact mc_stepsAside_loop hm hc h0 hr hd 4 0 _ (by omega) (by omega)
theorem mc_mayExchange (ho : 0 ≤ o ∧ o ≤ 9) (hx : 0 ≤ x ∧ x < 120) (hy : 0 ≤ y ∧ y < 120) (h0 : 0 ≤ τ.2 0 0 ∧ τ.2 0 0 ≤ 10) (hr : ∀ i, rng (τ.2 0 i)) (hf : ∀ i, rng (τ.2 3 i)) (hs : gsl τ o ≤ 9 ∧ -1 ≤ gsl τ o) : Mb 3 rX3_mayExchange [.inr 1, .inl o, .inl x, .inl y] τ (mexF (gsl τ) (gfr τ) (τ.2 0) o x y) := by
  intro d hd
  have hl := ledF_rng (τ.2 0) h0.2
  have hsd : gsl τ o = τ.2 7 o.toNat := rfl
  refine wm_iload_n dX3_mayExchange_0 rfl ?_
  refine wm_aload_n dX3_mayExchange_1 rfl ?_
  refine wm_callv dX3_mayExchange_2 (kV3_85 rfl) rfl (mc_leader h0 hr) (by omega) rfl rfl ?_
  rintro _ _ ⟨rfl, rfl⟩
  refine wm_icmp dX3_mayExchange_5 (cB_eq ⟨by omega, by omega⟩ ⟨by omega, by omega⟩) 56 rfl (fun c5 => ?_) (fun c5 => ?_)
  ·
    refine wm_iconst dX3_mayExchange_56 ?_
    refine wm_breturn dX3_mayExchange_57 rfl (by omega) ?_
    exact ⟨rfl, Or.inr ⟨fun h => h.1 c5, rfl⟩⟩
  ·
    refine wm_aload_n dX3_mayExchange_8 rfl ?_
    refine wm_getA dX3_mayExchange_9 (kF3_25 rfl) rfl ?_
    refine wm_iload_n dX3_mayExchange_12 rfl ?_
    refine wm_iaload dX3_mayExchange_13 rfl ⟨by omega, by omega⟩ _ rfl ?_
    refine wm_if dX3_mayExchange_14 (cB_lt ⟨by omega, by omega⟩ ⟨by omega, by omega⟩) 56 rfl (fun c14 => ?_) (fun c14 => ?_)
    ·
      refine wm_iconst dX3_mayExchange_56 ?_
      refine wm_breturn dX3_mayExchange_57 rfl (by omega) ?_
      exact ⟨rfl, Or.inr ⟨fun h => by have := h.2.1; omega, rfl⟩⟩
    ·
      refine wm_aload_n dX3_mayExchange_17 rfl ?_
      refine wm_getA dX3_mayExchange_18 (kF3_13 rfl) rfl ?_
      refine wm_bipush dX3_mayExchange_21 (by decide) ?_
      refine wm_aload_n dX3_mayExchange_23 rfl ?_
      refine wm_getA dX3_mayExchange_24 (kF3_25 rfl) rfl ?_
      refine wm_iload_n dX3_mayExchange_27 rfl ?_
      refine wm_iaload dX3_mayExchange_28 rfl ⟨by omega, by omega⟩ _ rfl ?_
      refine wm_imul dX3_mayExchange_29 ?_
      refine wm_iload_n dX3_mayExchange_30 rfl ?_
      refine wm_iadd dX3_mayExchange_31 ?_
      refine wm_iaload dX3_mayExchange_32 rfl ⟨by omega, by omega⟩ _ rfl ?_
      refine wm_aload_n dX3_mayExchange_33 rfl ?_
      refine wm_getA dX3_mayExchange_34 (kF3_13 rfl) rfl ?_
      refine wm_bipush dX3_mayExchange_37 (by decide) ?_
      refine wm_aload_n dX3_mayExchange_39 rfl ?_
      refine wm_getA dX3_mayExchange_40 (kF3_25 rfl) rfl ?_
      refine wm_iload_n dX3_mayExchange_43 rfl ?_
      refine wm_iaload dX3_mayExchange_44 rfl ⟨by omega, by omega⟩ _ rfl ?_
      refine wm_imul dX3_mayExchange_45 ?_
      refine wm_iload_n dX3_mayExchange_46 rfl ?_
      refine wm_iadd dX3_mayExchange_47 ?_
      refine wm_iaload dX3_mayExchange_48 rfl ⟨by omega, by omega⟩ _ rfl ?_
      refine wm_icmp dX3_mayExchange_49 (cB_le (hf _) (hf _)) 56 rfl (fun c49 => ?_) (fun c49 => ?_)
      ·
        refine wm_iconst dX3_mayExchange_56 ?_
        refine wm_breturn dX3_mayExchange_57 rfl (by omega) ?_
        exact ⟨rfl, Or.inr ⟨fun h => absurd h.2.2 (Int.not_lt.mpr c49), rfl⟩⟩
      ·
        refine wm_iconst dX3_mayExchange_52 ?_
        refine wm_goto dX3_mayExchange_53 57 rfl ?_
        refine wm_breturn dX3_mayExchange_57 rfl (by omega) ?_
        exact ⟨rfl, Or.inl ⟨⟨c5, by omega, Int.not_le.mp c49⟩, rfl⟩⟩
theorem mc_exchanges_loop (hm : 0 ≤ m ∧ m ≤ 9) (hb : 0 ≤ b ∧ b ≤ 1320) (hc : 0 ≤ celF (τ.2 0) m ∧ celF (τ.2 0) m < 120) (h0 : 0 ≤ τ.2 0 0 ∧ τ.2 0 0 ≤ 10) (hr : ∀ i, rng (τ.2 0 i)) (hf : ∀ i, rng (τ.2 3 i)) (hs : ∀ o, 0 ≤ o → o ≤ 9 → gsl τ o ≤ 9 ∧ -1 ≤ gsl τ o) (hdd : -100000 ≤ dd ∧ dd ≤ 100000) (hd : 4 ≤ d) : ∀ (n : Nat) (i : Int) (o6 o7 : Option AV), i + n = 4 → 0 ≤ i → Wm d rX3_exchanges 11 [some (.inr 1), some (.inl m), some (.inl b), some (.inl dd), some (.inl (celF (τ.2 0) m)), some (.inl i), o6, o7] [] τ (fun v t => (fstI (excF (gsl τ) (gfr τ) (fun x => τ.2 3 (b + x).toNat) (τ.2 0) m dd) n i < 0 ∧ some 0 = v ∧ τ = t) ∨ (0 ≤ fstI (excF (gsl τ) (gfr τ) (fun x => τ.2 3 (b + x).toNat) (τ.2 0) m dd) n i ∧ some 1 = v ∧ setW τ (excW (τ.2 0) m (fstI (excF (gsl τ) (gfr τ) (fun x => τ.2 3 (b + x).toNat) (τ.2 0) m dd) n i)) = t)) := by
  intro n
  induction n with
  | zero =>
    intro i o6 o7 hi hi0
    refine wm_iload dX3_exchanges_11 rfl ?_
    refine wm_iconst dX3_exchanges_13 ?_
    refine wm_icmp dX3_exchanges_14 (cB_ge ⟨by omega, by omega⟩ ⟨by omega, by omega⟩) 122 rfl (fun c14 => ?_) (fun c14 => ?_)
    ·
      refine wm_iconst dX3_exchanges_122 ?_
      refine wm_breturn dX3_exchanges_123 rfl (by omega) ?_
      exact Or.inl ⟨by rw [fstI]; omega, rfl, rfl⟩
    ·
      omega
  | succ n ih =>
    intro i o6 o7 hi hi0
    have hbs := besF_rng (celF (τ.2 0) m) i
    have hon := onF_rng (τ.2 0) (besF (celF (τ.2 0) m) i)
    have hno : excF (gsl τ) (gfr τ) (fun x => τ.2 3 (b + x).toNat) (τ.2 0) m dd i = false → ∀ o6 o7, Wm d rX3_exchanges 11 [some (.inr 1), some (.inl m), some (.inl b), some (.inl dd), some (.inl (celF (τ.2 0) m)), some (.inl (i + 1)), o6, o7] [] τ (fun v t => (fstI (excF (gsl τ) (gfr τ) (fun x => τ.2 3 (b + x).toNat) (τ.2 0) m dd) (n + 1) i < 0 ∧ some 0 = v ∧ τ = t) ∨ (0 ≤ fstI (excF (gsl τ) (gfr τ) (fun x => τ.2 3 (b + x).toNat) (τ.2 0) m dd) (n + 1) i ∧ some 1 = v ∧ setW τ (excW (τ.2 0) m (fstI (excF (gsl τ) (gfr τ) (fun x => τ.2 3 (b + x).toNat) (τ.2 0) m dd) (n + 1) i)) = t)) := fun h o6 o7 => by
      rw [fstI, if_neg (by rw [h]; decide)]
      exact ih (i + 1) o6 o7 (by omega) (by omega)
    refine wm_iload dX3_exchanges_11 rfl ?_
    refine wm_iconst dX3_exchanges_13 ?_
    refine wm_icmp dX3_exchanges_14 (cB_ge ⟨by omega, by omega⟩ ⟨by omega, by omega⟩) 122 rfl (fun c14 => ?_) (fun c14 => ?_)
    ·
      omega
    ·
      refine wm_iload dX3_exchanges_17 rfl ?_
      refine wm_iload dX3_exchanges_19 rfl ?_
      refine wm_calls dX3_exchanges_21 (kS3_72 rfl) (kSn3_72 rfl) (mc_beside hc (by omega)) (by omega) rfl rfl ?_
      rintro _ _ ⟨rfl, rfl⟩
      refine wm_istore dX3_exchanges_24 rfl ?_
      refine wm_iload dX3_exchanges_26 rfl ?_
      refine wm_if dX3_exchanges_28 (cB_lt ⟨by omega, by omega⟩ ⟨by omega, by omega⟩) 116 rfl (fun c28 => ?_) (fun c28 => ?_)
      ·
        refine wm_iinc dX3_exchanges_116 rfl ?_
        refine wm_goto dX3_exchanges_119 11 rfl ?_
        exact hno (by unfold excF; rw [decide_eq_false_iff_not]; exact fun h => by have := h.1; omega) _ _
      ·
        refine wm_aload_n dX3_exchanges_31 rfl ?_
        refine wm_getA dX3_exchanges_32 (kF3_13 rfl) rfl ?_
        refine wm_iload_n dX3_exchanges_35 rfl ?_
        refine wm_iload dX3_exchanges_36 rfl ?_
        refine wm_iadd dX3_exchanges_38 ?_
        refine wm_iaload dX3_exchanges_39 rfl ⟨by omega, by omega⟩ _ rfl ?_
        refine wm_iload_n dX3_exchanges_40 rfl ?_
        refine wm_iconst dX3_exchanges_41 ?_
        refine wm_isub dX3_exchanges_42 ?_
        refine wm_icmp dX3_exchanges_43 (cB_eq (hf _) ⟨by omega, by omega⟩) 49 rfl (fun c43 => ?_) (fun c43 => ?_)
        ·
          refine wm_aload_n dX3_exchanges_49 rfl ?_
          refine wm_iload dX3_exchanges_50 rfl ?_
          refine wm_callv dX3_exchanges_52 (kV3_121 rfl) rfl (mc_on (by omega) h0 hr) (by omega) rfl rfl ?_
          rintro _ _ ⟨rfl, rfl⟩
          refine wm_istore dX3_exchanges_55 rfl ?_
          refine wm_iload dX3_exchanges_57 rfl ?_
          refine wm_if dX3_exchanges_59 (cB_lt ⟨by omega, by omega⟩ ⟨by omega, by omega⟩) 116 rfl (fun c59 => ?_) (fun c59 => ?_)
          ·
            refine wm_iinc dX3_exchanges_116 rfl ?_
            refine wm_goto dX3_exchanges_119 11 rfl ?_
            exact hno (by unfold excF; rw [decide_eq_false_iff_not]; exact fun h => by have := h.2.2.1; omega) _ _
          ·
            refine wm_aload_n dX3_exchanges_62 rfl ?_
            refine wm_iload dX3_exchanges_63 rfl ?_
            refine wm_iload dX3_exchanges_65 rfl ?_
            refine wm_iload dX3_exchanges_67 rfl ?_
            refine wm_callv dX3_exchanges_69 (kV3_130 rfl) rfl (mc_mayExchange (by omega) (by omega) hc h0 hr hf (hs _ (by omega) (by omega))) (by omega) rfl rfl ?_
            rintro _ _ ⟨rfl, ⟨h69, rfl⟩ | ⟨h69, rfl⟩⟩
            ·
              refine wm_ifT dX3_exchanges_72 (by decide) 78 rfl ?_
              refine wm_aload_n dX3_exchanges_78 rfl ?_
              refine wm_iload_n dX3_exchanges_79 rfl ?_
              refine wm_iload dX3_exchanges_80 rfl ?_
              refine wm_callv dX3_exchanges_82 (kV3_127 rfl) rfl (mc_goes hm) (by omega) rfl rfl ?_
              rintro _ _ ⟨rfl, rfl⟩
              refine wm_aload_n dX3_exchanges_85 rfl ?_
              refine wm_iload dX3_exchanges_86 rfl ?_
              refine wm_iload dX3_exchanges_88 rfl ?_
              refine wm_callv dX3_exchanges_90 (kV3_127 rfl) rfl (mc_goes (by omega)) (by omega) rfl rfl ?_
              rintro _ _ ⟨rfl, rfl⟩
              refine wm_aload_n dX3_exchanges_93 rfl ?_
              refine wm_iconst dX3_exchanges_94 ?_
              refine wm_iconst dX3_exchanges_95 ?_
              refine wm_callv dX3_exchanges_96 (kV3_118 rfl) rfl (mc_countW (by omega)) (by omega) rfl rfl ?_
              rintro _ _ ⟨rfl, rfl⟩
              refine wm_aload_n dX3_exchanges_99 rfl ?_
              refine wm_iload_n dX3_exchanges_100 rfl ?_
              refine wm_iconst dX3_exchanges_101 ?_
              refine wm_iconst dX3_exchanges_102 ?_
              refine wm_callv dX3_exchanges_103 (kV3_114 rfl) rfl (mc_layW (by omega)) (by omega) rfl rfl ?_
              rintro _ _ ⟨rfl, rfl⟩
              refine wm_aload_n dX3_exchanges_106 rfl ?_
              refine wm_iload dX3_exchanges_107 rfl ?_
              refine wm_iconst dX3_exchanges_109 ?_
              refine wm_iconst dX3_exchanges_110 ?_
              refine wm_callv dX3_exchanges_111 (kV3_114 rfl) rfl (mc_layW (by omega)) (by omega) rfl rfl ?_
              rintro _ _ ⟨rfl, rfl⟩
              refine wm_iconst dX3_exchanges_114 ?_
              refine wm_breturn dX3_exchanges_115 rfl (by omega) ?_
              have hy : excF (gsl τ) (gfr τ) (fun x => τ.2 3 (b + x).toNat) (τ.2 0) m dd i = true := by
                unfold excF
                rw [decide_eq_true_eq]
                exact ⟨by omega, c43, by omega, h69⟩
              rw [fstI, if_pos hy]
              exact Or.inr ⟨hi0, rfl, rfl⟩
            ·
              refine wm_ifF dX3_exchanges_72 (by decide) 78 rfl ?_
              refine wm_goto dX3_exchanges_75 116 rfl ?_
              refine wm_iinc dX3_exchanges_116 rfl ?_
              refine wm_goto dX3_exchanges_119 11 rfl ?_
              exact hno (by unfold excF; rw [decide_eq_false_iff_not]; exact fun h => h69 h.2.2.2) _ _
        ·
          refine wm_goto dX3_exchanges_46 116 rfl ?_
          refine wm_iinc dX3_exchanges_116 rfl ?_
          refine wm_goto dX3_exchanges_119 11 rfl ?_
          exact hno (by unfold excF; rw [decide_eq_false_iff_not]; exact fun h => c43 h.2.1) _ _
theorem mc_exchanges (hm : 0 ≤ m ∧ m ≤ 9) (hb : 0 ≤ b ∧ b ≤ 1320) (hc : 0 ≤ celF (τ.2 0) m ∧ celF (τ.2 0) m < 120) (h0 : 0 ≤ τ.2 0 0 ∧ τ.2 0 0 ≤ 10) (hr : ∀ i, rng (τ.2 0 i)) (hf : ∀ i, rng (τ.2 3 i)) (hs : ∀ o, 0 ≤ o → o ≤ 9 → gsl τ o ≤ 9 ∧ -1 ≤ gsl τ o) (hdd : -100000 ≤ dd ∧ dd ≤ 100000) : Mt 4 rX3_exchanges [.inr 1, .inl m, .inl b, .inl dd] τ (fun v t => (wayF (excF (gsl τ) (gfr τ) (fun x => τ.2 3 (b + x).toNat) (τ.2 0) m dd) < 0 ∧ some 0 = v ∧ τ = t) ∨ (0 ≤ wayF (excF (gsl τ) (gfr τ) (fun x => τ.2 3 (b + x).toNat) (τ.2 0) m dd) ∧ some 1 = v ∧ setW τ (excW (τ.2 0) m (wayF (excF (gsl τ) (gfr τ) (fun x => τ.2 3 (b + x).toNat) (τ.2 0) m dd))) = t)) := by
  intro d hd
  refine wm_aload_n dX3_exchanges_0 rfl ?_
  refine wm_iload_n dX3_exchanges_1 rfl ?_
  refine wm_iconst dX3_exchanges_2 ?_
  refine wm_callv dX3_exchanges_3 (kV3_61 rfl) rfl (mc_of (by omega)) (by omega) rfl rfl ?_
  rintro _ _ ⟨rfl, rfl⟩
  refine wm_istore dX3_exchanges_6 rfl ?_
  refine wm_iconst dX3_exchanges_8 ?_
  refine wm_istore dX3_exchanges_9 rfl ?_
  exact mc_exchanges_loop hm hb hc h0 hr hf hs hdd hd 4 0 _ _ (by omega) (by omega)
theorem mc_acts (hm : 0 ≤ m ∧ m ≤ 9) (hc : 0 ≤ celF (τ.2 0) m ∧ celF (τ.2 0) m < 120) (h0 : 0 ≤ τ.2 0 0 ∧ τ.2 0 0 ≤ 10) (hr : ∀ i, rng (τ.2 0 i)) (hf : ∀ i, -1 ≤ τ.2 3 i ∧ τ.2 3 i ≤ 1000) (hs : ∀ o, 0 ≤ o → o ≤ 9 → gsl τ o ≤ 9 ∧ -1 ≤ gsl τ o) (h7 : 0 ≤ gsl τ m) : Mf 5 rX3_acts [.inr 1, .inl m] τ none (setW τ (actF (gsl τ) (gfr τ) (τ.2 0) m)) := by
  intro d hd
  have h9 := hs m hm.1 hm.2
  have hsd : gsl τ m = τ.2 7 m.toNat := rfl
  have hff : ∀ i, rng (τ.2 3 i) := fun i => by have := hf i; omega
  have hdd := hf (120 * gsl τ m + celF (τ.2 0) m).toNat
  have hcd : celF (τ.2 0) m = τ.2 0 (12 + 6 * m + 0).toNat := rfl
  have hid : setW τ (τ.2 0) = τ := Prod.ext rfl (funext fun a => by cases a <;> rfl)
  refine wm_bipush dX3_acts_0 (by decide) ?_
  refine wm_aload_n dX3_acts_2 rfl ?_
  refine wm_getA dX3_acts_3 (kF3_25 rfl) rfl ?_
  refine wm_iload_n dX3_acts_6 rfl ?_
  refine wm_iaload dX3_acts_7 rfl ⟨by omega, by omega⟩ _ rfl ?_
  refine wm_imul dX3_acts_8 ?_
  refine wm_istore_n dX3_acts_9 rfl ?_
  refine wm_aload_n dX3_acts_10 rfl ?_
  refine wm_getA dX3_acts_11 (kF3_13 rfl) rfl ?_
  refine wm_iload_n dX3_acts_14 rfl ?_
  refine wm_aload_n dX3_acts_15 rfl ?_
  refine wm_iload_n dX3_acts_16 rfl ?_
  refine wm_iconst dX3_acts_17 ?_
  refine wm_callv dX3_acts_18 (kV3_61 rfl) rfl (mc_of (by omega)) (by omega) rfl rfl ?_
  rintro _ _ ⟨rfl, rfl⟩
  refine wm_iadd dX3_acts_21 ?_
  refine wm_iaload dX3_acts_22 rfl ⟨by omega, by omega⟩ _ rfl ?_
  refine wm_istore_n dX3_acts_23 rfl ?_
  refine wm_iload_n dX3_acts_24 rfl ?_
  refine wm_if dX3_acts_25 (cB_eq (hff _) ⟨by omega, by omega⟩) 48 rfl (fun c25 => ?_) (fun c25 => ?_)
  ·
    refine wm_vreturn dX3_acts_48 rfl ?_
    refine ⟨rfl, ?_⟩
    unfold actF
    rw [if_pos (show gfr τ (gsl τ m) (celF (τ.2 0) m) = 0 from c25)]
    exact hid
  ·
    refine wm_aload_n dX3_acts_28 rfl ?_
    refine wm_iload_n dX3_acts_29 rfl ?_
    refine wm_iload_n dX3_acts_30 rfl ?_
    refine wm_iload_n dX3_acts_31 rfl ?_
    refine wm_callv dX3_acts_32 (kV3_133 rfl) rfl (mc_steps (b := 120 * gsl τ m) (dd := gfr τ (gsl τ m) (celF (τ.2 0) m)) hm (by omega) hc h0 hr hff (by unfold gfr; omega)) (by omega) rfl rfl ?_
    rintro _ _ (⟨w32, rfl, rfl⟩ | ⟨w32, rfl, rfl⟩)
    ·
      refine wm_ifF dX3_acts_35 (by decide) 48 rfl ?_
      refine wm_aload_n dX3_acts_38 rfl ?_
      refine wm_iload_n dX3_acts_39 rfl ?_
      refine wm_iload_n dX3_acts_40 rfl ?_
      refine wm_iload_n dX3_acts_41 rfl ?_
      refine wm_callv dX3_acts_42 (kV3_136 rfl) rfl (mc_exchanges (b := 120 * gsl τ m) (dd := gfr τ (gsl τ m) (celF (τ.2 0) m)) hm (by omega) hc h0 hr hff hs (by unfold gfr; omega)) (by omega) rfl rfl ?_
      rintro _ _ (⟨w42, rfl, rfl⟩ | ⟨w42, rfl, rfl⟩)
      ·
        refine wm_ifT dX3_acts_45 (by decide) 49 rfl ?_
        refine wm_aload_n dX3_acts_49 rfl ?_
        refine wm_iload_n dX3_acts_50 rfl ?_
        refine wm_iconst dX3_acts_51 ?_
        refine wm_callv dX3_acts_52 (kV3_61 rfl) rfl (mc_of (by omega)) (by omega) rfl rfl ?_
        rintro _ _ ⟨rfl, rfl⟩
        refine wm_iconst dX3_acts_55 ?_
        refine wm_icmp dX3_acts_56 (cB_lt (hr _) ⟨by omega, by omega⟩) 68 rfl (fun c56 => ?_) (fun c56 => ?_)
        ·
          refine wm_aload_n dX3_acts_68 rfl ?_
          refine wm_iload_n dX3_acts_69 rfl ?_
          refine wm_iconst dX3_acts_70 ?_
          refine wm_aload_n dX3_acts_71 rfl ?_
          refine wm_iload_n dX3_acts_72 rfl ?_
          refine wm_iconst dX3_acts_73 ?_
          refine wm_callv dX3_acts_74 (kV3_61 rfl) rfl (mc_of (by omega)) (by omega) rfl rfl ?_
          rintro _ _ ⟨rfl, rfl⟩
          refine wm_iconst dX3_acts_77 ?_
          refine wm_iadd dX3_acts_78 ?_
          refine wm_callv dX3_acts_79 (kV3_114 rfl) rfl (mc_layW (by omega)) (by omega) rfl rfl ?_
          rintro _ _ ⟨rfl, rfl⟩
          refine wm_aload_n dX3_acts_82 rfl ?_
          refine wm_iload_n dX3_acts_83 rfl ?_
          refine wm_callv dX3_acts_84 (kV3_124 rfl) rfl (mc_waits hm) (by omega) rfl rfl ?_
          rintro _ _ ⟨rfl, rfl⟩
          refine wm_aload_n dX3_acts_87 rfl ?_
          refine wm_iload_n dX3_acts_88 rfl ?_
          refine wm_iconst dX3_acts_89 ?_
          refine wm_iconst dX3_acts_90 ?_
          refine wm_callv dX3_acts_91 (kV3_114 rfl) rfl (mc_layW (by omega)) (by omega) rfl rfl ?_
          rintro _ _ ⟨rfl, rfl⟩
          refine wm_vreturn dX3_acts_94 rfl ?_
          refine ⟨rfl, ?_⟩
          unfold actF
          rw [if_neg (show ¬ gfr τ (gsl τ m) (celF (τ.2 0) m) = 0 from c25)]
          rw [if_neg (show ¬ 0 ≤ wayF (stpF (gfr τ (gsl τ m)) (τ.2 0) m (gfr τ (gsl τ m) (celF (τ.2 0) m))) from Int.not_le.mpr w32)]
          rw [if_neg (show ¬ 0 ≤ wayF (excF (gsl τ) (gfr τ) (gfr τ (gsl τ m)) (τ.2 0) m (gfr τ (gsl τ m) (celF (τ.2 0) m))) from Int.not_le.mpr w42)]
          rw [if_neg (fun h => by have := h.1; omega)]
          rfl
        ·
          refine wm_aload_n dX3_acts_59 rfl ?_
          refine wm_iload_n dX3_acts_60 rfl ?_
          refine wm_callv dX3_acts_61 (kV3_139 rfl) rfl (mc_stepsAside hm hc h0 hr) (by omega) rfl rfl ?_
          rintro _ _ (⟨w61, rfl, rfl⟩ | ⟨w61, rfl, rfl⟩)
          ·
            refine wm_ifT dX3_acts_64 (by decide) 68 rfl ?_
            refine wm_aload_n dX3_acts_68 rfl ?_
            refine wm_iload_n dX3_acts_69 rfl ?_
            refine wm_iconst dX3_acts_70 ?_
            refine wm_aload_n dX3_acts_71 rfl ?_
            refine wm_iload_n dX3_acts_72 rfl ?_
            refine wm_iconst dX3_acts_73 ?_
            refine wm_callv dX3_acts_74 (kV3_61 rfl) rfl (mc_of (by omega)) (by omega) rfl rfl ?_
            rintro _ _ ⟨rfl, rfl⟩
            refine wm_iconst dX3_acts_77 ?_
            refine wm_iadd dX3_acts_78 ?_
            refine wm_callv dX3_acts_79 (kV3_114 rfl) rfl (mc_layW (by omega)) (by omega) rfl rfl ?_
            rintro _ _ ⟨rfl, rfl⟩
            refine wm_aload_n dX3_acts_82 rfl ?_
            refine wm_iload_n dX3_acts_83 rfl ?_
            refine wm_callv dX3_acts_84 (kV3_124 rfl) rfl (mc_waits hm) (by omega) rfl rfl ?_
            rintro _ _ ⟨rfl, rfl⟩
            refine wm_aload_n dX3_acts_87 rfl ?_
            refine wm_iload_n dX3_acts_88 rfl ?_
            refine wm_iconst dX3_acts_89 ?_
            refine wm_iconst dX3_acts_90 ?_
            refine wm_callv dX3_acts_91 (kV3_114 rfl) rfl (mc_layW (by omega)) (by omega) rfl rfl ?_
            rintro _ _ ⟨rfl, rfl⟩
            refine wm_vreturn dX3_acts_94 rfl ?_
            refine ⟨rfl, ?_⟩
            unfold actF
            rw [if_neg (show ¬ gfr τ (gsl τ m) (celF (τ.2 0) m) = 0 from c25)]
            rw [if_neg (show ¬ 0 ≤ wayF (stpF (gfr τ (gsl τ m)) (τ.2 0) m (gfr τ (gsl τ m) (celF (τ.2 0) m))) from Int.not_le.mpr w32)]
            rw [if_neg (show ¬ 0 ≤ wayF (excF (gsl τ) (gfr τ) (gfr τ (gsl τ m)) (τ.2 0) m (gfr τ (gsl τ m) (celF (τ.2 0) m))) from Int.not_le.mpr w42)]
            rw [if_neg (fun h => by have := h.2; omega)]
            rfl
          ·
            refine wm_ifF dX3_acts_64 (by decide) 68 rfl ?_
            refine wm_vreturn dX3_acts_67 rfl ?_
            refine ⟨rfl, ?_⟩
            unfold actF
            rw [if_neg (show ¬ gfr τ (gsl τ m) (celF (τ.2 0) m) = 0 from c25)]
            rw [if_neg (show ¬ 0 ≤ wayF (stpF (gfr τ (gsl τ m)) (τ.2 0) m (gfr τ (gsl τ m) (celF (τ.2 0) m))) from Int.not_le.mpr w32)]
            rw [if_neg (show ¬ 0 ≤ wayF (excF (gsl τ) (gfr τ) (gfr τ (gsl τ m)) (τ.2 0) m (gfr τ (gsl τ m) (celF (τ.2 0) m))) from Int.not_le.mpr w42)]
            rw [if_pos ⟨by omega, w61⟩]
      ·
        refine wm_ifF dX3_acts_45 (by decide) 49 rfl ?_
        refine wm_vreturn dX3_acts_48 rfl ?_
        refine ⟨rfl, ?_⟩
        unfold actF
        rw [if_neg (show ¬ gfr τ (gsl τ m) (celF (τ.2 0) m) = 0 from c25)]
        rw [if_neg (show ¬ 0 ≤ wayF (stpF (gfr τ (gsl τ m)) (τ.2 0) m (gfr τ (gsl τ m) (celF (τ.2 0) m))) from Int.not_le.mpr w32)]
        rw [if_pos (show 0 ≤ wayF (excF (gsl τ) (gfr τ) (gfr τ (gsl τ m)) (τ.2 0) m (gfr τ (gsl τ m) (celF (τ.2 0) m))) from w42)]
        rfl
    ·
      refine wm_ifT dX3_acts_35 (by decide) 48 rfl ?_
      refine wm_vreturn dX3_acts_48 rfl ?_
      refine ⟨rfl, ?_⟩
      unfold actF
      rw [if_neg (show ¬ gfr τ (gsl τ m) (celF (τ.2 0) m) = 0 from c25)]
      rw [if_pos (show 0 ≤ wayF (stpF (gfr τ (gsl τ m)) (τ.2 0) m (gfr τ (gsl τ m) (celF (τ.2 0) m))) from w32)]
      rfl
end M4
