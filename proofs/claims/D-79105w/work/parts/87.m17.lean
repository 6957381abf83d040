/-! THE MODEL'S METHODS, 17: numbers and orders read -/
set_option maxRecDepth 100000
/-- a number from p on: value, next place, fault (f: none yet) -/
def numF (tp : Nat → Int) (T f p : Int) : Int × Int × Int :=
  if ¬ dig (heF tp T p) then (0, p, p) else if ¬ dig (heF tp T (p + 1)) then (heF tp T p - 48, p + 1, f) else (10 * (heF tp T p - 48) + heF tp T (p + 1) - 48, p + 2, f)
theorem setAF_id (τ : MT) : setAF τ (τ.1 16) (τ.1 17) = τ := by
  unfold setAF
  refine Prod.ext (funext fun j => ?_) rfl
  dsimp only
  split
  · rename_i e; rw [e]
  · split
    · rename_i e; rw [e]
    · rfl
theorem setAF_p (τ : MT) (p f q : Int) : stI (setAF τ p f) 16 q = setAF τ q f := by
  unfold stI setAF
  refine Prod.ext (funext fun j => ?_) rfl
  dsimp only
  by_cases h : j = 16
  · simp [h]
  · simp [h]
theorem setAF_f (τ : MT) (p f q : Int) : stI (setAF τ p f) 17 q = setAF τ p q := by
  unfold stI setAF
  refine Prod.ext (funext fun j => ?_) rfl
  dsimp only
  by_cases h : j = 16
  · subst h; rfl
  · by_cases h2 : j = 17
    · subst h2; rfl
    · simp [h, h2]
theorem heF_rng {tp : Nat → Int} {T p : Int} (ht : ∀ i, 0 ≤ tp i ∧ tp i ≤ 127) : -1 ≤ heF tp T p ∧ heF tp T p ≤ 127 := by
  unfold heF
  split
  · have := ht p.toNat; omega
  · omega
section M21
variable {τ : MT} {m c v x y z b n dd a l p f : Int} {d : Nat} {Q : Option Int → MT → Prop}
theorem mc_hereAF (hp : 0 ≤ p ∧ p < 100000) (hT : 0 ≤ τ.1 15 ∧ τ.1 15 ≤ 60) : Mf 0 rX3_here [.inr 1] (setAF τ p f) (some (heF (τ.2 14) (τ.1 15) p)) (setAF τ p f) := mc_here (τ := setAF τ p f) hp hT
theorem mc_number_33 (hT : 0 ≤ τ.1 15 ∧ τ.1 15 ≤ 60) (ht : ∀ i, 0 ≤ τ.2 14 i ∧ τ.2 14 i ≤ 127) (hd : 1 ≤ d) (hf : -1000 ≤ f ∧ f < 0) : ∀ (j : Nat) (k v p : Int), k + j = 2 → 0 ≤ k → (0 ≤ p ∧ p + j < 1000) → (∀ v' p', (j = 0 ∧ v' = v ∧ p' = p ∨ (∃ i, j = i + 1) ∧ ¬ dig (heF (τ.2 14) (τ.1 15) p) ∧ v' = v ∧ p' = p ∨ j = 1 ∧ dig (heF (τ.2 14) (τ.1 15) p) ∧ v' = 10 * v + heF (τ.2 14) (τ.1 15) p - 48 ∧ p' = p + 1 ∨ j = 2 ∧ dig (heF (τ.2 14) (τ.1 15) p) ∧ (¬ dig (heF (τ.2 14) (τ.1 15) (p + 1)) ∧ v' = 10 * v + heF (τ.2 14) (τ.1 15) p - 48 ∧ p' = p + 1 ∨ dig (heF (τ.2 14) (τ.1 15) (p + 1)) ∧ v' = 10 * (10 * v + heF (τ.2 14) (τ.1 15) p - 48) + heF (τ.2 14) (τ.1 15) (p + 1) - 48 ∧ p' = p + 2)) → Q (some v') (setAF τ p' f)) →
    Wm d rX3_number 33 [some (.inr 1), some (.inl v), some (.inl k)] [] (setAF τ p f) Q := by
  intro j
  induction j with
  | zero =>
    intro k v p hk h0 hp K
    refine wm_iload_n dX3_number_33 rfl ?_
    refine wm_iconst dX3_number_34 ?_
    refine wm_icmp dX3_number_35 (cB_ge ⟨by omega, by omega⟩ ⟨by omega, by omega⟩) 88 rfl (fun c35 => ?_) (fun c35 => ?_)
    ·
      refine wm_iload_n dX3_number_88 rfl ?_
      refine wm_ireturn dX3_number_89 rfl ?_
      exact K v p (Or.inl ⟨rfl, rfl, rfl⟩)
    ·
      omega
  | succ j ih =>
    intro k v p hk h0 hp K
    have hh := heF_rng (T := τ.1 15) (p := p) ht
    have h17 : (setAF τ p f).1 17 = f := rfl
    refine wm_iload_n dX3_number_33 rfl ?_
    refine wm_iconst dX3_number_34 ?_
    refine wm_icmp dX3_number_35 (cB_ge ⟨by omega, by omega⟩ ⟨by omega, by omega⟩) 88 rfl (fun c35 => ?_) (fun c35 => ?_)
    ·
      omega
    ·
      refine wm_aload_n dX3_number_38 rfl ?_
      refine wm_getI dX3_number_39 (kF3_178 rfl) rfl rfl ?_
      refine wm_if dX3_number_42 (cB_ge (by rw [h17]; omega) ⟨by omega, by omega⟩) 88 rfl (fun c42 => ?_) (fun c42 => ?_)
      ·
        exact absurd (show (0 : Int) ≤ f from c42) (by omega)
      ·
        refine wm_aload_n dX3_number_45 rfl ?_
        refine wm_callv dX3_number_46 (kV3_181 rfl) rfl (mc_hereAF (τ := τ) (f := f) (by omega) hT) (by omega) rfl rfl ?_
        rintro _ _ ⟨rfl, rfl⟩
        refine wm_bipush dX3_number_49 (by decide) ?_
        refine wm_bipush dX3_number_51 (by decide) ?_
        refine wm_calls dX3_number_53 (kS3_57 rfl) (kSn3_57 rfl) (mc_in (by omega) (by omega) (by omega)) (by omega) rfl rfl ?_
        rintro _ _ ⟨rfl, ⟨h53, rfl⟩ | ⟨h53, rfl⟩⟩
        ·
          refine wm_ifF dX3_number_56 (by decide) 88 rfl ?_
          refine wm_bipush dX3_number_59 (by decide) ?_
          refine wm_iload_n dX3_number_61 rfl ?_
          refine wm_imul dX3_number_62 ?_
          refine wm_aload_n dX3_number_63 rfl ?_
          refine wm_callv dX3_number_64 (kV3_181 rfl) rfl (mc_hereAF (τ := τ) (f := f) (by omega) hT) (by omega) rfl rfl ?_
          rintro _ _ ⟨rfl, rfl⟩
          refine wm_iadd dX3_number_67 ?_
          refine wm_bipush dX3_number_68 (by decide) ?_
          refine wm_isub dX3_number_70 ?_
          refine wm_istore_n dX3_number_71 rfl ?_
          refine wm_aload_n dX3_number_72 rfl ?_
          refine wm_dup dX3_number_73 ?_
          refine wm_getI dX3_number_74 (kF3_175 rfl) rfl rfl ?_
          refine wm_iconst dX3_number_77 ?_
          refine wm_iadd dX3_number_78 ?_
          refine wm_putI dX3_number_79 (kF3_175 rfl) rfl rfl (Or.inl rfl) ?_
          refine wm_iinc dX3_number_82 rfl ?_
          refine wm_goto dX3_number_85 33 rfl ?_
          rw [setAF_p, show (setAF τ p f).1 16 = p from rfl]
          refine ih (k + 1) _ (p + 1) (by omega) (by omega) (by omega) (fun v' p' hq => K v' p' ?_)
          rcases hq with ⟨q1, q2, q3⟩ | ⟨⟨i, q1⟩, q2, q3, q4⟩ | ⟨q1, q2, q3, q4⟩ | ⟨q1, -⟩
          · exact Or.inr (Or.inr (Or.inl ⟨by omega, h53, q2, q3⟩))
          · exact Or.inr (Or.inr (Or.inr ⟨by omega, h53, Or.inl ⟨q2, q3, q4⟩⟩))
          · exact Or.inr (Or.inr (Or.inr ⟨by omega, h53, Or.inr ⟨q2, q3, by omega⟩⟩))
          · omega
        ·
          refine wm_ifT dX3_number_56 (by decide) 88 rfl ?_
          refine wm_iload_n dX3_number_88 rfl ?_
          refine wm_ireturn dX3_number_89 rfl ?_
          exact K v p (Or.inr (Or.inl ⟨⟨j, rfl⟩, h53, rfl, rfl⟩))
theorem mc_number (hT : 0 ≤ τ.1 15 ∧ τ.1 15 ≤ 60) (ht : ∀ i, 0 ≤ τ.2 14 i ∧ τ.2 14 i ≤ 127) (hf : -1000 ≤ f ∧ f < 0) (hp : 0 ≤ p ∧ p < 900) : Mf 1 rX3_number [.inr 1] (setAF τ p f) (some (numF (τ.2 14) (τ.1 15) f p).1) (setAF τ (numF (τ.2 14) (τ.1 15) f p).2.1 (numF (τ.2 14) (τ.1 15) f p).2.2) := by
  intro d hd
  have hh := heF_rng (T := τ.1 15) (p := p) ht
  have h17 : (setAF τ p f).1 17 = f := rfl
  have hgo : dig (heF (τ.2 14) (τ.1 15) p) → Wm d rX3_number 33 [some (.inr 1), some (.inl 0), some (.inl 0)] [] (setAF τ p f) (fun r t => some (numF (τ.2 14) (τ.1 15) f p).1 = r ∧ setAF τ (numF (τ.2 14) (τ.1 15) f p).2.1 (numF (τ.2 14) (τ.1 15) f p).2.2 = t) := fun hdg => by
    refine mc_number_33 hT ht hd hf 2 0 0 p (by omega) (by omega) (by omega) (fun v' p' hq => ?_)
    rcases hq with ⟨q1, -⟩ | ⟨-, q2, -⟩ | ⟨q1, -⟩ | ⟨-, -, ⟨q1, q2, q3⟩ | ⟨q1, q2, q3⟩⟩
    · omega
    · exact absurd hdg q2
    · omega
    · have e : numF (τ.2 14) (τ.1 15) f p = (heF (τ.2 14) (τ.1 15) p - 48, p + 1, f) := by rw [numF, if_neg (fun h => h hdg), if_pos q1]
      rw [e, q3]
      exact ⟨by rw [q2]; simp, rfl⟩
    · have e : numF (τ.2 14) (τ.1 15) f p = (10 * (heF (τ.2 14) (τ.1 15) p - 48) + heF (τ.2 14) (τ.1 15) (p + 1) - 48, p + 2, f) := by rw [numF, if_neg (fun h => h hdg), if_neg (fun h => h q1)]
      rw [e, q3]
      exact ⟨by rw [q2]; simp, rfl⟩
  refine wm_aload_n dX3_number_0 rfl ?_
  refine wm_getI dX3_number_1 (kF3_178 rfl) rfl rfl ?_
  refine wm_if dX3_number_4 (cB_ge (by rw [h17]; omega) ⟨by omega, by omega⟩) 29 rfl (fun c4 => ?_) (fun c4 => ?_)
  ·
    exact absurd (show (0 : Int) ≤ f from c4) (by omega)
  ·
    refine wm_aload_n dX3_number_7 rfl ?_
    refine wm_callv dX3_number_8 (kV3_181 rfl) rfl (mc_hereAF (τ := τ) (f := f) (by omega) hT) (by omega) rfl rfl ?_
    rintro _ _ ⟨rfl, rfl⟩
    refine wm_bipush dX3_number_11 (by decide) ?_
    refine wm_bipush dX3_number_13 (by decide) ?_
    refine wm_calls dX3_number_15 (kS3_57 rfl) (kSn3_57 rfl) (mc_in (by omega) (by omega) (by omega)) (by omega) rfl rfl ?_
    rintro _ _ ⟨rfl, ⟨h15, rfl⟩ | ⟨h15, rfl⟩⟩
    ·
      refine wm_ifT dX3_number_18 (by decide) 29 rfl ?_
      refine wm_iconst dX3_number_29 ?_
      refine wm_istore_n dX3_number_30 rfl ?_
      refine wm_iconst dX3_number_31 ?_
      refine wm_istore_n dX3_number_32 rfl ?_
      exact hgo h15
    ·
      refine wm_ifF dX3_number_18 (by decide) 29 rfl ?_
      refine wm_aload_n dX3_number_21 rfl ?_
      refine wm_aload_n dX3_number_22 rfl ?_
      refine wm_getI dX3_number_23 (kF3_175 rfl) rfl rfl ?_
      refine wm_putI dX3_number_26 (kF3_178 rfl) rfl rfl (Or.inl rfl) ?_
      rw [setAF_f, show (setAF τ p f).1 16 = p from rfl]
      refine wm_iconst dX3_number_29 ?_
      refine wm_istore_n dX3_number_30 rfl ?_
      refine wm_iconst dX3_number_31 ?_
      refine wm_istore_n dX3_number_32 rfl ?_
      refine wm_iload_n dX3_number_33 rfl ?_
      refine wm_iconst dX3_number_34 ?_
      refine wm_icmp dX3_number_35 (cB_ge ⟨by omega, by omega⟩ ⟨by omega, by omega⟩) 88 rfl (fun c35 => ?_) (fun c35 => ?_)
      ·
        omega
      ·
        refine wm_aload_n dX3_number_38 rfl ?_
        refine wm_getI dX3_number_39 (kF3_178 rfl) rfl rfl ?_
        refine wm_if dX3_number_42 (cB_ge (show rng p by omega) ⟨by omega, by omega⟩) 88 rfl (fun c42 => ?_) (fun c42 => ?_)
        ·
          refine wm_iload_n dX3_number_88 rfl ?_
          refine wm_ireturn dX3_number_89 rfl ?_
          have e : numF (τ.2 14) (τ.1 15) f p = (0, p, p) := by rw [numF, if_pos h15]
          rw [e]
          exact ⟨rfl, rfl⟩
        ·
          exact absurd (show (0 : Int) ≤ p from hp.1) c42
end M21
