/-! THE CLASS'S METHODS, 41: added, againstAdding -/
set_option maxRecDepth 100000
/-- what stands against adding -/
def agF (w : Nat → Int) (x y : Int) : Int := if ¬ ((0 ≤ x ∧ x ≤ 11) ∧ 0 ≤ y ∧ y ≤ 9) then 1 else if w (72 + (12 * y + x)).toNat = 1 then 2 else if 0 ≤ onF w (12 * y + x) then 3 else if w 0 = 10 then 4 else 0
section AGN
variable {w w' : Nat → Int} {R : Nat → Nat → Int} {τ t u t4 : CT} {m c v C x y : Int} {d n i j k a b s : Nat} {Q : Option AV → CT → Prop}
theorem cc_added (h : SI w C t) (hA : w 11 = w 0) : Cf kap 0 rX0_added [.inr 10] t (some (.inl (w 0))) t := by
  intro d hd
  have e7 : sg t 105 7 = w 0 := (h.1.1.1.2.2.1 7 (by decide) (by decide)).trans hA
  refine wc_aload_n dX0_added_0 rfl ?_
  refine wc_getC dX0_added_1 (kF0_19 rfl) rfl rfl ?_
  refine wc_getC dX0_added_4 (kF0_141 rfl) rfl rfl ?_
  refine wc_bipush dX0_added_7 (by decide) ?_
  refine wc_iaload dX0_added_9 rfl rfl rfl ⟨by decide, by decide⟩ 7 rfl ?_
  rw [e7]
  refine wc_ireturn dX0_added_10 rfl ?_
  exact ⟨rfl, rfl⟩
theorem cc_againstAdding (h : SI w C t) (hA : w 11 = w 0) (hx : rng x) (hy : rng y) : Cf kap 1 rX0_againstAdding [.inr 10, .inl x, .inl y] t (some (.inl (agF w x y))) t := by
  intro d hd
  have e1 : ((0 ≤ x ∧ x ≤ 11) ∧ 0 ≤ y ∧ y ≤ 9) → sg t 101 (12 * y + x).toNat = w (72 + (12 * y + x)).toNat ∧ sg t 102 (12 * y + x).toNat = onF w (12 * y + x) := fun q => h.1.1.1.1 (12 * y + x) (by omega) (by omega)
  have hon := onF_rng w (12 * y + x)
  have hb : ((0 ≤ x ∧ x ≤ 11) ∧ 0 ≤ y ∧ y ≤ 9) → w (72 + (12 * y + x)).toNat = 0 ∨ w (72 + (12 * y + x)).toNat = 1 := fun q => h.2.1.2.2.1 (12 * y + x) (by omega) (by omega)
  have h0 := h.2.1.1
  refine wc_iload_n dX0_againstAdding_0 rfl ?_
  refine wc_iconst dX0_againstAdding_1 ?_
  refine wc_bipush dX0_againstAdding_2 (by decide) ?_
  refine wc_call dX0_againstAdding_4 rfl (cc_in hx (by omega) (by omega)) (by omega) (hx_S (kS0_3 rfl) (kSn0_3 rfl) rfl rfl) ?_
  rintro _ _ ⟨rfl, ⟨h4, rfl⟩ | ⟨h4, rfl⟩⟩
  ·
    refine wc_ifF dX0_againstAdding_7 (by decide) 20 rfl ?_
    refine wc_iload_n dX0_againstAdding_10 rfl ?_
    refine wc_iconst dX0_againstAdding_11 ?_
    refine wc_bipush dX0_againstAdding_12 (by decide) ?_
    refine wc_call dX0_againstAdding_14 rfl (cc_in hy (by omega) (by omega)) (by omega) (hx_S (kS0_3 rfl) (kSn0_3 rfl) rfl rfl) ?_
    rintro _ _ ⟨rfl, ⟨h14, rfl⟩ | ⟨h14, rfl⟩⟩
    ·
      refine wc_ifT dX0_againstAdding_17 (by decide) 22 rfl ?_
      refine wc_bipush dX0_againstAdding_22 (by decide) ?_
      refine wc_iload_n dX0_againstAdding_24 rfl ?_
      refine wc_imul dX0_againstAdding_25 ?_
      refine wc_iload_n dX0_againstAdding_26 rfl ?_
      refine wc_iadd dX0_againstAdding_27 ?_
      refine wc_istore_n dX0_againstAdding_28 rfl ?_
      refine wc_aload_n dX0_againstAdding_29 rfl ?_
      refine wc_getC dX0_againstAdding_30 (kF0_19 rfl) rfl rfl ?_
      refine wc_getC dX0_againstAdding_33 (kF0_23 rfl) rfl rfl ?_
      refine wc_iload_n dX0_againstAdding_36 rfl ?_
      refine wc_baload dX0_againstAdding_37 rfl rfl rfl ⟨by omega, by omega⟩ _ rfl ?_
      rw [(e1 ⟨h4, h14⟩).1]
      have hb2 := hb ⟨h4, h14⟩
      refine wc_if dX0_againstAdding_38 (cB_eq (by have := hb ⟨h4, h14⟩; omega) ⟨by omega, by omega⟩) 45 rfl (fun c38 => ?_) (fun c38 => ?_)
      ·
        refine wc_aload_n dX0_againstAdding_45 rfl ?_
        refine wc_getC dX0_againstAdding_46 (kF0_19 rfl) rfl rfl ?_
        refine wc_getC dX0_againstAdding_49 (kF0_150 rfl) rfl rfl ?_
        refine wc_iload_n dX0_againstAdding_52 rfl ?_
        refine wc_iaload dX0_againstAdding_53 rfl rfl rfl ⟨by omega, by omega⟩ _ rfl ?_
        rw [(e1 ⟨h4, h14⟩).2]
        refine wc_if dX0_againstAdding_54 (cB_lt ⟨by omega, by omega⟩ ⟨by omega, by omega⟩) 61 rfl (fun c54 => ?_) (fun c54 => ?_)
        ·
          refine wc_aload_n dX0_againstAdding_61 rfl ?_
          refine wc_call dX0_againstAdding_62 rfl (cc_added h hA) (by omega) (hx_V (kV0_286 rfl) rfl rfl rfl rfl) ?_
          rintro _ _ ⟨rfl, rfl⟩
          refine wc_bipush dX0_againstAdding_65 (by decide) ?_
          refine wc_icmp dX0_againstAdding_67 (cB_ne ⟨by omega, by omega⟩ ⟨by omega, by omega⟩) 74 rfl (fun c67 => ?_) (fun c67 => ?_)
          ·
            refine wc_iconst dX0_againstAdding_74 ?_
            refine wc_ireturn dX0_againstAdding_75 rfl ?_
            refine ⟨?_, rfl⟩
            unfold agF
            repeat' first | rw [if_pos (by omega)] | rw [if_neg (by omega)]
          ·
            refine wc_iconst dX0_againstAdding_70 ?_
            refine wc_goto dX0_againstAdding_71 75 rfl ?_
            refine wc_ireturn dX0_againstAdding_75 rfl ?_
            refine ⟨?_, rfl⟩
            unfold agF
            repeat' first | rw [if_pos (by omega)] | rw [if_neg (by omega)]
        ·
          refine wc_iconst dX0_againstAdding_57 ?_
          refine wc_goto dX0_againstAdding_58 75 rfl ?_
          refine wc_ireturn dX0_againstAdding_75 rfl ?_
          refine ⟨?_, rfl⟩
          unfold agF
          repeat' first | rw [if_pos (by omega)] | rw [if_neg (by omega)]
      ·
        refine wc_iconst dX0_againstAdding_41 ?_
        refine wc_goto dX0_againstAdding_42 75 rfl ?_
        refine wc_ireturn dX0_againstAdding_75 rfl ?_
        refine ⟨?_, rfl⟩
        unfold agF
        repeat' first | rw [if_pos (by omega)] | rw [if_neg (by omega)]
    ·
      refine wc_ifF dX0_againstAdding_17 (by decide) 22 rfl ?_
      refine wc_iconst dX0_againstAdding_20 ?_
      refine wc_ireturn dX0_againstAdding_21 rfl ?_
      refine ⟨?_, rfl⟩
      unfold agF
      repeat' first | rw [if_pos (by omega)] | rw [if_neg (by omega)]
  ·
    refine wc_ifT dX0_againstAdding_7 (by decide) 20 rfl ?_
    refine wc_iconst dX0_againstAdding_20 ?_
    refine wc_ireturn dX0_againstAdding_21 rfl ?_
    refine ⟨?_, rfl⟩
    unfold agF
    repeat' first | rw [if_pos (by omega)] | rw [if_neg (by omega)]
end AGN
