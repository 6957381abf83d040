/-! THE CLASS'S METHODS, 47: questions -/
set_option maxRecDepth 100000
section QST
variable {w w' : Nat → Int} {R : Nat → Nat → Int} {τ t u : CT} {m c v C x y : Int} {d n i j k a b s : Nat}
theorem cc_account (h : SI w C t) (hx : rng x) : Cf kap 1 rX0_account [.inr 10, .inl x] t (some (.inl (if 0 ≤ x ∧ x ≤ 7 then accF w x else -1))) t := by
  intro d hd
  have e : (0 ≤ x ∧ x ≤ 7) → sg t 105 x.toNat = accF w x := fun q => h.1.1.1.2.2.1 x q.1 (by omega)
  refine wc_iload_n dX0_account_0 rfl ?_
  refine wc_iconst dX0_account_1 ?_
  refine wc_bipush dX0_account_2 (by decide) ?_
  refine wc_call dX0_account_4 rfl (cc_in hx (by omega) (by omega)) (by omega) (hx_S (kS0_3 rfl) (kSn0_3 rfl) rfl rfl) ?_
  rintro _ _ ⟨rfl, ⟨h4, rfl⟩ | ⟨h4, rfl⟩⟩
  ·
    refine wc_ifF dX0_account_7 (by decide) 22 rfl ?_
    refine wc_aload_n dX0_account_10 rfl ?_
    refine wc_getC dX0_account_11 (kF0_19 rfl) rfl rfl ?_
    refine wc_getC dX0_account_14 (kF0_141 rfl) rfl rfl ?_
    refine wc_iload_n dX0_account_17 rfl ?_
    refine wc_iaload dX0_account_18 rfl rfl rfl ⟨by omega, by omega⟩ _ rfl ?_
    rw [e h4]
    refine wc_goto dX0_account_19 23 rfl ?_
    refine wc_ireturn dX0_account_23 rfl ?_
    exact ⟨by rw [if_pos h4], rfl⟩
  ·
    refine wc_ifT dX0_account_7 (by decide) 22 rfl ?_
    refine wc_iconst dX0_account_22 ?_
    refine wc_ireturn dX0_account_23 rfl ?_
    exact ⟨by rw [if_neg h4], rfl⟩
end QST
