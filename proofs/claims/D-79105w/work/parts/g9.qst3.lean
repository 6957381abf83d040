/-! THE CLASS'S METHODS, 49: ways -/
set_option maxRecDepth 100000
section QST3
variable {w w' : Nat → Int} {R : Nat → Nat → Int} {τ t u : CT} {m c v C x y : Int} {d n i j k a b s : Nat}
theorem cc_wayOf (h : SI w C t) (hc : 0 ≤ c ∧ c < 120) (hx : 0 ≤ x ∧ x < 120) (hr : bfsF (blkF w) c x < 1000) : Ct kap 4 rX0_wayOf [.inr 10, .inl c, .inl x] t (fun v u => some (.inl (if bfsF (blkF w) c x < 0 then -5 else bfsF (blkF w) c x)) = v ∧ FrS t u ∧ nvC u = nvC t ∧ uC u = uC t) := by
  intro d hd
  have hf := en_far (f := bfsF (blkF w) c) (i := x) hr
  have he : enF (bfsF (blkF w) c) x = if bfsF (blkF w) c x < 0 then 16777216 else bfsF (blkF w) c x := rfl
  refine wc_aload_n dX0_wayOf_0 rfl ?_
  refine wc_iload_n dX0_wayOf_1 rfl ?_
  refine wc_aload_n dX0_wayOf_2 rfl ?_
  refine wc_getC dX0_wayOf_3 (kF0_147 rfl) rfl rfl ?_
  refine wc_call dX0_wayOf_6 rfl (cc_lays (t := 16) (Or.inl rfl) h.1.1 h.2.1.2.2.1 hc) (by omega) (hx_V (kV0_90 rfl) rfl rfl rfl rfl) ?_
  rintro _ _ ⟨rfl, q, rfl⟩
  refine wc_aload_n dX0_wayOf_9 rfl ?_
  refine wc_getC dX0_wayOf_10 (kF0_147 rfl) rfl rfl ?_
  refine wc_iload_n dX0_wayOf_13 rfl ?_
  refine wc_iaload dX0_wayOf_14 rfl rfl rfl ⟨by omega, by omega⟩ _ rfl ?_
  refine wc_ldcN 16777216 dX0_wayOf_15 (kK0_18 rfl) (by decide) ?_
  rw [flC_f (t := 16) hx]
  refine wc_icmp dX0_wayOf_17 (cB_ne (by rw [he]; split <;> omega) ⟨by omega, by omega⟩) 25 rfl (fun c17 => ?_) (fun c17 => ?_)
  ·
    refine wc_aload_n dX0_wayOf_25 rfl ?_
    refine wc_getC dX0_wayOf_26 (kF0_147 rfl) rfl rfl ?_
    refine wc_iload_n dX0_wayOf_29 rfl ?_
    refine wc_iaload dX0_wayOf_30 rfl rfl rfl ⟨by omega, by omega⟩ _ rfl ?_
    rw [flC_f (t := 16) hx]
    refine wc_ireturn dX0_wayOf_31 rfl ?_
    have q1 : ¬ bfsF (blkF w) c x < 0 := fun r => c17 (hf.mpr r)
    rw [if_neg q1] at he ⊢
    exact ⟨by rw [he], flC_fr (by decide), rfl, rfl⟩
  ·
    refine wc_bipush dX0_wayOf_20 (by decide) ?_
    refine wc_goto dX0_wayOf_22 31 rfl ?_
    refine wc_ireturn dX0_wayOf_31 rfl ?_
    have q1 : bfsF (blkF w) c x < 0 := hf.mp (Classical.byContradiction c17)
    rw [if_pos q1]
    exact ⟨rfl, flC_fr (by decide), rfl, rfl⟩
theorem cc_distance (h : SI w C t) (hc : rng c) (hx : rng x) : Ct kap 5 rX0_distance [.inr 10, .inl c, .inl x] t (fun v u => some (.inl (if (0 ≤ c ∧ c ≤ 119) ∧ 0 ≤ x ∧ x ≤ 119 then (if bfsF (blkF w) c x < 0 then -5 else bfsF (blkF w) c x) else -1)) = v ∧ FrS t u ∧ nvC u = nvC t ∧ uC u = uC t) := by
  intro d hd
  refine wc_iload_n dX0_distance_0 rfl ?_
  refine wc_call dX0_distance_1 rfl (cc_isCell hc) (by omega) (hx_S (kS0_313 rfl) (kSn0_313 rfl) rfl rfl) ?_
  rintro _ _ ⟨rfl, ⟨h1, rfl⟩ | ⟨h1, rfl⟩⟩
  ·
    refine wc_ifF dX0_distance_4 (by decide) 23 rfl ?_
    refine wc_iload_n dX0_distance_7 rfl ?_
    refine wc_call dX0_distance_8 rfl (cc_isCell hx) (by omega) (hx_S (kS0_313 rfl) (kSn0_313 rfl) rfl rfl) ?_
    rintro _ _ ⟨rfl, ⟨h8, rfl⟩ | ⟨h8, rfl⟩⟩
    ·
      refine wc_ifF dX0_distance_11 (by decide) 23 rfl ?_
      refine wc_aload_n dX0_distance_14 rfl ?_
      refine wc_iload_n dX0_distance_15 rfl ?_
      refine wc_iload_n dX0_distance_16 rfl ?_
      refine wc_call dX0_distance_17 rfl (cc_wayOf h ⟨h1.1, by omega⟩ ⟨h8.1, by omega⟩ (by have := (bfsF_rng (blkF w) (c := c) ⟨h1.1, by omega⟩ x).2; omega)) (by omega) (hx_V (kV0_377 rfl) rfl rfl rfl rfl) ?_
      rintro _ _ ⟨rfl, a1, a2, a3⟩
      refine wc_goto dX0_distance_20 24 rfl ?_
      refine wc_ireturn dX0_distance_24 rfl ?_
      exact ⟨by rw [if_pos ⟨h1, h8⟩], a1, a2, a3⟩
    ·
      refine wc_ifT dX0_distance_11 (by decide) 23 rfl ?_
      refine wc_iconst dX0_distance_23 ?_
      refine wc_ireturn dX0_distance_24 rfl ?_
      exact ⟨by rw [if_neg (fun q => h8 q.2)], FrS.rf, rfl, rfl⟩
  ·
    refine wc_ifT dX0_distance_4 (by decide) 23 rfl ?_
    refine wc_iconst dX0_distance_23 ?_
    refine wc_ireturn dX0_distance_24 rfl ?_
    exact ⟨by rw [if_neg (fun q => h1 q.1)], FrS.rf, rfl, rfl⟩
end QST3
