/-! THE CLASS'S METHODS, 48: questions of shapes -/
set_option maxRecDepth 100000
section QST2
variable {w w' : Nat → Int} {R : Nat → Nat → Int} {τ t u : CT} {m c v C x y : Int} {d n i j k a b s : Nat}
theorem cc_isShape (h : SI w C t) (hx : rng x) : Cb kap 1 rX0_isShape [.inr 10, .inl x] t ((0 ≤ x ∧ x ≤ 2) ∧ 0 < sltF w x) := by
  intro d hd
  have hS := h.1.2.2
  have hn : (0 ≤ x ∧ x ≤ 2) → ((sg t 104 x.toNat).toNat = 0 ∨ (kd kap t (sg t 104 x.toNat).toNat).isSome = true) := fun q => by
    by_cases p : 0 < sltF w x
    · have := ((hS x q.1 (by omega)).1 p).1
      exact Or.inr (by rw [kd_dyn (by omega) this.2.2]; rfl)
    · left
      rw [(hS x q.1 (by omega)).2 p]
      rfl
  refine wc_iload_n dX0_isShape_0 rfl ?_
  refine wc_iconst dX0_isShape_1 ?_
  refine wc_iconst dX0_isShape_2 ?_
  refine wc_call dX0_isShape_3 rfl (cc_in hx (by omega) (by omega)) (by omega) (hx_S (kS0_3 rfl) (kSn0_3 rfl) rfl rfl) ?_
  rintro _ _ ⟨rfl, ⟨h3, rfl⟩ | ⟨h3, rfl⟩⟩
  ·
    refine wc_ifF dX0_isShape_6 (by decide) 25 rfl ?_
    refine wc_aload_n dX0_isShape_9 rfl ?_
    refine wc_getC dX0_isShape_10 (kF0_19 rfl) rfl rfl ?_
    refine wc_getC dX0_isShape_13 (kF0_59 rfl) rfl rfl ?_
    refine wc_iload_n dX0_isShape_16 rfl ?_
    refine wc_aaload (y := (sg t 104 x.toNat).toNat) dX0_isShape_17 rfl rfl rfl ⟨by omega, by omega⟩ rfl ?_
    refine wc_ifnull dX0_isShape_18 (hn h3) 25 rfl (fun c18 => ?_) (fun c18 => ?_)
    ·
      refine wc_iconst dX0_isShape_25 ?_
      refine wc_breturn dX0_isShape_26 rfl (by omega) ?_
      exact ⟨rfl, Or.inr ⟨fun q => by have := ((hS x h3.1 (by omega)).1 q.2).1; omega, rfl⟩⟩
    ·
      refine wc_iconst dX0_isShape_21 ?_
      refine wc_goto dX0_isShape_22 26 rfl ?_
      refine wc_breturn dX0_isShape_26 rfl (by omega) ?_
      refine ⟨rfl, Or.inl ⟨⟨h3, Classical.byContradiction (fun q => c18 ?_)⟩, rfl⟩⟩
      rw [(hS x h3.1 (by omega)).2 q]
      rfl
  ·
    refine wc_ifT dX0_isShape_6 (by decide) 25 rfl ?_
    refine wc_iconst dX0_isShape_25 ?_
    refine wc_breturn dX0_isShape_26 rfl (by omega) ?_
    exact ⟨rfl, Or.inr ⟨fun q => h3 q.1, rfl⟩⟩
end QST2
