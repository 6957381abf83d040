/-! THE CLASS'S METHODS, 46: add -/
set_option maxRecDepth 100000
section ADD
variable {w w' : Nat → Int} {R : Nat → Nat → Int} {τ t u : CT} {m c v C x y : Int} {d n i j k a b s : Nat}
/-- 'add' -/
theorem cc_addM (h : SI w C t) (hK : Kp R s t) (hs : s ≤ 8) (hA : w 11 = w 0) (hx : rng x) (hy : rng y) (hC : 300 ≤ C ∧ C < 1999999000) : Ct kap 7 rX0_add [.inr 10, .inl x, .inl y] t (fun v u => (agF w x y ≠ 0 ∧ some (.inl (if agF w x y = 1 then -2 else if agF w x y = 4 then -4 else -3)) = v ∧ t = u) ∨ (agF w x y = 0 ∧ some (.inl (w 0)) = v ∧ SI (opnF w (12 * y + x)) (C + 2) u ∧ Kp (chgR R s w) (chgS s) u ∧ FrV t u ∧ nvC u ≤ nvC t + 18 ∧ uC u ≤ uC t + 407)) := by
  intro d hd
  have h0 := h.2.1.1
  have hon := onF_rng w (12 * y + x)
  have ag : 0 ≤ agF w x y ∧ agF w x y ≤ 4 := by
    unfold agF
    (repeat' split) <;> omega
  have ag0 : agF w x y = 0 → (((0 ≤ x ∧ x ≤ 11) ∧ 0 ≤ y ∧ y ≤ 9) ∧ onF w (12 * y + x) < 0) ∧ w 0 ≤ 9 := fun q => by
    unfold agF at q
    split at q
    · omega
    · split at q
      · omega
      · split at q
        · omega
        · split at q <;> omega
  refine wc_aload_n dX0_add_0 rfl ?_
  refine wc_iload_n dX0_add_1 rfl ?_
  refine wc_iload_n dX0_add_2 rfl ?_
  refine wc_call dX0_add_3 rfl (cc_againstAdding h hA hx hy) (by omega) (hx_V (kV0_292 rfl) rfl rfl rfl rfl) ?_
  rintro _ _ ⟨rfl, rfl⟩
  refine wc_istore_n dX0_add_6 rfl ?_
  refine wc_iload_n dX0_add_7 rfl ?_
  refine wc_if dX0_add_8 (cB_le ⟨by omega, by omega⟩ ⟨by omega, by omega⟩) 34 rfl (fun c8 => ?_) (fun c8 => ?_)
  ·
    refine wc_aload_n dX0_add_34 rfl ?_
    refine wc_call dX0_add_35 rfl (cc_changes h hK hs) (by omega) (hx_V (kV0_295 rfl) rfl rfl rfl rfl) ?_
    rintro _ _ ⟨rfl, hI, hKp, hG⟩
    rename_i u1
    have hz := ag0 (by omega)
    refine wc_aload_n dX0_add_38 rfl ?_
    refine wc_iload_n dX0_add_39 rfl ?_
    refine wc_iload_n dX0_add_40 rfl ?_
    refine wc_call dX0_add_41 rfl (cc_adds hI hA hz.2 hz.1.1.1 hz.1.1.2 hz.1.2 ⟨by omega, by omega⟩) (by omega) (hx_V (kV0_298 rfl) rfl rfl rfl rfl) ?_
    rintro _ _ ⟨rfl, a1, a2, a3, a4, a5⟩
    refine wc_ireturn dX0_add_44 rfl ?_
    exact Or.inr ⟨by omega, rfl, a1, (by obtain ⟨xk, nk, fk, ek, hX⟩ := hKp; exact (a3 _ _ _ _ _ _ _ hX).kp), hG.toV.tr a2, by have := hG.1.2; omega, by have := hG.1.2; omega⟩
  ·
    refine wc_iload_n dX0_add_11 rfl ?_
    refine wc_iconst dX0_add_12 ?_
    refine wc_icmp dX0_add_13 (cB_ne ⟨by omega, by omega⟩ ⟨by omega, by omega⟩) 21 rfl (fun c13 => ?_) (fun c13 => ?_)
    ·
      refine wc_iload_n dX0_add_21 rfl ?_
      refine wc_iconst dX0_add_22 ?_
      refine wc_icmp dX0_add_23 (cB_ne ⟨by omega, by omega⟩ ⟨by omega, by omega⟩) 31 rfl (fun c23 => ?_) (fun c23 => ?_)
      ·
        refine wc_bipush dX0_add_31 (by decide) ?_
        refine wc_ireturn dX0_add_33 rfl ?_
        refine Or.inl ⟨by omega, ?_, rfl⟩
        repeat' first | rw [if_pos (by omega)] | rw [if_neg (by omega)]
      ·
        refine wc_bipush dX0_add_26 (by decide) ?_
        refine wc_goto dX0_add_28 33 rfl ?_
        refine wc_ireturn dX0_add_33 rfl ?_
        refine Or.inl ⟨by omega, ?_, rfl⟩
        repeat' first | rw [if_pos (by omega)] | rw [if_neg (by omega)]
    ·
      refine wc_bipush dX0_add_16 (by decide) ?_
      refine wc_goto dX0_add_18 33 rfl ?_
      refine wc_ireturn dX0_add_33 rfl ?_
      refine Or.inl ⟨by omega, ?_, rfl⟩
      repeat' first | rw [if_pos (by omega)] | rw [if_neg (by omega)]
end ADD
