/-! THE CLASS'S METHODS, 35: rounds -/
set_option maxRecDepth 100000
section RNDS
variable {w w' : Nat → Int} {R : Nat → Nat → Int} {τ t u t4 : CT} {m c v C : Int} {d x y n i j k a b s : Nat} {Q : Option AV → CT → Prop}
theorem FrG5.toV (h : FrG5 t u) : FrV t u := ⟨⟨h.1.1, h.1.2.1.1⟩, fun j _ _ => congrFun (h.2.1 10 (by decide) (by decide) (by decide)) j, h.2.1 21 (by decide) (by decide) (by decide)⟩
theorem FrW.toV (h : FrW t u) : FrV t u := ⟨h.1, h.2.2.1, h.2.1 21 (by omega)⟩
theorem FrV.tr (h : FrV τ t) (g : FrV t u) : FrV τ u := ⟨⟨g.1.1.trans h.1.1, by have := h.1.2; have := g.1.2; omega⟩, fun j j1 j2 => (g.2.1 j j1 j2).trans (h.2.1 j j1 j2), g.2.2.trans h.2.2⟩
theorem FrV.q {q : Nat} (hq : q ≠ 10 ∧ q ≠ 21) (h : FrQ q t u) : FrV t u := by
  obtain ⟨h1, h2, h3⟩ := h
  exact ⟨⟨by unfold n0C; rw [h1], by unfold nvC; rw [h1]; exact Nat.le_refl _⟩, fun j _ _ => by rw [h3 10 (by omega)], h3 21 (by omega)⟩
theorem cwF_rng (h : WS w) (m : Int) : -1 ≤ cwF w m ∧ cwF w m < 200 := by
  unfold cwF
  split
  · rename_i q
    have := isM_le q h.1.2
    have := h.2.2.1 m this.1 this.2
    omega
  · omega
/-- 'rounds' -/
theorem cc_rounds (h : SI w C t) (hK : Kp R s t) (hs : s ≤ 8) (hm : rng c) (hC : 300 ≤ C ∧ C + 10000 < 900000000) : Ct kap 72 rX0_rounds [.inr 10, .inl c] t (fun v u => (¬ (1 ≤ c ∧ c ≤ 40) ∧ some (.inl (-2)) = v ∧ t = u) ∨ ((1 ≤ c ∧ c ≤ 40) ∧ ledF w < 0 ∧ some (.inl (-3)) = v ∧ t = u) ∨ ((1 ≤ c ∧ c ≤ 40) ∧ 0 ≤ ledF w ∧ some (.inl (movF (rndsF c.toNat w) (cwF w) 10 0)) = v ∧ SI (rndsF c.toNat w) (C + 4000) u ∧ SW w (rndsF c.toNat w) ∧ Kp (chgR R s w) (chgS s) u ∧ FrV t u ∧ nvC u ≤ nvC t + 537 ∧ uC u ≤ uC t + 2960)) := by
  intro d hd
  have hr := h.2.2.2.2.rng (by omega)
  have hlr := ledF_rng w h.2.1.1.2
  have hro : rng (ldO w) := by unfold ldO; split <;> omega
  have hlo : 0 ≤ ldO w ↔ 0 ≤ ledF w := by unfold ldO; split <;> omega
  refine wc_iload_n dX0_rounds_0 rfl ?_
  refine wc_iconst dX0_rounds_1 ?_
  refine wc_bipush dX0_rounds_2 (by decide) ?_
  refine wc_call dX0_rounds_4 rfl (cc_in hm (by omega) (by omega)) (by omega) (hx_S (kS0_3 rfl) (kSn0_3 rfl) rfl rfl) ?_
  rintro _ _ ⟨rfl, ⟨h4, rfl⟩ | ⟨h4, rfl⟩⟩
  ·
    refine wc_ifT dX0_rounds_7 (by decide) 13 rfl ?_
    refine wc_aload_n dX0_rounds_13 rfl ?_
    refine wc_getC dX0_rounds_14 (kF0_19 rfl) rfl rfl ?_
    refine wc_call dX0_rounds_17 rfl (cc_leads h.1.1 h.2.1.1 (hr 1)) (by omega) (hx_V (kV0_55 rfl) rfl rfl rfl rfl) ?_
    rintro _ _ ⟨rfl, rfl⟩
    refine wc_if dX0_rounds_20 (cB_ge hro ⟨by omega, by omega⟩) 26 rfl (fun c20 => ?_) (fun c20 => ?_)
    ·
      refine wc_aload_n dX0_rounds_26 rfl ?_
      refine wc_call dX0_rounds_27 rfl (cc_changes h hK hs) (by omega) (hx_V (kV0_295 rfl) rfl rfl rfl rfl) ?_
      rintro _ _ ⟨rfl, hI, hKp, hG⟩
      rename_i u1
      refine Wc.rp (fun ⟨hnv, hlt⟩ => ?_)
      refine wc_aload_n dX0_rounds_30 rfl ?_
      refine wc_call dX0_rounds_31 rfl (cc_notesCells hI.2.1.1.2 hI.1.1) (by omega) (hx_V (kV0_343 rfl) rfl rfl rfl rfl) ?_
      rintro _ _ ⟨rfl, hQ, hcw⟩
      rename_i u2
      have hI2 := hQ.si (by decide) hI
      have hK2 := hKp.st (q := 22) (by decide) hQ.1 hQ.2.1 hQ.2.2 hlt
      refine Wc.rp (fun ⟨hnv2, hlt2⟩ => ?_)
      refine wc_aload_n dX0_rounds_34 rfl ?_
      refine wc_iload_n dX0_rounds_35 rfl ?_
      refine wc_call dX0_rounds_36 rfl (cc_makes (N := c) hI2 ⟨by omega, by omega⟩ ⟨by omega, by omega⟩ (by omega)) (by omega) (hx_V (kV0_346 rfl) rfl rfl rfl rfl) ?_
      rintro _ _ ⟨rfl, hW, hI3, hSW, hb⟩
      rename_i u3
      have hK3 := hK2.frw hW hlt2
      have hcw3 : ∀ m', 0 ≤ m' → m' < 10 → sg u3 22 m'.toNat = cwF w m' := fun m' m0 m1 => by rw [hW.2.1 22 (by omega)]; exact hcw m' m0 m1
      refine wc_aload_n dX0_rounds_39 rfl ?_
      refine wc_call dX0_rounds_40 rfl (cc_elsewhere hI3.1.1 hI3.2.1.1.2 hI3.2.1.2.2.2 hcw3 (cwF_rng h.2.2.1)) (by omega) (hx_V (kV0_349 rfl) rfl rfl rfl rfl) ?_
      rintro _ _ ⟨rfl, rfl⟩
      refine wc_ireturn dX0_rounds_43 rfl ?_
      have n2 : nvC u2 = nvC u1 := by unfold nvC; rw [hQ.1]
      have s2 : uC u2 = uC u1 := by unfold uC; rw [hQ.1]
      have b1 := hG.1.2
      exact Or.inr (Or.inr ⟨h4, by omega, rfl, ⟨hI3.1, hI3.2.1, hI3.2.2.1, hI3.2.2.2.1, hI3.2.2.2.2.mono (by omega)⟩, hSW, hK3, (hG.toV.tr (FrV.q (by decide) hQ)).tr hW.toV, by omega, by omega⟩)
    ·
      refine wc_bipush dX0_rounds_23 (by decide) ?_
      refine wc_ireturn dX0_rounds_25 rfl ?_
      exact Or.inr (Or.inl ⟨h4, by omega, rfl, rfl⟩)
  ·
    refine wc_ifF dX0_rounds_7 (by decide) 13 rfl ?_
    refine wc_bipush dX0_rounds_10 (by decide) ?_
    refine wc_ireturn dX0_rounds_12 rfl ?_
    exact Or.inl ⟨h4, rfl, rfl⟩
end RNDS
