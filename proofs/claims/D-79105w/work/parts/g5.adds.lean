/-! THE CLASS'S METHODS, 45: adds -/
set_option maxRecDepth 100000
section ADDS
variable {w w' : Nat → Int} {R : Nat → Nat → Int} {τ t u : CT} {m c v C x y : Int} {d n i j k a b s : Nat}
theorem cc_adds (h : SI w C t) (hA : w 11 = w 0) (h9 : w 0 ≤ 9) (hx : 0 ≤ x ∧ x ≤ 11) (hy : 0 ≤ y ∧ y ≤ 9) (ho : onF w (12 * y + x) < 0) (hC : 200 ≤ C ∧ C < 1999999000) : Ct kap 1 rX0_adds [.inr 10, .inl x, .inl y] t (fun v u => some (.inl (w 0)) = v ∧ SI (opnF w (12 * y + x)) (C + 2) u ∧ FrV t u ∧ (∀ (R : Nat → Nat → Int) (s N x n : Nat) (f e : Nat → Nat), KpX R s N x n f e t → KpX R s N x n f e u) ∧ nvC u ≤ nvC t + 1 ∧ uC u ≤ uC t + 7) := by
  intro d hd
  refine Wc.rp (fun ⟨hnv, hlt⟩ => ?_)
  have h0 := h.2.1.1
  have e7 : sg t 105 7 = w 11 := h.1.1.1.2.2.1 7 (by decide) (by decide)
  have k1 : (newC t memK 7 (fun _ => 0)).2.1 (nvC t) = some memK := if_pos rfl
  have kd1 : kd kap (newC t memK 7 (fun _ => 0)) (nvC t) = some memK := kd_dyn (by omega) k1
  have w1 : wrC (newC t memK 7 (fun _ => 0)) (nvC t) := ⟨by omega, Or.inr hnv.2⟩
  refine wc_aload_n dX0_adds_0 rfl ?_
  refine wc_call dX0_adds_1 rfl (cc_added h hA) (by omega) (hx_V (kV0_286 rfl) rfl rfl rfl rfl) ?_
  rintro _ _ ⟨rfl, rfl⟩
  refine wc_istore_n dX0_adds_4 rfl ?_
  refine wc_aload_n dX0_adds_5 rfl ?_
  refine wc_getC dX0_adds_6 (kF0_19 rfl) rfl rfl ?_
  refine wc_getC dX0_adds_9 (kF0_80 rfl) rfl rfl ?_
  refine wc_iload_n dX0_adds_12 rfl ?_
  refine wc_new dX0_adds_13 (kN0_50 rfl) rfl ?_
  refine wc_dup dX0_adds_16 ?_
  refine wc_iload_n dX0_adds_17 rfl ?_
  refine wc_bipush dX0_adds_18 (by decide) ?_
  refine wc_iload_n dX0_adds_20 rfl ?_
  refine wc_imul dX0_adds_21 ?_
  refine wc_iload_n dX0_adds_22 rfl ?_
  refine wc_iadd dX0_adds_23 ?_
  refine wc_call dX0_adds_24 rfl (cc_memInit2 kd1 w1) (by omega) (hx_I (kI0_289 rfl) rfl kd1 rfl rfl) ?_
  rintro _ _ ⟨rfl, hF, f0, f1, f2, f3⟩
  rename_i u1
  have ku : kd kap u1 (nvC t) = some memK := by unfold kd; rw [hF.2.1]; exact kd1
  refine wc_aastore dX0_adds_27 rfl rfl ⟨by decide, Or.inl (by decide)⟩ rfl ⟨by omega, by omega⟩ (Or.inr ⟨_, _, ku, rfl⟩) _ rfl ?_
  refine wc_aload_n dX0_adds_28 rfl ?_
  refine wc_getC dX0_adds_29 (kF0_19 rfl) rfl rfl ?_
  refine wc_getC dX0_adds_32 (kF0_150 rfl) rfl rfl ?_
  refine wc_bipush dX0_adds_35 (by decide) ?_
  refine wc_iload_n dX0_adds_37 rfl ?_
  refine wc_imul dX0_adds_38 ?_
  refine wc_iload_n dX0_adds_39 rfl ?_
  refine wc_iadd dX0_adds_40 ?_
  refine wc_iload_n dX0_adds_41 rfl ?_
  refine wc_iastore dX0_adds_42 rfl ⟨by decide, Or.inl (by decide)⟩ rfl ⟨by omega, by omega⟩ _ rfl ?_
  refine wc_aload_n dX0_adds_43 rfl ?_
  refine wc_getC dX0_adds_44 (kF0_19 rfl) rfl rfl ?_
  refine wc_getC dX0_adds_47 (kF0_141 rfl) rfl rfl ?_
  refine wc_bipush dX0_adds_50 (by decide) ?_
  refine wc_dup2 dX0_adds_52 ?_
  refine wc_iaload dX0_adds_53 rfl rfl rfl ⟨by decide, by decide⟩ _ rfl ?_
  refine wc_iconst dX0_adds_54 ?_
  refine wc_iadd dX0_adds_55 ?_
  refine wc_iastore dX0_adds_56 rfl ⟨by decide, Or.inl (by decide)⟩ rfl ⟨by decide, by decide⟩ _ rfl ?_
  refine wc_iload_n dX0_adds_57 rfl ?_
  refine wc_ireturn dX0_adds_58 rfl ?_
  have hu1 : ∀ v, v < nvC t → sg u1 v = sg t v := fun v hv => (hF.2.2 v (Nat.ne_of_lt hv)).trans (sg_new (Nat.ne_of_lt hv))
  have hd1 : ∀ v, v < nvC t → u1.2.1 v = t.2.1 v := fun v hv => by rw [hF.2.1]; exact if_neg (Nat.ne_of_lt hv)
  have n1 : n0C u1 = n0C t := by unfold n0C; rw [hF.1]; rfl
  have v1 : nvC u1 = nvC t + 1 := by unfold nvC; rw [hF.1]; rfl
  have s1 : uC u1 = uC t + 7 := by unfold uC; rw [hF.1]; rfl
  have fz3 : ∀ j, 3 ≤ j → sg u1 (nvC t) j = 0 := fun j hj => by rw [f3 j hj]; exact congrFun sg_nw j
  have e5v : sg (stC (stC u1 103 (w 0).toNat ((nvC t : Nat) : Int)) 102 (12 * y + x).toNat (w 0)) 105 (Int.toNat 7) = w 11 := by
    rw [sg_st' (by decide), sg_st' (by decide), hu1 105 (by omega)]
    exact e7
  rw [e5v]
  have g : ∀ v, v ≠ 102 → v ≠ 103 → v ≠ 105 → sg (stC (stC (stC u1 103 (w 0).toNat ((nvC t : Nat) : Int)) 102 (12 * y + x).toNat (w 0)) 105 (Int.toNat 7) (w 11 + 1)) v = sg u1 v := fun v q1 q2 q3 => by rw [sg_st' q3, sg_st' q1, sg_st' q2]
  have gy := g (nvC t) (by omega) (by omega) (by omega)
  have E103 : ∀ j, sg (stC (stC (stC u1 103 (w 0).toNat ((nvC t : Nat) : Int)) 102 (12 * y + x).toNat (w 0)) 105 (Int.toNat 7) (w 11 + 1)) 103 j = if j = (w 0).toNat then ((nvC t : Nat) : Int) else sg t 103 j := fun j => by rw [sg_st' (by decide), sg_st' (by decide), sg_st, hu1 103 (by omega)]
  refine ⟨rfl, h.opn h9 ⟨by omega, by omega⟩ ho hC.1 n1 ⟨Nat.le_refl _, by show nvC t < nvC u1; omega, by omega⟩ hnv hd1 (by show u1.2.1 _ = _; rw [hF.2.1]; exact k1) ⟨by omega, Or.inr (by show n0C u1 ≤ nvC t; omega)⟩ (by rw [gy]; exact ⟨f0, f1, f2, fz3 3 (by decide), fz3 4 (by decide), fz3 5 (by decide), fz3 6 (by decide)⟩) E103 (fun j => by rw [sg_st' (by decide), sg_st, sg_st' (by decide), hu1 102 (by omega)]) (fun j => by rw [sg_st, sg_st' (by decide), sg_st' (by decide), hu1 105 (by omega)]; rfl) (fun v q0 q1 q2 q3 => (g v q1 q2 q3).trans (hu1 v q0)), ⟨⟨n1, by show nvC t ≤ nvC u1; omega⟩, fun j _ _ => by rw [g 10 (by decide) (by decide) (by decide), hu1 10 (by omega)], by rw [g 21 (by decide) (by decide) (by decide), hu1 21 (by omega)]⟩, fun R s N x' n' f e hX => ?_, by show nvC u1 ≤ _; omega, by show uC u1 ≤ _; omega⟩
  refine hX.fr (t := stC (stC (stC u1 103 (w 0).toNat ((nvC t : Nat) : Int)) 102 (12 * y + x).toNat (w 0)) 105 (Int.toNat 7) (w 11 + 1)) n1 (by show nvC t ≤ nvC u1; omega) ((g 20 (by decide) (by decide) (by decide)).trans (hu1 20 (by omega))) (fun v q1 q2 => ⟨hd1 v q2, fun _ _ => (g v (by omega) (by omega) (by omega)).trans (hu1 v q2)⟩) (Or.inl (by unfold tnC; rw [g 18 (by decide) (by decide) (by decide), hu1 18 (by omega)])) (fun a a0 a1 => ?_) (fun v q1 q2 => ⟨hd1 v (by omega), (g v (by omega) (by omega) (by omega)).trans (hu1 v (by omega))⟩) hlt (by rw [g 10 (by decide) (by decide) (by decide), hu1 10 (by omega)])
  unfold mnC
  rw [E103]
  by_cases q : a.toNat = (w 0).toNat
  · rw [if_pos q, Int.toNat_natCast]; exact Or.inr (Or.inl (Nat.le_refl _))
  · rw [if_neg q]; exact Or.inl rfl
end ADDS
