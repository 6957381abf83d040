/-! THE CLASS'S METHODS, 31: changes -/
set_option maxRecDepth 100000
/-- what a change leaves -/
def FrG5 (t u : CT) : Prop := (n0C u = n0C t ∧ (nvC t ≤ nvC u ∧ nvC u ≤ nvC t + 17) ∧ uC u ≤ uC t + 400) ∧ (∀ v, v < 110 → v ≠ 20 → v ≠ 3 → sg u v = sg t v) ∧ (∀ y, y < nvC t → u.2.1 y = t.2.1 y) ∧ ∀ y, 110 ≤ y → y < nvC t → y ≠ (sg t 20 1).toNat → sg u y = sg t y
section CHG
variable {T : Nat → Option CK} {w : Nat → Int} {R : Nat → Nat → Int} {τ t u t4 : CT} {m c v C : Int} {d x y o n i j k a b E s p N : Nat} {f e : Nat → Nat} {kk : CK} {Q : Option AV → CT → Prop}
theorem SI.mlt (h : SI w C t) : ∀ m : Int, 0 ≤ m → m < 10 → mnC t m < nvC t ∨ mnC t m = 0 := fun m m0 m1 => by
  by_cases q : isM w m
  · exact Or.inl ((h.1.1.1.2.1 m m0 m1).1 q).1.2.1
  · right
    unfold mnC
    rw [(h.1.1.1.2.1 m m0 m1).2 q]
    rfl
theorem SI.tlt (h : SI w C t) (hnv : 1000 ≤ n0C t ∧ n0C t ≤ nvC t) : tnC t < nvC t := by
  obtain ⟨n, s, ⟨⟨h1, h2⟩, h3, h4⟩, h5, h6⟩ := h.1.2.1
  rcases h5 with q | q
  · rcases h4 with ⟨q1, -⟩ | ⟨q1, -⟩
    · omega
    · omega
  · exact (h6 q).2
theorem cc_changes (h : SI w C t) (hK : Kp R s t) (hs : s ≤ 8) : Ct kap 6 rX0_changes [.inr 10] t (fun r u => none = r ∧ SI w C u ∧ Kp (chgR R s w) (chgS s) u ∧ FrG5 t u) := by
  intro d hd
  refine Wc.rp (fun ⟨hnv, hlt⟩ => ?_)
  obtain ⟨x, n, f, e, hX⟩ := hK
  have hF1 : FrS t (newC t woR 8 (fun _ => 0)) := newC_frs hnv
  have hI1 := h.frs hF1
  have kx1 : (newC t woR 8 (fun _ => 0)).2.1 (nvC t) = some woR := if_pos rfl
  have kx0 : kd kap (newC t woR 8 (fun _ => 0)) (nvC t) = some woR := kd_dyn (by omega) kx1
  refine wc_aload_n dX0_changes_0 rfl ?_
  refine wc_getC dX0_changes_1 (kF0_259 rfl) rfl rfl ?_
  refine wc_new dX0_changes_4 (kN0_24 rfl) rfl ?_
  refine wc_dup dX0_changes_7 ?_
  refine wc_aload_n dX0_changes_8 rfl ?_
  refine wc_getC dX0_changes_9 (kF0_19 rfl) rfl rfl ?_
  refine wc_call dX0_changes_12 rfl ((cc_wCopy (T := kap) (x := nvC t) hI1.ws5 kx1 ⟨by omega, hnv.2, rfl⟩ hnv.1 ⟨by omega, by omega, by omega, by omega, by omega, by omega⟩)) (by omega) (hx_I (kI0_281 rfl) rfl kx0 rfl rfl) ?_
  rintro _ _ ⟨rfl, hW⟩
  rename_i u1
  obtain ⟨⟨a1, ⟨a2, a2'⟩, a3⟩, a4, a5, a6⟩ := hW
  have s1 : ∀ y, y < nvC t → sg u1 y = sg t y := fun y hy => (a5 y hy).trans (sg_new (by omega))
  have d1 : ∀ y, y < nvC t → u1.2.1 y = t.2.1 y := fun y hy => (a4 y (Nat.lt_succ_of_lt hy)).trans (if_neg (Nat.ne_of_lt hy))
  have hF2 : FrS t u1 := ⟨⟨a1, by omega⟩, fun v hv => s1 v (by omega), fun j _ _ => congrFun (s1 10 (by omega)) j, fun y y1 y2 => ⟨d1 y y2, fun _ => s1 y y2⟩, s1 18 (by omega), fun y y1 y2 => ⟨d1 y (by omega), s1 y (by omega)⟩⟩
  have hI2 := h.frs hF2
  have hX1 := hX.frw hF2.toW hlt
  have b0 : n0C u1 = n0C t := a1
  have b1 : uC u1 ≤ uC t + 339 := a3
  have e18 : tnC u1 = tnC t := by unfold tnC; rw [s1 18 (by omega)]
  have e103 : ∀ m, mnC u1 m = mnC t m := fun m => by unfold mnC; rw [s1 103 (by omega)]
  have htl := h.tlt hnv
  have hml : ∀ m : Int, 0 ≤ m → m < 10 → mnC t m < nvC t := fun m m0 m1 => by rcases h.mlt m m0 m1 with q | q <;> omega
  refine wc_call dX0_changes_15 rfl ((cc_add (y := nvC t) hX1.1.1 (by omega) rfl ⟨_, kd_dyn (by omega) a6.1⟩)) (by omega) (hx_V (kV0_232 rfl) rfl rfl rfl rfl) ?_
  rintro _ _ ⟨rfl, hA⟩
  rename_i u2
  have hw1 := hX1.xw ⟨by omega, by omega⟩
  obtain ⟨x', f', e', hX2⟩ := hX1.add a6 ⟨Nat.le_refl _, a2, Nat.le_refl _, by omega⟩ (fun v v1 v2 => NoI.mk hX1.2.2.2.2.1 (by omega)) (fun v v1 v2 => ⟨by omega, fun m m0 m1 => by rw [e103]; have := hml m m0 m1; omega⟩) hs (by omega) (fun m m0 m1 => by rw [e103]; have := hml m m0 m1; omega) ⟨by omega, by omega⟩ hA
  obtain ⟨xa, na, gA, -, -, g3a, ⟨z0, ⟨z1, z1'⟩, z2, z3⟩, z5⟩ := hA
  have hI3 : SI w C u2 := ⟨hI2.1.fr3 z0 z1 (fun v v1 v2 => z3 v (by omega) (by omega) (fun r => hw1.2.2.2.1 ⟨by omega, by omega⟩)) (z3 18 (by omega) (by decide) (Ne.symm hw1.2.1)) (fun y y1 y2 => z2 y y2) (fun m m0 m1 q => z3 _ ((hI2.1.1.1.2.1 m m0 m1).1 q).1.2.1 (by have : 110 ≤ mnC u1 m := ((hI2.1.1.1.2.1 m m0 m1).1 q).1.1; omega) (fun r => by have q5 : 110 ≤ mnC u1 m := ((hI2.1.1.1.2.1 m m0 m1).1 q).1.1; rcases hX1.2.1 with q1 | q1; have := (hw1.2.2.2.2.2.1 q1).2; omega; exact q1.2.2.2.2 m m0 m1 r.symm)) (fun y y1 y2 => ⟨z2 y (by omega), z3 y (by omega) (by omega) (hw1.2.2.2.2.1 y y1 y2)⟩), hI2.2⟩
  have f2 : ∀ v, v < 110 → v ≠ 20 → v ≠ 3 → sg u2 v = sg t v := fun v v1 v2 v3 => (z3 v (by omega) v2 (fun r => by rcases hX1.2.1 with q1 | q1; have := (hw1.2.2.2.2.2.1 q1).2; omega; have := q1.2.1; omega)).trans (s1 v (by omega))
  have f3 : ∀ y, y < nvC t → u2.2.1 y = t.2.1 y := fun y hy => (z2 y (by omega)).trans (d1 y hy)
  have ex : (sg t 20 1).toNat = x := by rw [← s1 20 (by omega), hX1.1.1.2.1.1]; exact Int.toNat_natCast x
  have exa : x' = xa := by have e1 := gA.2.1.1; have e2 := hX2.1.1.2.1.1; omega
  have f4 : ∀ y, 110 ≤ y → y < nvC t → y ≠ (sg t 20 1).toNat → sg u2 y = sg t y := fun y y1 y2 y3 => (z3 y (by omega) (by omega) (by omega)).trans (s1 y y2)
  have f5 : ∀ y, 110 ≤ y → y < nvC t → y ≠ (sg t 20 1).toNat → y ≠ x' := fun y y1 y2 y3 => by
    rcases g3a with ⟨q1, -⟩ | ⟨q1, -⟩ <;> omega
  refine wc_pop dX0_changes_18 ?_
  refine wc_aload_n dX0_changes_19 rfl ?_
  refine wc_getC dX0_changes_20 (kF0_259 rfl) rfl rfl ?_
  refine wc_call dX0_changes_23 rfl ((cc_size2 hX2.1.1)) (by omega) (hx_V (kV0_233 rfl) rfl rfl rfl rfl) ?_
  rintro _ _ ⟨rfl, rfl⟩
  refine wc_bipush dX0_changes_26 (by decide) ?_
  refine wc_icmp dX0_changes_28 (cB_le (show rng _ by omega) (show rng _ by omega)) 43 rfl (fun c28 => ?_) (fun c28 => ?_)
  ·
    refine wc_vreturn dX0_changes_43 rfl ?_
    refine ⟨rfl, hI3, ?_, ⟨by omega, ⟨by omega, by omega⟩, by omega⟩, f2, f3, f4⟩
    have hs8 : s ≠ 8 := by omega
    unfold chgR chgS
    rw [if_neg hs8, if_neg hs8]
    exact hX2.kp
  ·
    refine wc_aload_n dX0_changes_31 rfl ?_
    refine wc_getC dX0_changes_32 (kF0_259 rfl) rfl rfl ?_
    refine wc_iconst dX0_changes_35 ?_
    refine wc_call dX0_changes_36 rfl ((cc_remove0 hX2.1.1 ⟨by omega, by omega⟩ rfl)) (by omega) (hx_V (kV0_284 rfl) rfl rfl rfl rfl) ?_
    rintro _ _ ⟨rfl, hR⟩
    rename_i u3
    have hs8 : s = 8 := by omega
    subst hs8
    have hw2 := hX2.xw ⟨by omega, by omega⟩
    have hx2 := hw2.2.2.2.2.2.2 rfl
    have hX3 := hX2.rm ⟨by omega, by omega⟩ hR
    obtain ⟨-, -, ⟨y0, y1, y1'⟩, y2, y3⟩ := hR
    obtain ⟨fs, hfs⟩ := hX2.1.1.2.2.2 0 (by omega)
    have hcast : kd kap u3 (sg u2 x' 0).toNat = some (ckO 1 fs) := by
      unfold kd at *
      rw [y2]
      exact hfs
    have hI4 : SI w C u3 := ⟨hI3.1.fr3 y0 (by omega) (fun v v1 v2 => y3 v (by omega) (by omega)) (y3 18 (by decide) (by omega)) (fun y _ _ => y2 y) (fun m m0 m1 q => y3 _ (by have : 110 ≤ mnC u2 m := ((hI3.1.1.1.2.1 m m0 m1).1 q).1.1; omega) (fun r => hx2.2.2.2 m m0 m1 r.symm)) (fun y q1 q2 => ⟨y2 y, y3 y (by omega) (hw2.2.2.2.2.1 y q1 q2)⟩), hI3.2⟩
    refine wc_cast dX0_changes_39 (kX0_24 rfl) (Or.inr ⟨_, hcast⟩) ?_
    refine wc_astore_n dX0_changes_42 rfl ?_
    refine wc_vreturn dX0_changes_43 rfl ?_
    refine ⟨rfl, hI4, hX3.kp, ⟨by omega, ⟨by omega, by omega⟩, by omega⟩, fun v v1 v2 v3 => (y3 v v2 (by omega)).trans (f2 v v1 v2 v3), fun y hy => (y2 y).trans (f3 y hy), fun y q1 q2 q3 => (y3 y (by omega) (f5 y q1 q2 q3)).trans (f4 y q1 q2 q3)⟩
end CHG
