/-! THE CLASS'S METHODS, 64: shape, the call -/
set_option maxRecDepth 100000
section SHP4
/-- a planner's int field changed -/
theorem ShNA.fr2 {w : Nat → Int} {τ t : CT} {a N : Nat} (h : ShNA N τ a w) (ha : sg t a = sg τ a) (g : ∀ y, 1000 ≤ y → y < N → t.2.1 y = τ.2.1 y ∧ sg t y = sg τ y) : ShNA N t a w := fun s s0 s1 => by
  rw [ha]
  refine ⟨fun q => ?_, (h s s0 s1).2⟩
  obtain ⟨⟨h1, h2, h3⟩, h4, ⟨h5, h6, h7⟩, ⟨h8, h9, h10⟩, h11⟩ := (h s s0 s1).1 q
  have a1 := g _ h1 h2
  have b := g _ h5 h6
  have c := g _ h8 h9
  unfold ShN
  rw [a1.1, a1.2, b.1, c.1, b.2, c.2]
  exact ⟨⟨h1, h2, h3⟩, h4, ⟨h5, h6, h7⟩, ⟨h8, h9, h10⟩, h11⟩
theorem Wd.st10 {w : Nat → Int} {t : CT} {i : Nat} {v : Int} (h : Wd w t) : Wd w (stC t 10 i v) := by
  have e : ∀ y, y ≠ 10 → sg (stC t 10 i v) y = sg t y := fun y hy => sg_st' hy
  obtain ⟨⟨c1, c2, c3, c4, c5, c6⟩, c7⟩ := h
  refine ⟨⟨by rw [e 101 (by decide), e 102 (by decide)]; exact c1, fun m m0 m1 => ?_, by rw [e 105 (by decide)]; exact c3, by rw [e 100 (by decide)]; exact ⟨c4, c5, c6⟩⟩, fun m q m0 m1 => ?_⟩
  · rw [e 103 (by decide)]
    refine ⟨fun q => ?_, (c2 m m0 m1).2⟩
    obtain ⟨p1, p2⟩ := (c2 m m0 m1).1 q
    refine ⟨p1, ?_⟩
    rw [e _ (by omega)]
    exact p2
  · have := c7 m q m0 m1
    unfold mnC at *
    rw [e 103 (by decide)]
    exact this
theorem SIw.st10 {w : Nat → Int} {C : Int} {t : CT} {i : Nat} {v : Int} (h : SIw w C t) : SIw w C (stC t 10 i v) :=
  ⟨⟨h.1.1.st10, h.1.2.1.of rfl (Nat.le_refl _) (sg_st' (by decide)) (fun _ _ _ => rfl), h.1.2.2.fr2 (sg_st' (by decide)) (fun y y1 _ => ⟨rfl, sg_st' (by omega)⟩)⟩, h.2⟩
theorem Kp.st10 {R : Nat → Nat → Int} {s : Nat} {t : CT} {i : Nat} {v : Int} (h : Kp R s t) (hi : i ≠ 20) (hlt : ∀ y k, kd kap t y = some k → y < nvC t) : Kp R s (stC t 10 i v) := by
  obtain ⟨x, n, f, e, h⟩ := h
  exact (h.fr (t := stC t 10 i v) rfl (Nat.le_refl _) (sg_st' (by decide)) (fun y y1 y2 => ⟨rfl, fun _ _ => sg_st' (by omega)⟩) (Or.inl (by unfold tnC; rw [sg_st' (by decide)])) (fun m _ _ => Or.inl (by unfold mnC; rw [sg_st' (by decide)])) (fun y y1 y2 => ⟨rfl, sg_st' (by omega)⟩) hlt (by rw [sg_st, if_neg (Ne.symm hi)])).kp
variable {w w' : Nat → Int} {R R' : Nat → Nat → Int} {τ t u : CT} {m c v C x f e A P p Y : Int} {i j k a b s z y q n N d : Nat} {r S : Nat → Int}
theorem cc_shape (h : SI w C t) (hcd : CRD w) (hK : Kp R s t) (hs : s ≤ 8) (hC : 300 ≤ C ∧ C < 1999999000) (hx : rng x) (hT : 0 ≤ sg t 10 14 ∧ sg t 10 14 ≤ 60) (ht : ∀ i, 0 ≤ sg t 21 i ∧ sg t 21 i ≤ 127) (S : Nat → Int) : Ct kap 7 rX0_shape [.inr 10, .inl x] t (fun v u => ((¬ (0 ≤ x ∧ x ≤ 2) ∧ some (.inl (-1)) = v ∧ t = u) ∨ ((0 ≤ x ∧ x ≤ 2) ∧ ((0 ≤ (rd0F (sg t 21) (sg t 10 14) S).1 ∧ some (.inl (-100 - (rd0F (sg t 21) (sg t 10 14) S).1)) = v ∧ FltP t u) ∨
    ((rd0F (sg t 21) (sg t 10 14) S).1 = -1 ∧ some (.inl ((rd0F (sg t 21) (sg t 10 14) S).2 0)) = v ∧ SIw (shpW w x (rd0F (sg t 21) (sg t 10 14) S).2) C u ∧ 0 ≤ (rd0F (sg t 21) (sg t 10 14) S).2 1 ∧ Kp (chgR R s w) (chgS s) u ∧ FrT t u)))) ∧ nvC u ≤ nvC t + 30 ∧ uC u ≤ uC t + 500) := by
  intro d hd
  refine Wc.rp (fun ⟨hnv, hlt⟩ => ?_)
  have hE : RdS (rd0F (sg t 21) (sg t 10 14) S).2 := rd0F_S _ _ _
  have hEr : -1 ≤ (rd0F (sg t 21) (sg t 10 14) S).1 ∧ (rd0F (sg t 21) (sg t 10 14) S).1 ≤ 300 := rdF_rng hT 100 0 0 0 _ (by omega) (by omega)
  have hne : (rd0F (sg t 21) (sg t 10 14) S).1 ≠ -1 → 0 ≤ (rd0F (sg t 21) (sg t 10 14) S).1 := fun q => by omega
  have hF0 : FrE t (newC t rdK 6 (fun _ => 0)) := FrE.new
  have hI := cc_rdInit (t := newC t rdK 6 (fun _ => 0)) (y := nvC t) (s := S) (if_pos rfl) ⟨by omega, hnv.2, rfl⟩ sg_nw
  refine wc_iload_n dX0_shape_0 rfl ?_
  refine wc_iconst dX0_shape_1 ?_
  refine wc_iconst dX0_shape_2 ?_
  refine wc_call dX0_shape_3 rfl (cc_in hx (by omega) (by omega)) (by omega) (hx_S (kS0_3 rfl) (kSn0_3 rfl) rfl rfl) ?_
  rintro _ _ ⟨rfl, ⟨h3, rfl⟩ | ⟨h3, rfl⟩⟩
  ·
    refine wc_ifT dX0_shape_6 (by decide) 11 rfl ?_
    refine wc_new dX0_shape_11 (kN0_329 rfl) rfl ?_
    refine wc_dup dX0_shape_14 ?_
    refine wc_aload_n dX0_shape_15 rfl ?_
    refine wc_call dX0_shape_16 rfl (hI) (by omega) (hx_I (kI0_331 rfl) rfl (kd_nw (by omega)) rfl rfl) ?_
    rintro _ _ ⟨rfl, hD, g1, g2, g3⟩
    rename_i u1
    have gF : FrD (nvC t) t u1 := ⟨⟨g1.1.1, by omega⟩, fun v hv => (g1.2.1 v (Nat.lt_succ_of_lt hv)).trans (hF0.2.2 v hv).1, fun v hv => (g1.2.2 v hv).trans (hF0.2.2 v hv).2⟩
    have e10 : sg u1 10 = sg t 10 := gF.2.2 10 (by omega)
    have e21 : sg u1 21 = sg t 21 := gF.2.2 21 (by omega)
    have gu : uC u1 = uC t + 26 := g3
    have cR := cc_rshape (τ := u1) (y := nvC t) (r := updW (updW S 0 0) 1 (-1)) (by rw [e10]; exact hT) (by rw [e21]; exact ht) ⟨by show 0 ≤ (0 : Int) ∧ (0 : Int) ≤ 10; omega, by show (-1 : Int) ≤ -1 ∧ (-1 : Int) < 10; omega⟩ (by show (-1 : Int) < 0; omega) hD
    rw [e21, e10] at cR
    have cR : CtX kap 5 rX5_shape [.inr (nvC t)] u1 (SHQ (nvC t) u1 (rd0F (sg t 21) (sg t 10 14) S)) := cR
    refine wc_callX dX0_shape_19 rfl (cR) (by omega) (hx_V (kV0_332 rfl) rfl hD.ky rfl rfl) ?_ ?_
    rotate_left
    ·
      rintro q u (⟨q', hq, hP, hT2⟩ | ⟨z, hq, -⟩)
      · cases hq
        refine Or.inr ⟨49, rfl, (cc_shape_49 (t := t) hT2.1 (gF.tr hT2.2.1) (by omega) ⟨hEr.1, by omega⟩).mn (fun v u' g => ?_)⟩
        have gb := hT2.2.2
        exact ⟨Or.inr ⟨h3, Or.inl ⟨hP, g.1, g.2.1⟩⟩, by omega, by omega⟩
      · cases hq
    rintro _ _ q
    rename_i u2
    rcases q with ⟨q, hq, -⟩ | ⟨z, hq, z1, z2, z3, z4, z5, z6, z7, z8⟩
    · cases hq
    cases hq
    have gF2 : FrD (nvC t) t u2 := gF.tr z6
    have gn0 := gF2.1.1
    have hFs := gF2.frs rfl hnv
    have hI2 := h.frs hFs
    have hK2 := hK.frw hFs.toW hlt
    have kz : kd kap u2 z = some shK := kd_dyn (by omega) z5.1
    refine Wc.rp (fun ⟨hnv2, hlt2⟩ => ?_)
    refine wc_astore_n dX0_shape_22 rfl ?_
    refine wc_aload_n dX0_shape_23 rfl ?_
    refine wc_call dX0_shape_24 rfl (cc_changes hI2 hK2 hs) (by omega) (hx_V (kV0_295 rfl) rfl rfl rfl rfl) ?_
    rintro _ _ ⟨rfl, hI3, hK3, hG⟩
    rename_i u3
    obtain ⟨xl, nl, fl, el, hX2⟩ := hK2
    have hxl : (sg u2 20 1).toNat = xl := by rw [hX2.1.1.2.1.1]; exact Int.toNat_natCast xl
    have hD3 : ∀ v, v < nvC u2 → u3.2.1 v = u2.2.1 v := hG.2.2.1
    have hne1 : ∀ v k, 1000 ≤ v → kd kap u2 v = some k → k ≠ ckR 0 10 → v ≠ (sg u2 20 1).toNat := fun v k hv hk hk2 r => by
      rw [hxl] at r
      rcases hX2.1.1.2.2.1 with ⟨q1, -⟩ | ⟨q0, q2, -⟩
      · omega
      · have hn10 : nl = 10 := by rcases hX2.2.1 with q | q; omega; exact q.1
        subst r
        rw [hk, hn10] at q2
        exact hk2 (Option.some.inj q2)
    have z5' : ShR (rd0F (sg t 21) (sg t 10 14) S).2 z u3 := by
      obtain ⟨d1, d2, ⟨d5, d6⟩, d7⟩ := z5
      have s0 : sg u3 z = sg u2 z := hG.2.2.2 z (by omega) (by omega) (hne1 z _ (by omega) (kd_dyn (by omega) d1) (by intro q; cases q))
      have s1 : sg u3 (z + 1) = sg u2 (z + 1) := hG.2.2.2 (z + 1) (by omega) (by omega) (hne1 _ _ (by omega) (kd_dyn (by omega) d5) (by intro q; cases q))
      have s2 : sg u3 (z + 2) = sg u2 (z + 2) := hG.2.2.2 (z + 2) (by omega) (by omega) (hne1 _ _ (by omega) (kd_dyn (by omega) d6) (by intro q; cases q))
      unfold ShR
      rw [hD3 z (by omega), hD3 (z + 1) (by omega), hD3 (z + 2) (by omega), s0, s1, s2]
      exact ⟨d1, d2, ⟨d5, d6⟩, d7⟩
    have kz3 : kd kap u3 z = some shK := kd_dyn (by omega) z5'.1
    have e10' : sg u3 10 = sg u2 10 := hG.2.1 10 (by decide) (by decide) (by decide)
    have e21' : sg u3 21 = sg u2 21 := hG.2.1 21 (by decide) (by decide) (by decide)
    have hG1 := hG.1
    have hI4 := hI3.shp h3 hE z3 hC.1 hcd (by omega) ⟨by omega, by omega⟩ (by omega) z5'
    have hz0 : (sg (stC u3 104 x.toNat ((z : Nat) : Int)) z 0).toNat = z + 1 := by rw [sg_st' (by omega), z5'.2.1.1]; exact Int.toNat_natCast _
    refine Wc.rp (fun ⟨hnv3, hlt3⟩ => ?_)
    refine wc_aload_n dX0_shape_27 rfl ?_
    refine wc_getC dX0_shape_28 (kF0_19 rfl) rfl rfl ?_
    refine wc_getC dX0_shape_31 (kF0_59 rfl) rfl rfl ?_
    refine wc_iload_n dX0_shape_34 rfl ?_
    refine wc_aload_n dX0_shape_35 rfl ?_
    refine wc_aastore dX0_shape_36 rfl rfl ⟨by decide, Or.inl (by decide)⟩ rfl ⟨by omega, by omega⟩ (Or.inr ⟨7, _, kz3, rfl⟩) _ rfl ?_
    refine wc_aload_n dX0_shape_37 rfl ?_
    refine wc_call dX0_shape_38 rfl (cc_size (t := stC u3 104 x.toNat ((z : Nat) : Int)) kz3 hz0 (kd_dyn (by omega) z5'.2.2.1.1)) (by omega) (hx_V (kV0_66 rfl) rfl kz3 rfl rfl) ?_
    rintro _ _ ⟨rfl, rfl⟩
    refine wc_istore_n dX0_shape_41 rfl ?_
    refine wc_aload_n dX0_shape_42 rfl ?_
    refine wc_iconst dX0_shape_43 ?_
    refine wc_putI dX0_shape_44 (kF0_322 rfl) rfl rfl rfl ⟨by decide, Or.inl (by decide)⟩ (Or.inl rfl) ?_
    refine wc_iload_n dX0_shape_47 rfl ?_
    refine wc_ireturn dX0_shape_48 rfl ?_
    refine ⟨Or.inr ⟨h3, Or.inr ⟨z1, ?_, ?_, z3, ?_, ⟨⟨?_, ?_⟩, fun j j1 j2 => ?_, ?_⟩⟩⟩, ?_, ?_⟩
    · rw [Int.toNat_of_nonneg hE.1.1.1]
    · exact hI4.st10
    · exact (hK3.st (q := 104) (u := stC u3 104 x.toNat ((z : Nat) : Int)) (by decide) rfl rfl (fun v hv => sg_st' hv) hlt3).st10 (by decide) hlt3
    · show n0C u3 = n0C t; omega
    · show nvC t ≤ nvC u3; omega
    · rw [sg_st, sg_st' (by decide), e10', gF2.2.2 10 (by omega)]
    · rw [sg_st' (by decide), sg_st' (by decide), e21', gF2.2.2 21 (by omega)]
    · show nvC u3 ≤ _; omega
    · show uC u3 ≤ _; omega
  ·
    refine wc_ifF dX0_shape_6 (by decide) 11 rfl ?_
    refine wc_iconst dX0_shape_9 ?_
    refine wc_ireturn dX0_shape_10 rfl ?_
    exact ⟨Or.inl ⟨h3, rfl, rfl⟩, by omega, by omega⟩
end SHP4
