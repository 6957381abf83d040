/-! THE CLASS'S METHODS, 70: carriesOut, the whole -/
set_option maxRecDepth 100000
/-- the planner's own fields stay, but for some -/
def FrF (t u : CT) : Prop := (∀ j, j ≠ 1 → j ≠ 6 → j ≠ 7 → j ≠ 16 → j ≠ 17 → sg u 10 j = sg t 10 j) ∧ sg u 21 = sg t 21
/-- what carriesOut leaves -/
def CaR (w : Nat → Int) (C : Int) (L : OLs) (R : Nat → Nat → Int) (s : Nat) (t : CT) (v : Option AV) (u : CT) : Prop := ((¬ (exF L 0 w).1 = 0 ∧ some (.inl (-200 - (exF L 0 w).1)) = v ∧ NX w C R s (nvC t) u ∧ sg u 10 16 = (exF L 0 w).1 ∧ sg u 10 17 = (exF L 0 w).2.1) ∨ ((exF L 0 w).1 = 0 ∧ some (.inl (L.length : Int)) = v ∧ NX (exF L 0 w).2.2 (C + 200000) (chgR R s w) (chgS s) 100 u ∧ (exF L 0 w).2.2 11 = (exF L 0 w).2.2 0 ∧ sg u 10 16 = sg t 10 16 ∧ sg u 10 17 = sg t 10 17)) ∧ FrF t u ∧ nvC u ≤ nvC t + 27200 ∧ uC u ≤ uC t + 141000
section CAR3
variable {w w' w0 : Nat → Int} {R R' : Nat → Nat → Int} {τ t u t0 : CT} {m c v C A P p Y : Int} {i j k a b s x y z n N d xa ex la lx : Nat} {f e : Nat → Nat} {L : OLs} {E : Int × Int × (Nat → Int)}
theorem CmL.fzl (h : CmL y a xa L t) (hy : 1000 ≤ y ∧ n0C t ≤ y) (hlt : ∀ v k, kd kap t v = some k → v < nvC t) (hd : ∀ v, v < nvC t → u.2.1 v = t.2.1 v ∧ sg u v = sg t v) (hn : nvC t ≤ n0C u) (hL : L.length ≤ 100) : FzL a xa L u := by
  obtain ⟨⟨n, hA⟩, ⟨ha, hxa⟩, hC⟩ := h
  have han : a < nvC t := hlt _ _ hA.1.1
  have ka : t.2.1 a = some alK := by
    have := hA.1.1
    unfold kd at this
    rw [if_neg (by omega)] at this
    exact this
  refine ⟨⟨by omega, by omega, (hd a han).1.trans ka, by rw [(hd a han).2]; exact hA.2.1.1, by rw [(hd a han).2]; exact hA.2.1.2.1⟩, ?_, fun i hi => ?_⟩
  · rcases hA.2.2.1 with ⟨q1, q2, -⟩ | ⟨q1, q2, q3, q4⟩
    · left; have := hA.2.1.2.2.1; omega
    · rcases hxa with r | r
      · rw [r] at q2; cases q2
      · have hxn : xa < nvC t := hlt _ _ q2
        unfold kd at q2
        rw [if_neg (by omega)] at q2
        exact Or.inr ⟨by omega, by omega, n, (hd xa hxn).1.trans q2, hA.2.1.2.2.1, by have := hA.2.1.2.2.2.1; omega⟩
  · have hxn : xa < nvC t := by
      rcases hA.2.2.1 with ⟨q1, q2, g, q3⟩ | ⟨q1, q2, -⟩
      · have := hlt _ _ q3; omega
      · exact hlt _ _ q2
    rw [(hd xa hxn).2]
    have hc := hC i hi
    have hcn : (sg t xa i).toNat < nvC t := hlt _ _ (kd_dyn (T := kap) (by omega) hc.2.1)
    refine ⟨⟨by omega, by omega⟩, ?_⟩
    unfold CmC
    rw [(hd _ hcn).1, (hd _ hcn).2]
    exact hc.2
theorem NFl.fr (h : NFl w t) (hd : ∀ v, v < 110 → sg u v = sg t v) : NFl w u := by
  unfold NFl mnC tnC at *
  rw [hd 103 (by decide), hd 18 (by decide), hd 20 (by decide)]
  exact h
theorem ImI.ub (h : ImI t) (hz : ∀ y, 1000 ≤ y → y < n0C t → u.2.1 y = t.2.1 y ∧ sg u y = sg t y) (h10 : sg u 10 20 = sg t 10 20) : ImI (unb (n0C t) u) := by
  have e := h.e3 h10 hz
  unfold ImI at *
  rcases e with e | e
  · left; show sg u 10 20 = 0; rw [h10]; exact e
  · show sg u 10 20 = 0 ∨ (1000 ≤ (sg u 10 20).toNat ∧ (sg u 10 20).toNat + 6 ≤ n0C t ∧ ∀ m : Int, 0 ≤ m → m < 10 → ((sg u ((sg u 10 20).toNat + 3) m.toNat).toNat = 0 ∨ 1000 ≤ (sg u ((sg u 10 20).toNat + 3) m.toNat).toNat) ∧ (sg u ((sg u 10 20).toNat + 3) m.toNat).toNat < n0C t)
    rw [e, h10]
    exact h
theorem TnK.ub (h : TnK t) (hn : N ≤ n0C t) : TnK (unb N t) := by
  obtain ⟨nT, sT, ⟨⟨ta, tb⟩, t1, t6⟩, t7, t8⟩ := h
  have hwr : ∀ y, wrC t y → wrC (unb N t) y := fun y hy => ⟨hy.1, by
    rcases hy.2 with q | q
    · exact Or.inl q
    · right; show N ≤ y; omega⟩
  refine ⟨nT, sT, ⟨⟨ta, hwr _ tb⟩, t1, ?_⟩, t7, t8⟩
  rcases t6 with q | ⟨q1, q2, q3, q4⟩
  · exact Or.inl q
  · exact Or.inr ⟨q1, q2, hwr _ q3, q4⟩
theorem ALs.ub {xa ci : Nat} (h : ALs kap t a xa n s ci) (hn : N ≤ n0C t) : ALs kap (unb N t) a xa n s ci := by
  obtain ⟨⟨ka, wa⟩, e1, hxx, hel⟩ := h
  have hwr : ∀ y, wrC t y → wrC (unb N t) y := fun y hy => ⟨hy.1, by
    rcases hy.2 with q | q
    · exact Or.inl q
    · right; show N ≤ y; omega⟩
  refine ⟨⟨ka, hwr _ wa⟩, e1, ?_, hel⟩
  rcases hxx with q | ⟨q1, q2, q3, q4⟩
  · exact Or.inl q
  · exact Or.inr ⟨q1, q2, hwr _ q3, q4⟩
theorem WKn.st10 {i : Nat} {v : Int} (h : WKn N w t x ex) (hx : 1000 ≤ x) : WKn N w (stC t 10 i v) x ex := by
  have e : ∀ y, y ≠ 10 → sg (stC t 10 i v) y = sg t y := fun y hy => sg_st' hy
  obtain ⟨k, r5, kk, ⟨c1, c2, c3, c4, c5, c6⟩, hSh, hlt⟩ := h
  refine ⟨k, by rw [e x (by omega)]; exact r5, kk, ⟨by rw [e (x + 1) (by omega), e (x + 2) (by omega)]; exact c1, fun m m0 m1 => ?_, by rw [e (x + 5) (by omega)]; exact c3, by rw [e x (by omega)]; exact c4, by rw [e x (by omega)]; exact c5, by rw [e x (by omega)]; exact c6⟩, hSh.fr2 (e _ (by omega)) (fun y y1 _ => ⟨rfl, e y (by omega)⟩), by rw [e (x + 3) (by omega)]; exact hlt⟩
  rw [e (x + 3) (by omega)]
  refine ⟨fun q => ?_, (c2 m m0 m1).2⟩
  obtain ⟨p1, p2⟩ := (c2 m m0 m1).1 q
  refine ⟨p1, ?_⟩
  rw [e _ (by omega)]
  exact p2
theorem NoI.st10 {i : Nat} {v : Int} (h : NoI t y) (hi : ImI t) (hi2 : i ≠ 20) : NoI (stC t 10 i v) y := h.fr hi (by rw [sg_st, if_neg (Ne.symm hi2)]) (fun y y1 y2 => ⟨rfl, sg_st' (by omega)⟩)
theorem ImI.st10 {i : Nat} {v : Int} (hi : ImI t) (hi2 : i ≠ 20) : ImI (stC t 10 i v) := hi.fr rfl (by rw [sg_st, if_neg (Ne.symm hi2)]) (fun y y1 y2 => ⟨rfl, sg_st' (by omega)⟩)
theorem TnK.st10 {i : Nat} {v : Int} (h : TnK t) : TnK (stC t 10 i v) := h.of rfl (Nat.le_refl _) (sg_st' (by decide)) (fun _ _ _ => rfl)
theorem ALs.st10 {i xa ci : Nat} {v : Int} (h : ALs kap t a xa n s ci) (ha : a ≠ 10) (hxa : xa ≠ 10) : ALs kap (stC t 10 i v) a xa n s ci := h.fr (fun _ _ q => q) rfl (by rw [sg_st' ha]) (by rw [sg_st' ha]) (sg_st' hxa)
theorem cc_carriesOut (h : SI w C t) (hA : w 11 = w 0) (hN : NFl w t) (hK : Kp R s t) (hs : s ≤ 8) (h1 : (sg t 10 1).toNat = 100) (hCm : CmL y la lx L t) (hy : 1000 ≤ y ∧ n0C t ≤ y) (hk : OLk L) (hl : L.length ≤ 45) (hC : 300 ≤ C ∧ C + 300000 < 900000000) : Ct kapR 74 rX0_carriesOut [.inr 10, .inr la] t (CaR w C L R s t) := by
  intro d hd
  refine Wc.rp (fun ⟨hnv, hltR⟩ => ?_)
  have hlt : ∀ v k, kd kap t v = some k → v < nvC t := fun v k hk => by
    by_cases e : v = 10
    · omega
    · refine hltR v k ?_
      unfold kd kapR at *
      by_cases e2 : v < 110
      · rw [if_pos e2] at *; rw [if_neg e]; exact hk
      · rw [if_neg e2] at *; exact hk
  obtain ⟨xk, n, f, e, hX⟩ := hK
  have hF1 : FrS t (newC t woR 8 (fun _ => 0)) := newC_frs hnv
  have hI1 := h.frs hF1
  have kx1 : (newC t woR 8 (fun _ => 0)).2.1 (nvC t) = some woR := if_pos rfl
  have s10n : sg (newC t woR 8 (fun _ => 0)) 10 = sg t 10 := sg_new (by omega)
  have hcp := (cc_wCopy (T := kap) (x := nvC t) hI1.ws5 kx1 ⟨by omega, hnv.2, rfl⟩ hnv.1 ⟨by omega, by omega, by omega, by omega, by omega, by omega⟩).toR (by rw [s10n]; exact h1) (fun v u q => by rw [q.2.2.2.1 10 (by omega), s10n]; exact h1)
  refine wc_new dX0_carriesOut_0 (kN0_24 rfl) rfl ?_
  refine wc_dup dX0_carriesOut_3 ?_
  refine wc_aload_n dX0_carriesOut_4 rfl ?_
  refine wc_getR (y := 100) dX0_carriesOut_5 (kF0_19 rfl) rfl rfl (by rw [sg_new (show 10 ≠ nvC t by omega)]; exact h1) ?_
  refine wc_call dX0_carriesOut_8 rfl (hcp) (by omega) (hx_I (kI0_281 rfl) rfl (kd_nw (by omega)) rfl rfl) ?_
  rintro _ _ ⟨rfl, hW⟩
  rename_i u1
  refine wc_astore_n dX0_carriesOut_11 rfl ?_
  refine wc_iconst dX0_carriesOut_12 ?_
  refine wc_istore_n dX0_carriesOut_13 rfl ?_
  obtain ⟨⟨a1, ⟨a2, a2'⟩, a3⟩, a4, a5, a6⟩ := hW
  have s1 : ∀ y, y < nvC t → sg u1 y = sg t y := fun y hy => (a5 y hy).trans (sg_new (by omega))
  have d1 : ∀ y, y < nvC t → u1.2.1 y = t.2.1 y := fun y hy => (a4 y (Nat.lt_succ_of_lt hy)).trans (if_neg (Nat.ne_of_lt hy))
  have hF2 : FrS t u1 := ⟨⟨a1, by omega⟩, fun v hv => s1 v (by omega), fun j _ _ => congrFun (s1 10 (by omega)) j, fun y y1 y2 => ⟨d1 y y2, fun _ => s1 y y2⟩, s1 18 (by omega), fun y y1 y2 => ⟨d1 y (by omega), s1 y (by omega)⟩⟩
  have hI2 := h.frs hF2
  have hX1 := hX.frw hF2.toW hlt
  have b0 : n0C u1 = n0C t := a1
  have b1 : uC u1 ≤ uC t + 339 := a3
  have hN1 : NFl w u1 := hN.fr (fun v hv => s1 v (by omega))
  have hnu : n0C u1 ≤ nvC u1 := by omega
  have hI3 := hI2.bm hN1 hnu
  have hX3 := hX1.bm (w := w) hN1 hnu
  have hii1 : ImI u1 := hX1.2.2.2.2.1
  have hL1 : FzL la lx L (bmp u1) := hCm.fzl hy hlt (fun v hv => ⟨d1 v hv, s1 v hv⟩) (by show nvC t ≤ nvC u1; omega) (by omega)
  have h11 : (sg u1 10 1).toNat = 100 := by rw [s1 10 (by omega)]; exact h1
  refine Wc.bmp (cc_car_14 (t0 := bmp u1) (x := nvC t) (ex := nvC u1) (N := nvC t) (R := R) (s := s) (xa := xk) (n := n) (f := f) (e := e) (w0 := w) (L := L) (E := exF L 0 w) hX3 hs (a6.bm hnu) ⟨Nat.le_refl _, a2, Nat.le_refl _, by omega⟩ (fun v v1 v2 => show NoI u1 v from NoI.mk hii1 (by omega)) hX3.2.2.2.2.1 hL1 hk hl hC (by omega) L.length 0 w (bmp u1) _ (by omega) (by rw [show C + 4100 * ((0 : Nat) : Int) = C by omega]; exact hI3) hA h11 hX3 ⟨⟨rfl, Nat.le_refl _⟩, fun _ _ _ => rfl, rfl⟩ ⟨rfl, fun _ _ _ => ⟨rfl, rfl⟩⟩ ⟨by omega, by omega⟩ rfl) (fun v u2 hq hz => ?_)
  rcases v with v | v
  · have z0 : n0C u2 = nvC u1 := hz.1
    have z1 : ∀ v, 1000 ≤ v → v < nvC u1 → u2.2.1 v = u1.2.1 v ∧ sg u2 v = sg u1 v := hz.2
    have zt : ∀ v, 1000 ≤ v → v < n0C t → u2.2.1 v = t.2.1 v ∧ sg u2 v = sg t v := fun v v1 v2 => ⟨(z1 v v1 (by omega)).1.trans (d1 v (by omega)), (z1 v v1 (by omega)).2.trans (s1 v (by omega))⟩
    rw [b0]
    have hiit : ImI t := hX.2.2.2.2.1
    rcases hq with ⟨q1, q2, tr, wr, g1, g2, g3, g4, g5, g6, g7⟩ | ⟨q1, q2, q3, q4, q5, q6, q7, q8⟩
    · subst g5
      have hn0r : n0C tr = nvC u1 := g4.1
      have hnvr : nvC u1 ≤ nvC tr := g3.1.2
      have W2 : WK w tr (nvC t) (nvC u1) := (a6.bm hnu).fz ⟨by omega, a2, Nat.le_refl _⟩ g4 (by omega)
      have f10 : ∀ j, j ≠ 6 → j ≠ 7 → sg tr 10 j = sg t 10 j := fun j j1 j2 => (g3.2.1 j j1 j2).trans (congrFun (s1 10 (by omega)) j)
      have hiir : ImI tr := g2.2.2.2.2.1
      have hiit2 : ImI (unb (n0C t) tr) := hiit.ub (fun v v1 v2 => ⟨(g4.2 v v1 (by show v < nvC u1; omega)).1.trans (d1 v (by omega)), (g4.2 v v1 (by show v < nvC u1; omega)).2.trans (s1 v (by omega))⟩) (f10 20 (by decide) (by decide))
      have hxk : xk ≠ 10 := by
        have := (g2.xw ⟨by omega, by omega⟩)
        rcases g2.2.1 with r | r
        · have := (this.2.2.2.2.2.1 r).2; omega
        · have := r.2.1; omega
      have e3 : ∀ v, v ≠ 10 → sg (stC (stC (stC tr 10 1 ((nvC t : Nat) : Int)) 10 16 (exF L 0 w).1) 10 17 (exF L 0 w).2.1) v = sg tr v := fun v hv => by rw [sg_st' hv, sg_st' hv, sg_st' hv]
      have g6' : nvC tr ≤ nvC u1 + 27100 := g6
      have g7' : uC tr ≤ uC u1 + 140000 := g7
      refine ⟨Or.inl ⟨q1, q2, NX.wo (xa := xk) (n := n) (f := f) (e := e) (y := nvC u1) ?_ ⟨by omega, a2, hnvr⟩ ?_ ⟨h.2.1, h.2.2.1, h.2.2.2.1, h.2.2.2.2⟩ ?_ ?_ ?_ (fun r hr => ?_) g2.2.2.2.1 ?_ (fun r v hr v1 v2 => ?_) (fun v v1 v2 => ?_), ?_, ?_⟩, ⟨fun j j1 j6 j7 j16 j17 => ?_, ?_⟩, ?_, ?_⟩
      · exact ((((W2.toN.up (show n0C tr ≤ nvC tr by omega)).st10 (by omega)).st10 (by omega)).st10 (by omega))
      · show (sg (stC (stC (stC tr 10 1 ((nvC t : Nat) : Int)) 10 16 (exF L 0 w).1) 10 17 (exF L 0 w).2.1) 10 1).toNat = nvC t
        rw [sg_st, if_neg (by decide), sg_st, if_neg (by decide), sg_st, if_pos rfl, Int.toNat_natCast]
      · exact (g1.1.2.1.st10.st10.st10).ub (by show n0C t ≤ n0C tr; omega)
      · exact (((g2.1.1.st10 (by decide) hxk).st10 (by decide) hxk).st10 (by decide) hxk).ub (by show n0C t ≤ n0C tr; omega)
      · rcases g2.2.1 with r | ⟨r1, r2, r3, r4, r5⟩
        · exact Or.inl r
        · refine Or.inr ⟨r1, r2, by show xk < nvC tr; omega, ?_⟩
          show xk ≠ (sg (stC (stC (stC tr 10 1 ((nvC t : Nat) : Int)) 10 16 (exF L 0 w).1) 10 17 (exF L 0 w).2.1) 18 1).toNat
          rw [e3 18 (by decide)]
          exact r4
      · obtain ⟨r1, r2, r3, r4, r5, r6⟩ := g2.2.2.1 r hr
        refine ⟨⟨?_, ?_, r3, r4, by show e r ≤ nvC tr; omega, r5⟩, fun v v1 v2 => ⟨(r6 v v1 v2).1, ?_⟩⟩
        · show sg (stC (stC (stC tr 10 1 ((nvC t : Nat) : Int)) 10 16 (exF L 0 w).1) 10 17 (exF L 0 w).2.1) xk r = _
          rw [e3 xk hxk]; exact r1
        · exact ((((r2.toN.up (show n0C tr ≤ nvC tr by omega)).st10 r4).st10 r4).st10 r4)
        · show v ≠ (sg (stC (stC (stC tr 10 1 ((nvC t : Nat) : Int)) 10 16 (exF L 0 w).1) 10 17 (exF L 0 w).2.1) 18 1).toNat
          rw [e3 18 (by decide)]
          exact (r6 v v1 v2).2.1
      · exact ((hiit2.st10 (by decide)).st10 (by decide)).st10 (i := 17) (by decide)
      · have h9 : NoI tr v := g2.2.2.2.2.2 r v hr v1 v2
        exact ((h9.st10 hiir (i := 1) (by decide)).st10 (hiir.st10 (by decide)) (i := 16) (by decide)).st10 ((hiir.st10 (by decide)).st10 (by decide)) (i := 17) (by decide)
      · exact NoI.mk (((hiit2.st10 (by decide)).st10 (by decide)).st10 (i := 17) (by decide)) (by show n0C t ≤ v; omega)
      · show sg (stC (stC (stC tr 10 1 ((nvC t : Nat) : Int)) 10 16 (exF L 0 w).1) 10 17 (exF L 0 w).2.1) 10 16 = _
        rw [sg_st, if_neg (by decide), sg_st, if_pos rfl]
      · show sg (stC (stC (stC tr 10 1 ((nvC t : Nat) : Int)) 10 16 (exF L 0 w).1) 10 17 (exF L 0 w).2.1) 10 17 = _
        rw [sg_st, if_pos rfl]
      · show sg (stC (stC (stC tr 10 1 ((nvC t : Nat) : Int)) 10 16 (exF L 0 w).1) 10 17 (exF L 0 w).2.1) 10 j = _
        rw [sg_st, if_neg j17, sg_st, if_neg j16, sg_st, if_neg j1]
        exact f10 j j6 j7
      · show sg (stC (stC (stC tr 10 1 ((nvC t : Nat) : Int)) 10 16 (exF L 0 w).1) 10 17 (exF L 0 w).2.1) 21 = _
        rw [e3 21 (by decide)]
        exact g3.2.2.trans (s1 21 (by omega))
      · show nvC tr ≤ _; omega
      · show uC tr ≤ _; omega
    · have f10 : ∀ j, j ≠ 6 → j ≠ 7 → sg u2 10 j = sg t 10 j := fun j j1 j2 => (q6.2.1 j j1 j2).trans (congrFun (s1 10 (by omega)) j)
      have hnv2 : nvC u1 ≤ nvC u2 := q6.1.2
      have q7' : nvC u2 ≤ nvC u1 + 27100 := q7
      have q8' : uC u2 ≤ uC u1 + 140000 := q8
      refine ⟨Or.inr ⟨q1, q2, NX.ub (q3.toW (by omega)) q5 (by rw [f10 1 (by decide) (by decide)]; exact h1) (hiit.ub zt (f10 20 (by decide) (by decide))) ⟨hnv.1, by omega, by omega⟩, q4, f10 16 (by decide) (by decide), f10 17 (by decide) (by decide)⟩, ⟨fun j _ j6 j7 _ _ => f10 j j6 j7, ?_⟩, ?_, ?_⟩
      · exact q6.2.2.trans (s1 21 (by omega))
      · show nvC u2 ≤ _; omega
      · show uC u2 ≤ _; omega
  · exact hq.elim
end CAR3
