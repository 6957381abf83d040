/-! THE CLASS'S METHODS, 69: carriesOut -/
set_option maxRecDepth 100000
/-- what carriesOut leaves, from the state t0 where all is frozen; the copy stands at x -/
def CaQ (w0 : Nat → Int) (C : Int) (L : OLs) (E : Int × Int × (Nat → Int)) (R : Nat → Nat → Int) (s N xa n : Nat) (f e : Nat → Nat) (x ex : Nat) (t0 : CT) (v : Option AV) (u : CT) : Prop :=
  (¬ E.1 = 0 ∧ some (.inl (-200 - E.1)) = v ∧ ∃ tr wr, SI wr (C + 200000) tr ∧ KpX R s N xa n f e tr ∧ FrV t0 tr ∧ Fz t0 tr ∧ u = stC (stC (stC tr 10 1 ((x : Nat) : Int)) 10 16 E.1) 10 17 E.2.1 ∧ nvC u ≤ nvC t0 + 27100 ∧ uC u ≤ uC t0 + 140000) ∨
  (E.1 = 0 ∧ some (.inl (L.length : Int)) = v ∧ SI E.2.2 (C + 200000) u ∧ E.2.2 11 = E.2.2 0 ∧ Kp (chgR R s w0) (chgS s) u ∧ FrV t0 u ∧ nvC u ≤ nvC t0 + 27100 ∧ uC u ≤ uC t0 + 140000)
section CAR2
variable {w w' w0 : Nat → Int} {R R' : Nat → Nat → Int} {τ t u t0 : CT} {m c v C A P p Y : Int} {i j k a b s x y z n N d xa ex la lx : Nat} {f e : Nat → Nat} {L : OLs} {E : Int × Int × (Nat → Int)}
theorem fz_tr (h : Fz τ t) (g : Fz t u) : Fz τ u := ⟨g.1.trans h.1, fun v v1 v2 => by
  have a := h.2 v v1 v2
  have b := g.2 v v1 (by rw [h.1]; exact v2)
  exact ⟨b.1.trans a.1, b.2.trans a.2⟩⟩
theorem fz_st {i : Nat} {v : Int} : Fz t (stC t 10 i v) := ⟨rfl, fun y y1 _ => ⟨rfl, sg_st' (by omega)⟩⟩
theorem refF_nn (w : Nat → Int) (l a b : Int) : 0 ≤ refF w l a b ∧ refF w l a b ≤ 6 := by
  unfold refF
  repeat' split
  all_goals omega
/-- the end of a good run: the copy is put into the list -/
theorem cc_car_80 (hI : SI w' C t) (hA : w' 11 = w' 0) (h1 : (sg t 10 1).toNat = 100) (hX : KpX R s N xa n f e t) (hs : s ≤ 8) (hW : WK w0 t x ex) (hx : N ≤ x ∧ x + 6 ≤ ex ∧ ex ≤ n0C t ∧ 1000 ≤ x) (hno : ∀ v, x ≤ v → v < ex → NoI t v) (hL : FzL la lx L t) (hl : L.length ≤ 45) {o3 o4 : Option AV} (hd : 6 ≤ d) : Wc kapR d rX0_carriesOut 80 [some (.inr 10), some (.inr la), some (.inr x), o3, o4] [] t (nQ (fun v u => some (.inl (L.length : Int)) = v ∧ SI w' C u ∧ Kp (chgR R s w0) (chgS s) u ∧ FrV t u ∧ nvC u ≤ nvC t + 1 ∧ uC u ≤ uC t + 26)) := by
  refine Wc.rp (fun ⟨hnv, hlt⟩ => ?_)
  have kw : kd kap t x = some woR := kd_dyn (by omega) hW.1
  have kwR : ∀ t' : CT, t'.2.1 x = some woR → kd kapR t' x = some woR := fun t' q => kd_dyn (by omega) q
  have hwr : ∀ v, x ≤ v → v < ex → ¬ wrC t v := fun v v1 v2 q => by have := q.2; omega
  have hadd := (Ct.fz (cc_add (y := x) hX.1.1 (by omega) rfl ⟨_, kw⟩)).toR h1 (fun v u q => by
    obtain ⟨⟨-, q2⟩, q3⟩ := q
    obtain ⟨x', f', e', g1, g2, g3, g4⟩ := keep_end hX hW ⟨hx.1, hx.2.1, by omega, hx.2.2.2⟩ hno hI hs hnv hwr q2
    rw [g4]; exact h1)
  refine wc_aload_n dX0_carriesOut_80 rfl ?_
  refine wc_getC dX0_carriesOut_81 (kF0_259 rfl) rfl rfl ?_
  refine wc_aload_n dX0_carriesOut_84 rfl ?_
  refine wc_call dX0_carriesOut_85 rfl (hadd) (by omega) (hx_V (kV0_232 rfl) rfl rfl rfl rfl) ?_
  rintro _ _ ⟨⟨rfl, g⟩, gz⟩
  rename_i u1
  obtain ⟨x', f', e', hX2, hI2, hV2, h102⟩ := keep_end hX hW ⟨hx.1, hx.2.1, by omega, hx.2.2.2⟩ hno hI hs hnv hwr g
  have h12 : (sg u1 10 1).toNat = 100 := by rw [h102]; exact h1
  have hL2 := hL.fz gz
  obtain ⟨-, -, -, -, -, -, ⟨z0, ⟨z1, z1'⟩, -⟩, zu⟩ := g
  refine Wc.rp (fun ⟨hnv2, hlt2⟩ => ?_)
  refine wc_pop dX0_carriesOut_88 ?_
  refine wc_aload_n dX0_carriesOut_89 rfl ?_
  refine wc_getC dX0_carriesOut_90 (kF0_259 rfl) rfl rfl ?_
  refine wc_call dX0_carriesOut_93 rfl ((cc_size2 hX2.1.1).toR h12 (fun v u q => by rw [← q.2]; exact h12)) (by omega) (hx_V (kV0_233 rfl) rfl rfl rfl rfl) ?_
  rintro _ _ ⟨rfl, rfl⟩
  refine wc_bipush dX0_carriesOut_96 (by decide) ?_
  refine wc_icmp dX0_carriesOut_98 (cB_le (show rng _ by omega) (by omega)) 113 rfl (fun c98 => ?_) (fun c98 => ?_)
  ·
    refine wc_aload_n dX0_carriesOut_113 rfl ?_
    refine wc_call dX0_carriesOut_114 rfl (cc_sizeF hL2) (by omega) (hx_V (kV0_233 rfl) rfl (kd_dyn (by have := hL2.1.1; omega) hL2.1.2.2.1) rfl rfl) ?_
    rintro _ _ ⟨rfl, rfl⟩
    refine wc_ireturn dX0_carriesOut_117 rfl ?_
    refine ⟨rfl, hI2, ?_, hV2, by omega, by omega⟩
    have hs8 : s ≠ 8 := by omega
    unfold chgR chgS
    rw [if_neg hs8, if_neg hs8]
    exact hX2.kp
  ·
    refine wc_aload_n dX0_carriesOut_101 rfl ?_
    have hs8 : s = 8 := by omega
    subst hs8
    have hrm := (Ct.fz (cc_remove0 hX2.1.1 ⟨by omega, by omega⟩ rfl)).toR h12 (fun v u q => by
      obtain ⟨⟨-, q2⟩, q3⟩ := q
      rw [(keep_rm hX2 hI2 hnv2 q2).2.2.2]; exact h12)
    refine wc_getC dX0_carriesOut_102 (kF0_259 rfl) rfl rfl ?_
    refine wc_iconst dX0_carriesOut_105 ?_
    refine wc_call dX0_carriesOut_106 rfl (hrm) (by omega) (hx_V (kV0_284 rfl) rfl rfl rfl rfl) ?_
    rintro _ _ ⟨⟨rfl, g6⟩, gz6⟩
    rename_i u2
    obtain ⟨hX3, hI3, hV3, h103⟩ := keep_rm hX2 hI2 hnv2 g6
    have hL3 := hL2.fz gz6
    obtain ⟨-, -, ⟨y0, y1, y1'⟩, y2, y3⟩ := g6
    obtain ⟨fs, hfs⟩ := hX2.1.1.2.2.2 0 (by omega)
    have hcast : kd kapR u2 (sg u1 x' 0).toNat = some (ckO 1 fs) := by
      have hge : 110 ≤ (sg u1 x' 0).toNat := by have := hX2.2.2.1 0 (by omega); rw [this.1, Int.toNat_natCast]; omega
      unfold kd at *
      rw [if_neg (by omega)] at *
      rw [y2]
      exact hfs
    refine wc_cast dX0_carriesOut_109 (kX0_24 rfl) (Or.inr ⟨_, hcast⟩) ?_
    refine wc_astore_n dX0_carriesOut_112 rfl ?_
    refine wc_aload_n dX0_carriesOut_113 rfl ?_
    refine wc_call dX0_carriesOut_114 rfl (cc_sizeF hL3) (by omega) (hx_V (kV0_233 rfl) rfl (kd_dyn (by have := hL3.1.1; omega) hL3.1.2.2.1) rfl rfl) ?_
    rintro _ _ ⟨rfl, rfl⟩
    refine wc_ireturn dX0_carriesOut_117 rfl ?_
    exact ⟨rfl, hI3, hX3.kp, hV2.tr hV3, by omega, by omega⟩
/-- the orders are in order -/
def OLk (L : OLs) : Prop := ∀ i, i < L.length → ordL (L.getD i (0, 0, 0)).1 ∧ (0 ≤ (L.getD i (0, 0, 0)).2.1 ∧ (L.getD i (0, 0, 0)).2.1 ≤ 99) ∧ (0 ≤ (L.getD i (0, 0, 0)).2.2 ∧ (L.getD i (0, 0, 0)).2.2 ≤ 99)
theorem cc_car_14 (hX0 : KpX R s N xa n f e t0) (hs : s ≤ 8) (hW : WK w0 t0 x ex) (hx : N ≤ x ∧ x + 6 ≤ ex ∧ ex ≤ n0C t0 ∧ 1000 ≤ x) (hno : ∀ v, x ≤ v → v < ex → NoI t0 v) (hii : ImI t0) (hL : FzL la lx L t0) (hk : OLk L) (hl : L.length ≤ 45) (hC : 300 ≤ C ∧ C + 300000 < 900000000) (hd : 73 ≤ d) : ∀ (k i : Nat) (w : Nat → Int) (t : CT) (o4 : Option AV), i + k = L.length → SI w (C + 4100 * i) t → w 11 = w 0 → (sg t 10 1).toNat = 100 → KpX R s N xa n f e t → FrV t0 t → Fz t0 t → (nvC t ≤ nvC t0 + 600 * i ∧ uC t ≤ uC t0 + 3000 * i) → exF (L.drop i) i w = E → Wc kapR d rX0_carriesOut 14 [some (.inr 10), some (.inr la), some (.inr x), some (.inl (i : Int)), o4] [] t (nQ (CaQ w0 C L E R s N xa n f e x ex t0)) := by
  intro k
  induction k with
  | zero =>
    intro i w t o4 hi hI hA h1 hX hV hz hb hE
    refine Wc.rp (fun ⟨hnv, hlt⟩ => ?_)
    have hL2 := hL.fz hz
    have kla : kd kapR t la = some alK := kd_dyn (by have := hL2.1.1; omega) hL2.1.2.2.1
    have eE : E = (0, (i : Int), w) := by rw [← hE, List.drop_of_length_le (by omega)]; rfl
    have e1020 : sg t 10 20 = sg t0 10 20 := hV.2.1 20 (by decide) (by decide)
    have hW2 := hW.fz ⟨hx.2.2.2, hx.2.1, hx.2.2.1⟩ hz hnv.2
    refine wc_iload_n dX0_carriesOut_14 rfl ?_
    refine wc_aload_n dX0_carriesOut_15 rfl ?_
    refine wc_call dX0_carriesOut_16 rfl (cc_sizeF hL2) (by omega) (hx_V (kV0_233 rfl) rfl kla rfl rfl) ?_
    rintro _ _ ⟨rfl, rfl⟩
    refine wc_icmp dX0_carriesOut_19 (cB_ge (show rng _ by omega) (show rng _ by omega)) 80 rfl (fun c19 => ?_) (fun c19 => ?_)
    ·
      refine (cc_car_80 hI hA h1 hX hs hW2 ⟨hx.1, hx.2.1, by rw [hz.1]; exact hx.2.2.1, hx.2.2.2⟩ (fun v v1 v2 => (hno v v1 v2).fr hii e1020 hz.2) hL2 hl (by omega)).mn (fun v u q => Or.inr ?_)
      obtain ⟨q1, q2, q3, q4, q5, q6⟩ := q
      rw [eE]
      exact ⟨rfl, q1, q2.mono (by omega), hA, q3, hV.tr q4, by omega, by omega⟩
    ·
      omega
  | succ k ih =>
    intro i w t o4 hi hI hA h1 hX hV hz hb hE
    refine Wc.rp (fun ⟨hnv, hlt⟩ => ?_)
    have hL2 := hL.fz hz
    have kla : kd kapR t la = some alK := kd_dyn (by have := hL2.1.1; omega) hL2.1.2.2.1
    have hil : i < L.length := by omega
    have hc := hL2.2.2 i hil
    have hki := hk i hil
    have hdrop : L.drop i = L.getD i (0, 0, 0) :: L.drop (i + 1) := by
      rw [List.drop_eq_getElem_cons hil]
      congr 1
      rw [List.getD, List.getElem?_eq_getElem hil]
      rfl
    rw [hdrop] at hE
    generalize L.getD i (0, 0, 0) = q at hc hki hE
    have kc : kd kapR t (sg t lx i).toNat = some cmK := kd_dyn (by omega) hc.2.1
    have hag := (cc_against hI hA hc.2 (by omega) hki.1 hki.2.1 hki.2.2 ⟨by omega, by omega⟩).toR h1 (fun v u r => by rw [← r.2]; exact h1)
    have hrf := refF_nn w q.1 q.2.1 q.2.2
    have hE1 : ¬ refF w q.1 q.2.1 q.2.2 = 0 → E = (refF w q.1 q.2.1 q.2.2, (i : Int), w) := fun r => by rw [← hE]; unfold exF; rw [if_neg r]
    have hE2 : refF w q.1 q.2.1 q.2.2 = 0 → exF (L.drop (i + 1)) ((i : Int) + 1) (carF w q.1 q.2.1 q.2.2) = E := fun r => by rw [← hE]; conv => rhs; unfold exF; rw [if_pos r]
    refine wc_iload_n dX0_carriesOut_14 rfl ?_
    refine wc_aload_n dX0_carriesOut_15 rfl ?_
    refine wc_call dX0_carriesOut_16 rfl (cc_sizeF hL2) (by omega) (hx_V (kV0_233 rfl) rfl kla rfl rfl) ?_
    rintro _ _ ⟨rfl, rfl⟩
    refine wc_icmp dX0_carriesOut_19 (cB_ge (show rng _ by omega) (show rng _ by omega)) 80 rfl (fun c19 => ?_) (fun c19 => ?_)
    ·
      omega
    ·
      refine wc_aload_n dX0_carriesOut_22 rfl ?_
      refine wc_iload_n dX0_carriesOut_23 rfl ?_
      refine wc_call dX0_carriesOut_24 rfl (cc_getF hL2 ⟨by omega, by omega⟩ (by omega)) (by omega) (hx_V (kV0_234 rfl) rfl kla rfl rfl) ?_
      rintro _ _ ⟨rfl, rfl⟩
      rw [Int.toNat_natCast]
      refine wc_cast dX0_carriesOut_27 (kX0_352 rfl) (Or.inr ⟨_, kc⟩) ?_
      refine wc_call dX0_carriesOut_30 rfl (hag) (by omega) (hx_V (kV0_354 rfl) rfl kc rfl rfl) ?_
      rintro _ _ ⟨rfl, rfl⟩
      refine wc_istore dX0_carriesOut_33 rfl ?_
      refine wc_iload dX0_carriesOut_35 rfl ?_
      refine wc_if dX0_carriesOut_37 (cB_le (show rng _ by omega) ⟨by omega, by omega⟩) 63 rfl (fun c37 => ?_) (fun c37 => ?_)
      ·
        refine wc_aload_n dX0_carriesOut_63 rfl ?_
        refine wc_iload_n dX0_carriesOut_64 rfl ?_
        refine wc_call dX0_carriesOut_65 rfl (cc_getF hL2 ⟨by omega, by omega⟩ (by omega)) (by omega) (hx_V (kV0_234 rfl) rfl kla rfl rfl) ?_
        rintro _ _ ⟨rfl, rfl⟩
        rw [Int.toNat_natCast]
        refine wc_cast dX0_carriesOut_68 (kX0_352 rfl) (Or.inr ⟨_, kc⟩) ?_
        have hdo := (Ct.fz (cc_does hI hA hc.2 (by omega) hki.1 hki.2.1 hki.2.2 ⟨by omega, by omega⟩ (by omega))).toR h1 (fun v u r => by rw [r.1.2.2.2.2.1.2.1 1 (by decide) (by decide)]; exact h1)
        refine wc_call dX0_carriesOut_71 rfl (hdo) (by omega) (hx_V (kV0_357 rfl) rfl kc rfl rfl) ?_
        rintro _ _ ⟨⟨rfl, g1, g2, g3, g4, g5⟩, gz⟩
        rename_i u1
        refine wc_iinc dX0_carriesOut_74 rfl ?_
        refine wc_goto dX0_carriesOut_77 14 rfl ?_
        have e1 : ((i : Int) + 1) = ((i + 1 : Nat) : Int) := by omega
        have hE3 := hE2 (by omega)
        rw [e1] at hE3
        rw [e1]
        refine ih (i + 1) (carF w q.1 q.2.1 q.2.2) u1 _ (by omega) ?_ g2 (by rw [g4.2.1 1 (by decide) (by decide)]; exact h1) (g3 _ _ _ _ _ _ _ hX) (hV.tr g4) (fz_tr hz gz) ⟨by omega, by omega⟩ hE3
        rw [show C + 4100 * ((i + 1 : Nat) : Int) = C + 4100 * (i : Int) + 4100 by omega]
        exact g1
      ·
        refine wc_aload_n dX0_carriesOut_40 rfl ?_
        refine wc_aload_n dX0_carriesOut_41 rfl ?_
        refine wc_putR dX0_carriesOut_42 (kF0_19 rfl) rfl rfl rfl ⟨by decide, Or.inl (by decide)⟩ rfl ?_
        refine wc_aload_n dX0_carriesOut_45 rfl ?_
        refine wc_iload dX0_carriesOut_46 rfl ?_
        refine wc_putI dX0_carriesOut_48 (kF0_269 rfl) rfl rfl rfl ⟨by decide, Or.inl (by decide)⟩ (Or.inl rfl) ?_
        refine wc_aload_n dX0_carriesOut_51 rfl ?_
        refine wc_iload_n dX0_carriesOut_52 rfl ?_
        refine wc_putI dX0_carriesOut_53 (kF0_272 rfl) rfl rfl rfl ⟨by decide, Or.inl (by decide)⟩ (Or.inl rfl) ?_
        refine wc_sipush dX0_carriesOut_56 (by decide) ?_
        refine wc_iload dX0_carriesOut_59 rfl ?_
        refine wc_isub dX0_carriesOut_61 ?_
        refine wc_ireturn dX0_carriesOut_62 rfl ?_
        have hE3 := hE1 (by omega)
        refine Or.inl ⟨by rw [hE3]; show ¬ refF w q.1 q.2.1 q.2.2 = 0; omega, by rw [hE3], t, w, hI.mono (by omega), hX, hV, hz, by rw [hE3], by show nvC t ≤ _; omega, by show uC t ≤ _; omega⟩
end CAR2
