/-! NORMAL FORM: what stands in it -/
set_option maxRecDepth 100000
section NRM4
variable {w : Nat → Int} {C : Int} {R : Nat → Nat → Int} {s x : Nat} {u : CT} {E : CE} {h : MH}
theorem nrm (hR : Rep kapR E u h) (hX : NX w C R s x u) : ∃ (ρ ι : Nat → Nat), Rep kap ((E.1.1, E.1.2.1, (fun v => E.rf (ρ v)), E.1.2.2.2), E.2.1, (nvC u, nrD u ρ, sg (nrC u ρ ι))) (nrC u ρ ι) h ∧ (∀ v, v < 60 → ρ v = v) ∧ SI w C (nrC u ρ ι) ∧ Kp R s (nrC u ρ ι) ∧ NFl w (nrC u ρ ι) ∧ ((∀ j, rsl plK j = false → sg (nrC u ρ ι) 10 j = sg u 10 j) ∧ sg (nrC u ρ ι) 10 20 = sg u 10 20 ∧ sg (nrC u ρ ι) 21 = sg u 21) ∧ (∀ (Ri : Nat → Int) (ie : Nat), sg u 10 20 ≠ 0 → WK Ri u (sg u 10 20).toNat ie → (sg u 10 20).toNat + 6 ≤ ie → ie ≤ n0C u → WK Ri (nrC u ρ ι) (sg u 10 20).toNat ie) := by
  obtain ⟨hWX, hW, hSh, ⟨hI, hWS, hSH, hbd⟩, ⟨nT, sT, ⟨⟨ta, tb⟩, ⟨t1, t2, t3, t4, t5⟩, t6⟩, t7, t8⟩, xa, n, f, e, ⟨hA, hxa⟩, hr, hrr, ⟨hii, hno⟩, hmi, hti, hki, hxi⟩ := hX
  have hnv : 1000 ≤ n0C u ∧ n0C u ≤ nvC u := hR.2.1
  have h0 : w 0 ≤ 10 := hI.1.2
  obtain ⟨⟨ka, wa⟩, ⟨e1, e2, e3, e4, e5⟩, hxx, hel⟩ := hA
  have hT : nT = 10 → 110 ≤ tnC u ∧ tnC u < nvC u ∧ u.2.1 (tnC u) = some (ckR 0 10) := fun q => by
    have h8 := t8 q
    refine ⟨h8.1, h8.2, ?_⟩
    rcases t6 with ⟨-, q1, -⟩ | ⟨-, q2, -⟩
    · omega
    · unfold kd at q2
      rw [if_neg (by omega), q] at q2
      exact q2
  have hK : n = 10 → 110 ≤ xa ∧ xa < nvC u ∧ u.2.1 xa = some (ckR 0 10) := fun q => by
    rcases hxa with r | ⟨-, r2, r3, r4⟩
    · omega
    · refine ⟨r2, r3, ?_⟩
      rcases hxx with ⟨-, q1, -⟩ | ⟨-, q2, -⟩
      · omega
      · unfold kd at q2
        rw [if_neg (by omega), q] at q2
        exact q2
  have hnv1 : 1000 ≤ nvC u := by omega
  have haI : ∀ i j, i < 18 → j < 18 → aF i = aF j → i = j := fun i j hi hj q => by
    unfold aF at q
    split at q <;> split at q <;> omega
  obtain ⟨ρ, ι, p1, p2, p3, p4⟩ := perm_ex 18 aF (bF w u x xa nT n) haI (bF_inj hWX hW h0 hT hK hnv1 (fun q => by
    rcases hxa with r | r
    · omega
    · exact r.2.2.2))
  have hP : PmX w u x xa nT n ρ ι := ⟨p1, p2, p3, p4⟩
  have hb := bF_r (xa := xa) (nT := nT) (n := n) hWX hW h0 hT hK hnv1
  have hbk := bF_k (xa := xa) (nT := nT) (n := n) hWX hW h0 hT hK hnv1
  have hx100 : 100 ≤ x := by rcases hWX.2 with q | q <;> omega
  have hk6 := wx_kd hWX
  have hlo : ∀ v, v < 60 → ρ v = v := fun v hv => hP.lo (fun i hi => (hb i hi).1) (Or.inl hv)
  have hι : ∀ v, ρ v = v → ι v = v := fun v hv => hP.iot hv
  have h00 : ρ 0 = 0 := hlo 0 (by decide)
  have hι0 : ι 0 = 0 := hι 0 h00
  -- a name from 1000 on that is no source stays
  have hfix : ∀ v, 1000 ≤ v → (x = 100 ∨ v < x ∨ x + 6 ≤ v) → (∀ m : Int, isM w m → 0 ≤ m → m < 10 → v ≠ mxC u x m) → (nT = 10 → v ≠ tnC u) → (n = 10 → v ≠ xa) → ρ v = v := fun v hv v1 v2 v3 v4 => p4 v (fun i hi => by
    have ha := aF_r i hi
    refine ⟨by omega, ?_⟩
    rcases hbk i hi with ⟨i1, i2⟩ | ⟨i0, i1, i2, i3, i4⟩ | ⟨i1, i2, i3⟩ | ⟨i1, i2, i3⟩ | ⟨i1, i2, -⟩
    · rw [i2]; omega
    · rw [i3]; exact v2 _ i2 (by omega) (by omega)
    · rw [i3]; exact v3 i2
    · rw [i3]; exact v4 i2
    · rw [i2]; omega)
  -- shapes stay
  have hshF : ∀ (M : Nat) (w1 : Nat → Int) (a : Int) (z : Nat), ShN M u w1 a z → ShF ρ z := fun M w1 a z hz => by
    obtain ⟨⟨g1, g2, g3⟩, ⟨g4, g5, g6⟩, ⟨g7, g8, g9⟩, ⟨g10, g11, g12⟩, -⟩ := hz
    rw [g5, Int.toNat_natCast] at g7 g8 g9
    rw [g6, Int.toNat_natCast] at g10 g11 g12
    have kz := kd_dyn (T := kapR) (τ := u) (y := z) (by omega) g3
    have kz1 := kd_dyn (T := kapR) (τ := u) (y := z + 1) (by omega) g9
    have kz2 := kd_dyn (T := kapR) (τ := u) (y := z + 2) (by omega) g12
    have hmk : ∀ v k, kd kapR u v = some k → k ≠ memK → ∀ m : Int, isM w m → 0 ≤ m → m < 10 → v ≠ mxC u x m := fun v k hk hne m hm _ _ q => by
      have := (mx_cel hW hm h0).kd (T := kapR)
      rw [← q, hk] at this
      exact hne (Option.some.inj this)
    have htk : ∀ v k, kd kapR u v = some k → k ≠ ckR 0 10 → nT = 10 → v ≠ tnC u := fun v k hk hne q r => by
      have := kd_dyn (T := kapR) (hT q).1 (hT q).2.2
      rw [← r, hk] at this
      exact hne (Option.some.inj this)
    have hkk : ∀ v k, kd kapR u v = some k → k ≠ ckR 0 10 → n = 10 → v ≠ xa := fun v k hk hne q r => by
      have := kd_dyn (T := kapR) (hK q).1 (hK q).2.2
      rw [← r, hk] at this
      exact hne (Option.some.inj this)
    have hxw : x = 100 ∨ (z < x ∨ x + 6 ≤ z) ∧ (z + 1 < x ∨ x + 6 ≤ z + 1) ∧ (z + 2 < x ∨ x + 6 ≤ z + 2) := by
      rcases hWX.2 with q | ⟨q1, q2, w0, -, w1, w2, w3, w4, w5⟩
      · exact Or.inl q
      · right
        have hz0 : z < x ∨ x + 6 ≤ z := by
          refine Classical.byContradiction (fun r => ?_)
          rcases (show z = x ∨ z = x + 1 ∨ z = x + 2 ∨ z = x + 3 ∨ z = x + 4 ∨ z = x + 5 by omega) with r | r | r | r | r | r <;> rw [r] at g3
          · rw [w0] at g3; cases g3
          · rw [w1] at g3; cases g3
          · rw [w2] at g3; cases g3
          · rw [w3] at g3; cases g3
          · rw [w4] at g3; cases g3
          · rw [w5] at g3; cases g3
        refine ⟨hz0, ?_, ?_⟩
        · refine Classical.byContradiction (fun r => ?_)
          have r : z + 1 = x := by omega
          rw [r, w0] at g9; cases g9
        · refine Classical.byContradiction (fun r => ?_)
          rcases (show z + 2 = x ∨ z + 2 = x + 1 by omega) with r | r <;> rw [r] at g12
          · rw [w0] at g12; cases g12
          · rw [w1] at g12; cases g12
    refine ⟨hfix z g1 (by omega) (hmk z _ kz (by intro q; cases q)) (htk z _ kz (by intro q; cases q)) (hkk z _ kz (by intro q; cases q)), hfix (z + 1) (by omega) (by omega) (hmk _ _ kz1 (by intro q; cases q)) (htk _ _ kz1 (by intro q; cases q)) (hkk _ _ kz1 (by intro q; cases q)), hfix (z + 2) (by omega) (by omega) (hmk _ _ kz2 (by intro q; cases q)) (htk _ _ kz2 (by intro q; cases q)) (hkk _ _ kz2 (by intro q; cases q))⟩
  have hx6 : ∀ i, i < 6 → ρ (100 + i) = x + i := fun i hi => by
    have := p3 i (by omega)
    unfold aF bF at this
    rw [if_pos hi, if_pos hi] at this
    exact this
  have hrep := nrm_rep hR hWX hW h0 hT hK hP
  -- contents of the lower names
  have hsL : ∀ v k, kap v = some k → v < 110 → sg (nrC u ρ ι) v = pmS ι k (sg u (ρ v)) := fun v k hk hv => sg_nr (by unfold nrK; rw [if_pos hv]; exact hk)
  have s10 : sg (nrC u ρ ι) 10 = pmS ι plK (sg u 10) := by rw [hsL 10 plK rfl (by decide), hlo 10 (by decide)]
  have s100 : sg (nrC u ρ ι) 100 = pmS ι woK (sg u x) := by rw [hsL 100 woK rfl (by decide), show (100 : Nat) = 100 + 0 from rfl, hx6 0 (by decide)]; rfl
  have s101 : sg (nrC u ρ ι) 101 = sg u (x + 1) := by rw [hsL 101 (ckI 1 120) rfl (by decide), show (101 : Nat) = 100 + 1 from rfl, hx6 1 (by decide), pmS_ints]
  have s102 : sg (nrC u ρ ι) 102 = sg u (x + 2) := by rw [hsL 102 (ckI 0 120) rfl (by decide), show (102 : Nat) = 100 + 2 from rfl, hx6 2 (by decide), pmS_ints]
  have s103 : ∀ i, sg (nrC u ρ ι) 103 i = pmV ι (sg u (x + 3) i) := fun i => by rw [hsL 103 (ckR 1 10) rfl (by decide), show (103 : Nat) = 100 + 3 from rfl, hx6 3 (by decide), pmS_r rfl]
  have s104 : ∀ i, sg (nrC u ρ ι) 104 i = pmV ι (sg u (x + 4) i) := fun i => by rw [hsL 104 (ckR 2 3) rfl (by decide), show (104 : Nat) = 100 + 4 from rfl, hx6 4 (by decide), pmS_r rfl]
  have s105 : sg (nrC u ρ ι) 105 = sg u (x + 5) := by rw [hsL 105 (ckI 0 8) rfl (by decide), show (105 : Nat) = 100 + 5 from rfl, hx6 5 (by decide), pmS_ints]
  have s18 : sg (nrC u ρ ι) 18 = pmS ι alK (sg u 18) := by rw [hsL 18 alK rfl (by decide), hlo 18 (by decide)]
  have s20 : sg (nrC u ρ ι) 20 = pmS ι alK (sg u 20) := by rw [hsL 20 alK rfl (by decide), hlo 20 (by decide)]
  have s21 : sg (nrC u ρ ι) 21 = sg u 21 := by rw [hsL 21 (ckI 2 60) rfl (by decide), hlo 21 (by decide), pmS_ints]
  -- members
  have hmem : ∀ m : Int, isM w m → 0 ≤ m → m < 10 → (nrC u ρ ι).2.1 (110 + m.toNat) = some memK ∧ sg (nrC u ρ ι) (110 + m.toNat) = sg u (mxC u x m) ∧ (sg (nrC u ρ ι) 103 m.toNat).toNat = 110 + m.toNat := fun m hm m0 m1 => by
    have hi : 6 + m.toNat < 18 := by omega
    have ha : ρ (110 + m.toNat) = mxC u x m := by
      have := p3 (6 + m.toNat) hi
      unfold aF bF at this
      rw [if_neg (by omega), if_neg (by omega), if_pos (by omega), show ((6 + m.toNat : Nat) : Int) - 6 = m by omega, if_pos hm, show 104 + (6 + m.toNat) = 110 + m.toNat by omega] at this
      exact this
    have hc := (mx_cel hW hm h0).kd (T := kapR)
    have hD : (nrC u ρ ι).2.1 (110 + m.toNat) = some memK := by
      show nrD u ρ (110 + m.toNat) = _
      unfold nrD
      rw [if_pos (by omega), ha]
      exact hc
    refine ⟨hD, ?_, ?_⟩
    · rw [sg_nr (k := memK) (by unfold nrK; rw [if_neg (by omega)]; exact hD), ha, pmS_mem]
    · rw [s103, pmV_n]
      have := congrArg ι ha
      rw [p2] at this
      exact this.symm
  have hnom : ∀ m : Int, ¬ isM w m → 0 ≤ m → m < 10 → sg (nrC u ρ ι) 103 m.toNat = 0 := fun m hm m0 m1 => by
    rw [s103, (hW.2.1 m m0 m1).2 hm]
    exact pmV_id hι0
  have e103 : ∀ m : Int, mnC (nrC u ρ ι) m = (sg (nrC u ρ ι) 103 m.toNat).toNat := fun m => rfl
  -- turns
  have htn : (nT = 10 → tnC (nrC u ρ ι) = 120) ∧ (nT = 0 → tnC (nrC u ρ ι) = 3) := by
    have e : tnC (nrC u ρ ι) = ι (tnC u) := by unfold tnC; rw [s18, pmS_r rfl, pmV_n]
    refine ⟨fun q => ?_, fun q => ?_⟩
    · rw [e]
      have ha : ρ 120 = tnC u := by
        have := p3 16 (by decide)
        unfold aF bF at this
        rw [if_neg (by decide), if_neg (by decide), if_neg (by decide), if_pos rfl, if_pos q] at this
        exact this
      have := congrArg ι ha
      rw [p2] at this
      exact this.symm
    · rw [e]
      have : tnC u = 3 := by
        rcases t6 with ⟨q1, -⟩ | ⟨q1, -⟩
        · exact q1
        · omega
      rw [this]
      exact hι 3 (hlo 3 (by decide))
  have hD120 : nT = 10 → (nrC u ρ ι).2.1 120 = some (ckR 0 10) := fun q => by
    show nrD u ρ 120 = _
    unfold nrD
    have ha : ρ 120 = tnC u := by
      have := p3 16 (by decide)
      unfold aF bF at this
      rw [if_neg (by decide), if_neg (by decide), if_neg (by decide), if_pos rfl, if_pos q] at this
      exact this
    rw [if_pos (by decide), ha]
    exact kd_dyn (hT q).1 (hT q).2.2
  have hTn : TnK (nrC u ρ ι) := by
    have i2 : sg (nrC u ρ ι) 18 2 = sg u 18 2 := by rw [s18, pmS_i rfl]
    have i1 : sg (nrC u ρ ι) 18 1 = ((tnC (nrC u ρ ι) : Nat) : Int) := by
      have : 0 ≤ sg (nrC u ρ ι) 18 1 := by
        rw [s18, pmS_r rfl]
        unfold pmV
        split
        · rw [t1]; omega
        · omega
      show _ = (((sg (nrC u ρ ι) 18 1).toNat : Nat) : Int)
      omega
    refine ⟨nT, sT, ⟨⟨rfl, by decide, Or.inl (by decide)⟩, ⟨i1, by rw [i2]; exact t2, t3, t4, t5⟩, ?_⟩, t7, fun q => ?_⟩
    · rcases t7 with q | q
      · exact Or.inl ⟨htn.2 q, q, _, rfl⟩
      · rw [htn.1 q]
        exact Or.inr ⟨by omega, kd_dyn (by decide) (by rw [hD120 q, q]), ⟨by decide, Or.inl (by decide)⟩, by decide⟩
    · rw [htn.1 q]; exact ⟨by decide, by show 120 < nvC u; omega⟩
  -- the kept list
  have hxa' : ∃ xa', sg (nrC u ρ ι) 20 1 = ((xa' : Nat) : Int) ∧ (n = 10 → xa' = 121) ∧ (n = 0 → xa' = 3) := by
    refine ⟨(sg (nrC u ρ ι) 20 1).toNat, ?_, fun q => ?_, fun q => ?_⟩
    · have : 0 ≤ sg (nrC u ρ ι) 20 1 := by
        rw [s20, pmS_r rfl]
        unfold pmV
        split
        · rw [e1]; omega
        · omega
      omega
    · rw [s20, pmS_r rfl, pmV_n, e1, Int.toNat_natCast]
      have ha : ρ 121 = xa := by
        have := p3 17 (by decide)
        unfold aF bF at this
        rw [if_neg (by decide), if_neg (by decide), if_neg (by decide), if_neg (by decide), if_pos q] at this
        exact this
      have := congrArg ι ha
      rw [p2] at this
      exact this.symm
    · rw [s20, pmS_r rfl, pmV_n, e1, Int.toNat_natCast]
      have : xa = 3 := by
        rcases hxx with ⟨q1, -⟩ | ⟨q1, -⟩
        · exact q1
        · omega
      rw [this]
      exact hι 3 (hlo 3 (by decide))
  obtain ⟨xa', x1, x2, x3⟩ := hxa'
  have h121 : n = 10 → (nrC u ρ ι).2.1 121 = some (ckR 0 10) ∧ ∀ i, sg (nrC u ρ ι) 121 i = pmV ι (sg u xa i) := fun q => by
    have ha : ρ 121 = xa := by
      have := p3 17 (by decide)
      unfold aF bF at this
      rw [if_neg (by decide), if_neg (by decide), if_neg (by decide), if_neg (by decide), if_pos q] at this
      exact this
    have hD : nrD u ρ 121 = some (ckR 0 10) := by
      unfold nrD
      rw [if_pos (by decide), ha]
      exact kd_dyn (hK q).1 (hK q).2.2
    refine ⟨hD, fun i => ?_⟩
    rw [sg_nr (k := ckR 0 10) (by unfold nrK; rw [if_neg (by decide)]; exact hD), ha, pmS_r rfl]
  have hfixK : ∀ r y, r < s → f r ≤ y → y < e r → ρ y = y := fun r y hr0 y1 y2 => by
    have h9 := hr r hr0
    have h8 := h9.2 y y1 y2
    exact hfix y (by omega) h8.2.2.2 h8.2.2.1 (fun _ => h8.2.1) (fun _ => h8.1)
  have hWKr : ∀ r, r < s → WK (R r) (nrC u ρ ι) (f r) (e r) := fun r hr0 => by
    obtain ⟨⟨r1, r2, r3, r4, r5⟩, -⟩ := hr r hr0
    exact r2.nr ⟨r4, r3, r5⟩ (Nat.le_refl _) (fun j hj => hfixK r _ hr0 (by omega) (by omega)) (fun m m0 m1 q => by
      have := r2.2.2.2.2.2 m m0 m1 q
      exact hfixK r _ hr0 (by omega) (by omega)) (fun z _ ⟨a, _, _, hz⟩ => hshF _ _ _ _ hz) hι h00
  have hW' : WC (nrC u ρ ι) 100 101 102 103 105 w := by
    obtain ⟨c1, c2, c3, c4, c5, c6⟩ := hW
    refine ⟨by rw [s101, s102]; exact c1, fun m m0 m1 => ⟨fun q => ?_, fun q => hnom m q m0 m1⟩, by rw [s105]; exact c3, by rw [s100, pmS_i rfl]; exact c4, by rw [s100, pmS_i rfl]; exact c5, by rw [s100, pmS_i rfl]; exact c6⟩
    obtain ⟨g1, g2, g3⟩ := hmem m q m0 m1
    rw [g3]
    refine ⟨⟨by omega, by show 110 + m.toNat < nvC u; omega, g1⟩, ?_⟩
    rw [g2]
    exact ((c2 m m0 m1).1 q).2
  have hSh' : ShA (nrC u ρ ι) 104 w := fun a a0 a1 => by
    have hA := hSh a a0 a1
    rw [s104]
    by_cases q : 0 < sltF w a
    · have hz := hA.1 q
      have hF := hshF _ _ _ _ hz
      rw [pmV_id (hι _ hF.1)]
      exact ⟨fun _ => ShN.nr (M := nvC u) hz (Nat.le_refl _) hF hι, hA.2⟩
    · rw [hA.2 q, pmV_id hι0]
      exact ⟨fun q' => absurd q' q, fun _ => rfl⟩
  -- the snapshot
  have hNo : ∀ b, NoI u b → sg u 10 20 ≠ 0 → (b < (sg u 10 20).toNat ∨ (sg u 10 20).toNat + 6 ≤ b) ∧ ∀ m : Int, 0 ≤ m → m < 10 → b ≠ (sg u ((sg u 10 20).toNat + 3) m.toNat).toNat := fun b hb hz => by
    rcases hb with q | q
    · exact absurd q hz
    · exact q
  have hIm : sg u 10 20 ≠ 0 → ∀ y, 1000 ≤ y → ((∃ j, j < 6 ∧ y = (sg u 10 20).toNat + j) ∨ ∃ m : Int, (0 ≤ m ∧ m < 10) ∧ y = (sg u ((sg u 10 20).toNat + 3) m.toNat).toNat) → ρ y = y := fun hz y hy hv => by
    have hne : ∀ b, NoI u b → y ≠ b := fun b hb q => by
      have := hNo b hb hz
      rcases hv with ⟨j, j1, j2⟩ | ⟨m, hm, j2⟩
      · omega
      · exact this.2 m hm.1 hm.2 (q ▸ j2)
    refine hfix y hy ?_ (fun m q m0 m1 => hne _ (hmi m q m0 m1)) (fun q => hne _ (hti (hT q).1)) (fun q => hne _ (hki q))
    rcases hxi with q | q
    · exact Or.inl q
    · right
      refine Classical.byContradiction (fun r => ?_)
      exact hne _ (q (y - x) (by omega)) (by omega)
  have him : sg u 10 20 ≠ 0 → 1000 ≤ (sg u 10 20).toNat ∧ (sg u 10 20).toNat + 6 ≤ n0C u := fun hz => by
    rcases hii with q | q
    · exact absurd q hz
    · exact ⟨q.1, q.2.1⟩
  have s1020 : sg (nrC u ρ ι) 10 20 = sg u 10 20 := by
    rw [s10, pmS_r rfl]
    by_cases hz : sg u 10 20 = 0
    · rw [hz]; exact pmV_id hι0
    · exact pmV_id (hι _ (hIm hz _ (him hz).1 (Or.inl ⟨0, by decide, rfl⟩)))
  have hi3 : sg u 10 20 ≠ 0 → ∀ i, (sg (nrC u ρ ι) ((sg u 10 20).toNat + 3) i).toNat = ι (sg u ((sg u 10 20).toNat + 3) i).toNat ∨ (sg (nrC u ρ ι) ((sg u 10 20).toNat + 3) i).toNat = (sg u ((sg u 10 20).toNat + 3) i).toNat := fun hz i => by
    have hρ : ρ ((sg u 10 20).toNat + 3) = (sg u 10 20).toNat + 3 := hIm hz _ (by have := him hz; omega) (Or.inl ⟨3, by decide, rfl⟩)
    cases hk : nrK u ρ ((sg u 10 20).toNat + 3) with
    | none =>
      right
      have : sg (nrC u ρ ι) ((sg u 10 20).toNat + 3) = sg u (ρ ((sg u 10 20).toNat + 3)) := by
        show (match nrK u ρ ((sg u 10 20).toNat + 3) with
          | some k => pmS ι k (sg u (ρ ((sg u 10 20).toNat + 3)))
          | none => sg u (ρ ((sg u 10 20).toNat + 3))) = _
        rw [hk]
      rw [this, hρ]
    | some k =>
      rw [sg_nr hk, hρ]
      unfold pmS
      split
      · left; exact pmV_n
      · right; rfl
  have hιlt : ∀ z, z < nvC u → ι z < nvC u := fun z hz => by
    rcases Nat.lt_or_ge (ι z) (nvC u) with q | q
    · exact q
    · have h5 : ρ (ι z) = ι z := p4 _ (fun i hi => by
        have a := aF_r i hi
        have b := hb i hi
        exact ⟨by omega, by omega⟩)
      rw [p1] at h5
      omega
  refine ⟨ρ, ι, hrep, hlo, ⟨⟨⟨hW', fun m q m0 m1 => ?_⟩, hTn, hSh'⟩, hI, hWS, hSH, hbd⟩, ⟨xa', n, f, e, ⟨⟨⟨rfl, by decide, Or.inl (by decide)⟩, ⟨x1, by rw [s20, pmS_i rfl]; exact e2, e3, e4, e5⟩, ?_, fun i hi => ?_⟩, Nat.le_refl _⟩, ?_, fun r hr0 => ?_, hrr, ?_, ?_⟩, ⟨fun m q m0 m1 => ?_, ?_, ?_⟩, ⟨fun j hj => by rw [s10, pmS_i hj], s1020, s21⟩, ?_⟩
  · rw [e103, (hmem m q m0 m1).2.2]; exact ⟨by omega, Or.inl (by omega)⟩
  · rcases hxa with q | q
    · exact Or.inl ⟨x3 q, q, _, rfl⟩
    · rw [x2 q.1]
      exact Or.inr ⟨by omega, kd_dyn (by decide) (by rw [(h121 q.1).1, q.1]), ⟨by decide, Or.inl (by decide)⟩, by decide⟩
  · have q10 : n = 10 := by rcases hxa with q | q; omega; exact q.1
    rw [x2 q10, (h121 q10).2 i]
    obtain ⟨⟨r1, r2, r3, r4, r5⟩, -⟩ := hr i hi
    rw [r1, pmV_id (by rw [Int.toNat_natCast]; exact hι _ (hfixK i _ hi (by omega) (by omega))), Int.toNat_natCast]
    exact ⟨_, kd_dyn (by omega) (hWKr i hi).1⟩
  · rcases hxa with q | q
    · exact Or.inl q
    · rw [x2 q.1]
      refine Or.inr ⟨q.1, by decide, by show 121 < nvC u; omega, ?_, fun m m0 m1 => ?_⟩
      · rcases t7 with q2 | q2
        · rw [htn.2 q2]; decide
        · rw [htn.1 q2]; decide
      · rw [e103]
        by_cases q2 : isM w m
        · rw [(hmem m q2 m0 m1).2.2]; omega
        · rw [hnom m q2 m0 m1]; decide
  · obtain ⟨⟨r1, r2, r3, r4, r5⟩, r6⟩ := hr r hr0
    have q10 : n = 10 := by rcases hxa with q | q; omega; exact q.1
    refine ⟨?_, hWKr r hr0, r3, r4, r5, fun y y1 y2 => ⟨by rw [x2 q10]; omega, ?_, fun m m0 m1 => ?_⟩⟩
    · rw [x2 q10, (h121 q10).2 r, r1]
      exact pmV_id (by rw [Int.toNat_natCast]; exact hι _ (hfixK r _ hr0 (by omega) (by omega)))
    · rcases t7 with q2 | q2
      · rw [htn.2 q2]; omega
      · rw [htn.1 q2]; omega
    · rw [e103]
      by_cases q2 : isM w m
      · rw [(hmem m q2 m0 m1).2.2]; omega
      · rw [hnom m q2 m0 m1]; show y ≠ 0; omega
  · by_cases hz : sg u 10 20 = 0
    · left; rw [s1020]; exact hz
    · right
      rw [s1020]
      refine ⟨(him hz).1, by show (sg u 10 20).toNat + 6 ≤ nvC u; have := (him hz).2; omega, fun m m0 m1 => ?_⟩
      have hlt : ((sg u ((sg u 10 20).toNat + 3) m.toNat).toNat = 0 ∨ 1000 ≤ (sg u ((sg u 10 20).toNat + 3) m.toNat).toNat) ∧ (sg u ((sg u 10 20).toNat + 3) m.toNat).toNat < nvC u := by
        rcases hii with q | q
        · exact absurd q hz
        · have := q.2.2 m m0 m1; omega
      rcases hi3 hz m.toNat with q | q
      · rw [q]
        refine ⟨?_, hιlt _ hlt.2⟩
        rcases hlt.1 with r | r
        · left; rw [r]; exact hι0
        · right
          rw [hι _ (hIm hz _ r (Or.inr ⟨m, ⟨m0, m1⟩, rfl⟩))]
          exact r
      · rw [q]; exact hlt
  · intro r y hr0 y1 y2
    have h9 := hno r y hr0 y1 y2
    by_cases hz : sg u 10 20 = 0
    · left; rw [s1020]; exact hz
    · right
      have h8 := hNo y h9 hz
      rw [s1020]
      refine ⟨h8.1, fun m m0 m1 q => ?_⟩
      rcases hi3 hz m.toNat with q2 | q2
      · rw [q2] at q
        have := congrArg ρ q
        rw [p1, hfixK r y hr0 y1 y2] at this
        exact h8.2 m m0 m1 this
      · rw [q2] at q; exact h8.2 m m0 m1 q
  · rw [e103, (hmem m q m0 m1).2.2]; omega
  · rcases t7 with q | q
    · rw [htn.2 q]; decide
    · rw [htn.1 q]; decide
  · rw [x1, Int.toNat_natCast]
    rcases hxa with q | q
    · rw [x3 q]; decide
    · rw [x2 q.1]; decide
  · intro Ri ie hz hWi h6 hie
    refine hWi.toN.nr ⟨(him hz).1, h6, by omega⟩ hnv.2 (fun j hj => hIm hz _ (by have := him hz; omega) (Or.inl ⟨j, hj, rfl⟩)) (fun m m0 m1 q => ?_) (fun z _ ⟨a, _, _, hz⟩ => hshF _ _ _ _ hz) hι h00
    have h9 := hWi.2.2.2.2.2 m m0 m1 q
    exact hIm hz _ (by have := him hz; omega) (Or.inr ⟨m, ⟨m0, m1⟩, rfl⟩)
end NRM4
