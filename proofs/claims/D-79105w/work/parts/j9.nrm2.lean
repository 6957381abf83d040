/-! NORMAL FORM: the state, the heap holds it -/
set_option maxRecDepth 100000
def nrD (u : CT) (ρ : Nat → Nat) : Nat → Option CK := fun v => if v < 122 then kd kapR u (ρ v) else match u.2.1 v with
  | some k => if ρ v = v ∧ ckN k = true then some k else none
  | none => none
def nrK (u : CT) (ρ : Nat → Nat) (v : Nat) : Option CK := if v < 110 then kap v else nrD u ρ v
def nrC (u : CT) (ρ ι : Nat → Nat) : CT := ((nvC u, nvC u, uC u), nrD u ρ, fun v => match nrK u ρ v with
  | some k => pmS ι k (sg u (ρ v))
  | none => sg u (ρ v))
/-- what the exchange is -/
def PmX (w : Nat → Int) (u : CT) (x xa nT n : Nat) (ρ ι : Nat → Nat) : Prop := (∀ v, ρ (ι v) = v) ∧ (∀ v, ι (ρ v) = v) ∧ (∀ i, i < 18 → ρ (aF i) = bF w u x xa nT n i) ∧ ∀ v, (∀ i, i < 18 → v ≠ aF i ∧ v ≠ bF w u x xa nT n i) → ρ v = v
theorem kap_tab : ∀ v : Fin 110, (v.val = 3 ∨ v.val = 12 ∨ v.val = 14 ∨ v.val = 19 ∨ v.val = 10 ∨ (100 ≤ v.val ∧ v.val < 106)) ∨ (match kap v.val with
  | some k => decide (v.val < 60) && ckN k
  | none => true) = true := by decide +kernel
theorem kap_60 : ∀ i : Fin 18, (kap (60 + i.val)).isNone = true := by decide +kernel
theorem kap_oth {ρ : Nat → Nat} {v : Nat} {k : CK} (hk : kap v = some k) (hv : v < 110) (h10 : v ≠ 10) (h100 : ¬ (100 ≤ v ∧ v < 106)) (hρ : ∀ a, a < 60 → ρ a = a) : v < 60 ∧ ckF ρ k := by
  rcases kap_tab ⟨v, hv⟩ with q | q
  · dsimp only at q
    rcases q with q | q | q | q | q | q
    · subst q
      have : kap 3 = some (ckRc 4 0 (fun _ => 0)) := rfl
      rw [this] at hk
      rw [← Option.some.inj hk]
      exact ⟨by decide, fun i => hρ 0 (by decide)⟩
    · subst q
      have : kap 12 = some (ckRc 3 10 (fun i => if i < 10 then 30 + i else 0)) := rfl
      rw [this] at hk
      rw [← Option.some.inj hk]
      refine ⟨by decide, fun i => ?_⟩
      dsimp only
      split
      · exact hρ _ (by omega)
      · exact hρ 0 (by decide)
    · subst q
      have : kap 14 = some (ckRc 3 10 (fun i => if i < 10 then 40 + i else 0)) := rfl
      rw [this] at hk
      rw [← Option.some.inj hk]
      refine ⟨by decide, fun i => ?_⟩
      dsimp only
      split
      · exact hρ _ (by omega)
      · exact hρ 0 (by decide)
    · subst q
      have : kap 19 = some (ckO 2 [some (some 10)]) := rfl
      rw [this] at hk
      rw [← Option.some.inj hk]
      refine ⟨by decide, fun y hy => ?_⟩
      have : y = 10 := by simpa using hy
      rw [this]
      exact hρ 10 (by decide)
    · exact absurd q h10
    · exact absurd q h100
  · dsimp only at q
    rw [hk] at q
    dsimp only at q
    have := (Bool.and_eq_true _ _).mp q
    exact ⟨of_decide_eq_true this.1, ckN_F this.2⟩
section NRM2
variable {w : Nat → Int} {C : Int} {R : Nat → Nat → Int} {s x xa nT n N v : Nat} {f e : Nat → Nat} {u : CT} {E : CE} {h : MH} {m : Int} {ρ ι : Nat → Nat} {k : CK}
theorem kd_nr : kd kap (nrC u ρ ι) v = nrK u ρ v := rfl
theorem sg_nr (hk : nrK u ρ v = some k) : sg (nrC u ρ ι) v = pmS ι k (sg u (ρ v)) := by
  show (match nrK u ρ v with
    | some k => pmS ι k (sg u (ρ v))
    | none => sg u (ρ v)) = _
  rw [hk]
theorem aF_r : ∀ i, i < 18 → (100 ≤ aF i ∧ aF i < 106) ∨ (110 ≤ aF i ∧ aF i < 122) := fun i hi => by
  unfold aF
  split <;> omega
theorem PmX.iot (h : PmX w u x xa nT n ρ ι) (hv : ρ v = v) : ι v = v := by
  have := congrArg ι hv
  rw [h.2.1] at this
  exact this.symm
theorem PmX.lo (h : PmX w u x xa nT n ρ ι) (hb : ∀ i, i < 18 → 60 ≤ bF w u x xa nT n i ∧ (bF w u x xa nT n i < 78 ∨ 100 ≤ bF w u x xa nT n i)) (hv : v < 60 ∨ (78 ≤ v ∧ v < 100) ∨ (106 ≤ v ∧ v < 110 ∧ ∀ i, i < 18 → v ≠ bF w u x xa nT n i)) : ρ v = v := h.2.2.2 v (fun i hi => by
  have a := aF_r i hi
  have b := hb i hi
  rcases hv with q | q | ⟨q1, q2, q3⟩
  · exact ⟨by omega, by omega⟩
  · exact ⟨by omega, by omega⟩
  · exact ⟨by omega, q3 i hi⟩)
theorem bF_r (hX : WX u x) (hW : WC u x (x + 1) (x + 2) (x + 3) (x + 5) w) (h0 : w 0 ≤ 10) (hT : nT = 10 → 110 ≤ tnC u ∧ tnC u < nvC u ∧ u.2.1 (tnC u) = some (ckR 0 10)) (hK : n = 10 → 110 ≤ xa ∧ xa < nvC u ∧ u.2.1 xa = some (ckR 0 10)) (hnv : 1000 ≤ nvC u) : ∀ i, i < 18 → (60 ≤ bF w u x xa nT n i ∧ (bF w u x xa nT n i < 78 ∨ 100 ≤ bF w u x xa nT n i)) ∧ bF w u x xa nT n i < nvC u := by
  intro i hi
  rcases bF_k hX hW h0 hT hK hnv i hi with ⟨i1, i2⟩ | ⟨i0, i1, i2, i3, i4⟩ | ⟨i1, i2, i3⟩ | ⟨i1, i2, i3⟩ | ⟨i1, i2, -⟩
  · rw [i2]
    rcases hX.2 with q | ⟨q1, q2, -⟩ <;> omega
  · rw [i3]; have := i4.1; omega
  · rw [i3]; have := hT i2; omega
  · rw [i3]; have := hK i2; omega
  · rw [i2]; omega
/-- the heap holds the normal form -/
theorem nrm_rep (hR : Rep kapR E u h) (hX : WX u x) (hW : WC u x (x + 1) (x + 2) (x + 3) (x + 5) w) (h0 : w 0 ≤ 10) (hT : nT = 10 → 110 ≤ tnC u ∧ tnC u < nvC u ∧ u.2.1 (tnC u) = some (ckR 0 10)) (hK : n = 10 → 110 ≤ xa ∧ xa < nvC u ∧ u.2.1 xa = some (ckR 0 10)) (hP : PmX w u x xa nT n ρ ι) : Rep kap ((E.1.1, E.1.2.1, (fun v => E.rf (ρ v)), E.1.2.2.2), E.2.1, (nvC u, nrD u ρ, sg (nrC u ρ ι))) (nrC u ρ ι) h := by
  have hnv : 1000 ≤ nvC u := by have := hR.2.1; omega
  have hb := bF_r (xa := xa) (nT := nT) (n := n) hX hW h0 hT hK hnv
  have hlo : ∀ v, (v < 60 ∨ (78 ≤ v ∧ v < 100)) → ρ v = v := fun v hv => hP.lo (fun i hi => (hb i hi).1) (by rcases hv with q | q; exact Or.inl q; exact Or.inr (Or.inl q))
  have hx6 : ∀ i, i < 6 → ρ (100 + i) = x + i := fun i hi => by
    have := hP.2.2.1 i (by omega)
    unfold aF bF at this
    rw [if_pos hi, if_pos hi] at this
    exact this
  have hx100 : 100 ≤ x := by rcases hX.2 with q | q <;> omega
  refine hR.perm (τ' := nrC u ρ ι) hP.1 hP.2.1 (fun v hv => hP.2.2.2 v (fun i hi => by
    have a := aF_r i hi
    have b := hb i hi
    exact ⟨by omega, by omega⟩)) (fun v hv => hlo v (by omega)) rfl ⟨hnv, Nat.le_refl _⟩ rfl (fun v k' hk' => ?_)
  rw [kd_nr] at hk'
  rw [sg_nr hk']
  unfold nrK at hk'
  by_cases hv : v < 110
  · rw [if_pos hv] at hk'
    by_cases h10 : v = 10
    · subst h10
      have ek : k' = plK := by
        have : kap 10 = some plK := rfl
        rw [this] at hk'; exact (Option.some.inj hk').symm
      subst ek
      have e10 : ρ 10 = 10 := hlo 10 (by omega)
      refine ⟨plKR, by rw [e10]; rfl, ?_⟩
      rw [e10]
      show (.inr (.inr (0, fvC (fun v => E.rf (ρ v)) (pmS ι plK (sg u 10)) _ 0)) : MC) = .inr (.inr (0, fvC E.rf (sg u 10) _ 0))
      have c : ∀ a, a < 60 → E.rf (ρ a) = E.rf a := fun a ha => by rw [hlo a (by omega)]
      have e1 : E.rf (ρ 100) = E.rf (sg u 10 1).toNat := by rw [hX.1, show (100 : Nat) = 100 + 0 from rfl, hx6 0 (by decide), Nat.add_zero]
      have e20 : E.rf (ρ (pmS ι plK (sg u 10) 20).toNat) = E.rf (sg u 10 20).toNat := by rw [pmS_r rfl, pmV_n, hP.1]
      have ei : ∀ j, rsl plK j = false → pmS ι plK (sg u 10) j = sg u 10 j := fun j hj => pmS_i hj
      simp only [fvC]
      rw [e1, e20, ei _ rfl, ei _ rfl, ei _ rfl, ei _ rfl, ei _ rfl, c 11 (by decide), c 12 (by decide), c 13 (by decide), c 14 (by decide), c 15 (by decide), c 16 (by decide), c 17 (by decide), c 18 (by decide), c 19 (by decide), c 20 (by decide), c 21 (by decide), c 22 (by decide), c 23 (by decide), c 24 (by decide)]
    · by_cases h100 : 100 ≤ v ∧ v < 106
      · obtain ⟨i, hi, rfl⟩ : ∃ i, i < 6 ∧ v = 100 + i := ⟨v - 100, by omega, by omega⟩
        rw [hx6 i hi]
        rcases hX.2 with q | ⟨q1, q2, k0, q3, k1, k2, k3, k4, k5⟩
        · rw [q]
          refine ⟨k', ?_, ?_⟩
          · show (if 100 + i < 110 then kapR (100 + i) else _) = _
            rw [if_pos (by omega)]
            unfold kapR
            rw [if_neg (by omega)]
            exact hk'
          · have hc : ckF ρ k' := by
              rcases (show i = 0 ∨ i = 1 ∨ i = 2 ∨ i = 3 ∨ i = 4 ∨ i = 5 by omega) with r | r | r | r | r | r <;> subst r
              · have ek : k' = woK := by
                  have : kap (100 + 0) = some woK := rfl
                  rw [this] at hk'; exact (Option.some.inj hk').symm
                subst ek
                intro y hy
                have hy2 : y = 101 ∨ y = 102 ∨ y = 103 ∨ y = 104 ∨ y = 105 := by
                  simp at hy
                  omega
                have e : y = 100 + (y - 100) := by omega
                rw [e, hx6 _ (by omega), q]
              · have : kap (100 + 1) = some (ckI 1 120) := rfl
                rw [this] at hk'; rw [← Option.some.inj hk']; trivial
              · have : kap (100 + 2) = some (ckI 0 120) := rfl
                rw [this] at hk'; rw [← Option.some.inj hk']; trivial
              · have : kap (100 + 3) = some (ckR 1 10) := rfl
                rw [this] at hk'; rw [← Option.some.inj hk']; trivial
              · have : kap (100 + 4) = some (ckR 2 3) := rfl
                rw [this] at hk'; rw [← Option.some.inj hk']; trivial
              · have : kap (100 + 5) = some (ckI 0 8) := rfl
                rw [this] at hk'; rw [← Option.some.inj hk']; trivial
            exact cel_pm hP.1 hc
        · rcases (show i = 0 ∨ i = 1 ∨ i = 2 ∨ i = 3 ∨ i = 4 ∨ i = 5 by omega) with r | r | r | r | r | r <;> subst r
          · have ek : k' = woK := by
              have : kap (100 + 0) = some woK := rfl
              rw [this] at hk'; exact (Option.some.inj hk').symm
            subst ek
            refine ⟨woR, kd_dyn (by omega) k0, ?_⟩
            show (.inr (.inr (1, fvC (fun v => E.rf (ρ v)) (pmS ι woK (sg u (x + 0))) _ 0)) : MC) = .inr (.inr (1, fvC E.rf (sg u (x + 0)) _ 0))
            have c : ∀ j, j < 5 → E.rf (ρ (101 + j)) = E.rf (sg u x j).toNat := fun j hj => by
              rw [q3 j hj, Int.toNat_natCast, show 101 + j = 100 + (1 + j) by omega, hx6 _ (by omega)]
              exact congrArg E.rf (by omega)
            have ei : ∀ j, rsl woK j = false → pmS ι woK (sg u (x + 0)) j = sg u (x + 0) j := fun j hj => pmS_i hj
            simp only [fvC]
            rw [ei _ rfl, ei _ rfl, ei _ rfl]
            have c0 := c 0 (by decide)
            have c1 := c 1 (by decide)
            have c2 := c 2 (by decide)
            have c3 := c 3 (by decide)
            have c4 := c 4 (by decide)
            simp only [Nat.add_zero, Nat.reduceAdd] at *
            rw [c0, c1, c2, c3, c4]
          · have : kap (100 + 1) = some (ckI 1 120) := rfl
            rw [this] at hk'; rw [← Option.some.inj hk']; exact ⟨_, kd_dyn (by omega) k1, cel_pm hP.1 trivial⟩
          · have : kap (100 + 2) = some (ckI 0 120) := rfl
            rw [this] at hk'; rw [← Option.some.inj hk']; exact ⟨_, kd_dyn (by omega) k2, cel_pm hP.1 trivial⟩
          · have : kap (100 + 3) = some (ckR 1 10) := rfl
            rw [this] at hk'; rw [← Option.some.inj hk']; exact ⟨_, kd_dyn (by omega) k3, cel_pm hP.1 trivial⟩
          · have : kap (100 + 4) = some (ckR 2 3) := rfl
            rw [this] at hk'; rw [← Option.some.inj hk']; exact ⟨_, kd_dyn (by omega) k4, cel_pm hP.1 trivial⟩
          · have : kap (100 + 5) = some (ckI 0 8) := rfl
            rw [this] at hk'; rw [← Option.some.inj hk']; exact ⟨_, kd_dyn (by omega) k5, cel_pm hP.1 trivial⟩
      · have ho := kap_oth (ρ := ρ) hk' hv h10 h100 (fun a ha => hlo a (by omega))
        have e : ρ v = v := hlo v (by omega)
        rw [e]
        refine ⟨k', ?_, cel_pm hP.1 ho.2⟩
        show (if v < 110 then kapR v else _) = _
        rw [if_pos hv]
        unfold kapR
        rw [if_neg h10]
        exact hk'
  · rw [if_neg hv] at hk'
    unfold nrD at hk'
    by_cases h122 : v < 122
    · rw [if_pos h122] at hk'
      refine ⟨k', hk', cel_pm hP.1 ?_⟩
      obtain ⟨i, hi, hi6, rfl⟩ : ∃ i, i < 18 ∧ 6 ≤ i ∧ v = 104 + i := ⟨v - 104, by omega, by omega, by omega⟩
      have ha : ρ (104 + i) = bF w u x xa nT n i := by
        have := hP.2.2.1 i hi
        unfold aF at this
        rw [if_neg (by omega)] at this
        exact this
      rw [ha] at hk'
      rcases bF_k hX hW h0 hT hK hnv i hi with ⟨i1, i2⟩ | ⟨i0, i1, i2, i3, i4⟩ | ⟨i1, i2, i3⟩ | ⟨i1, i2, i3⟩ | ⟨i1, i2, -⟩
      · omega
      · rw [i3, i4.kd] at hk'
        rw [← Option.some.inj hk']
        exact ckN_F rfl
      · rw [i3, kd_dyn (hT i2).1 (hT i2).2.2] at hk'
        rw [← Option.some.inj hk']
        trivial
      · rw [i3, kd_dyn (hK i2).1 (hK i2).2.2] at hk'
        rw [← Option.some.inj hk']
        trivial
      · rw [i2] at hk'
        have hz := kap_60 ⟨i, hi⟩
        unfold kd kapR at hk'
        rw [if_pos (by omega), if_neg (by omega)] at hk'
        dsimp only at hz
        rw [hk'] at hz
        cases hz
    · rw [if_neg h122] at hk'
      cases hu : u.2.1 v with
      | none => rw [hu] at hk'; cases hk'
      | some k0 =>
        rw [hu] at hk'
        dsimp only at hk'
        by_cases hc : ρ v = v ∧ ckN k0 = true
        · rw [if_pos hc] at hk'
          have ek := Option.some.inj hk'
          subst ek
          exact ⟨k0, by rw [hc.1]; exact kd_dyn (by omega) hu, cel_pm hP.1 (ckN_F hc.2)⟩
        · rw [if_neg hc] at hk'; cases hk'
end NRM2
