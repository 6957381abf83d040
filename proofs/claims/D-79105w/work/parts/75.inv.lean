/-! HOW ROUNDS CHANGE THE ROW: frames and bounds -/
set_option maxRecDepth 100000
/-- no entry beyond C -/
def bdW (C : Int) (w : Nat → Int) : Prop := ∀ i, -C ≤ w i ∧ w i ≤ C
theorem bdW.rng {C : Int} {w : Nat → Int} (h : bdW C w) (hC : C < 2147483648) : ∀ i, rng (w i) := fun i => by
  have := h i
  omega
theorem bdW.mono {C C' : Int} {w : Nat → Int} (h : bdW C w) (hC : C ≤ C') : bdW C' w := fun i => by
  have := h i
  omega
theorem bdW.upd {C v : Int} {w : Nat → Int} {i : Nat} (h : bdW C w) (hv : -C ≤ v ∧ v ≤ C) : bdW C (updW w i v) := fun j => by
  unfold updW
  split
  · exact hv
  · exact h j
theorem bdW.inc {C : Int} {w : Nat → Int} {i j : Nat} (h : bdW C w) : bdW (C + 1) (updW w i (w j + 1)) := by
  refine (h.mono (by omega)).upd ?_
  have := h j
  omega
theorem bdW.goes {C m c : Int} {w : Nat → Int} (h : bdW C w) (hC : 200 ≤ C) (hc : -200 ≤ c ∧ c ≤ 200) : bdW (C + 1) (goesF w m c) := by
  unfold goesF
  exact ((h.upd (by omega)).upd (by omega)).inc
theorem bdW.cnt {C k : Int} {w : Nat → Int} (h : bdW C w) : bdW (C + 1) (cntW w k) := h.inc
theorem bdW.waits {C m : Int} {w : Nat → Int} (h : bdW C w) : bdW (C + 2) (waitsF w m) := by
  unfold waitsF
  have := h.inc (i := (12 + 6 * m + 3).toNat) (j := (12 + 6 * m + 3).toNat)
  have := this.cnt (k := 2)
  exact this.mono (by omega)
theorem bdW.act {C m : Int} {sl : Int → Int} {FF : Int → Int → Int} {w : Nat → Int} (h : bdW C w) (hC : 200 ≤ C) (hm : 0 ≤ m ∧ m ≤ 9) (hc : -1 ≤ celF w m ∧ celF w m < 120) : bdW (C + 4) (actF sl FF w m) := by
  unfold actF
  split
  · exact h.mono (by omega)
  · split
    · have hb := besF_rng (celF w m) (wayF (stpF (FF (sl m)) w m (FF (sl m) (celF w m))))
      have := ((h.goes (m := m) hC (show -200 ≤ besF (celF w m) (wayF (stpF (FF (sl m)) w m (FF (sl m) (celF w m)))) ∧ _ by omega)).cnt (k := 1)).upd (i := (12 + 6 * m + 5).toNat) (v := 0) (by omega)
      exact this.mono (by omega)
    · split
      · have hb := besF_rng (celF w m) (wayF (excF sl FF (FF (sl m)) w m (FF (sl m) (celF w m))))
        have h1 := h.goes (m := m) hC (show -200 ≤ besF (celF w m) (wayF (excF sl FF (FF (sl m)) w m (FF (sl m) (celF w m)))) ∧ _ by omega)
        have h2 := (h1.goes (m := onF w (besF (celF w m) (wayF (excF sl FF (FF (sl m)) w m (FF (sl m) (celF w m)))))) (by omega) (show -200 ≤ celF w m ∧ celF w m ≤ 200 by omega)).cnt (k := 3)
        have h3 := (h2.upd (i := (12 + 6 * m + 5).toNat) (v := 4) (by omega)).upd (i := (12 + 6 * onF w (besF (celF w m) (wayF (excF sl FF (FF (sl m)) w m (FF (sl m) (celF w m))))) + 5).toNat) (v := 4) (by omega)
        exact h3.mono (by omega)
      · split
        · have hb := besF_rng (celF w m) (wayF (asdF w m))
          have := ((h.goes (m := m) hC (show -200 ≤ besF (celF w m) (wayF (asdF w m)) ∧ _ by omega)).cnt (k := 4)).upd (i := (12 + 6 * m + 5).toNat) (v := 5) (by omega)
          exact this.mono (by omega)
        · have := ((h.inc (i := (12 + 6 * m + 1).toNat) (j := (12 + 6 * m + 1).toNat)).waits (m := m)).upd (i := (12 + 6 * m + 5).toNat) (v := 3) (by omega)
          exact this.mono (by omega)
/-- cells of members may move, all else that 'gives' and 'leader' read stays -/
def SW (w w' : Nat → Int) : Prop := (∀ i, i < 4 ∨ 72 ≤ i → w' i = w i) ∧ ∀ m, 0 ≤ m → m ≤ 9 → (0 ≤ celF w m → 0 ≤ celF w' m ∧ celF w' m < 120) ∧ (celF w m < 0 → celF w' m = celF w m)
/-- cells too stay -/
def SC (w w' : Nat → Int) : Prop := (∀ i, i < 4 ∨ 72 ≤ i → w' i = w i) ∧ ∀ m, 0 ≤ m → m ≤ 9 → celF w' m = celF w m
theorem SC.rf {w : Nat → Int} : SC w w := ⟨fun _ _ => rfl, fun _ _ _ => rfl⟩
theorem SC.tr {a b c : Nat → Int} (h : SC a b) (k : SC b c) : SC a c := ⟨fun i hi => (k.1 i hi).trans (h.1 i hi), fun m h1 h2 => (k.2 m h1 h2).trans (h.2 m h1 h2)⟩
theorem SC.upd {w : Nat → Int} {i : Nat} {v : Int} (h : 4 ≤ i ∧ i < 72) (hi : ∀ m : Int, 0 ≤ m → m ≤ 9 → i ≠ (12 + 6 * m + 0).toNat) : SC w (updW w i v) := ⟨fun j hj => by
  unfold updW
  rw [if_neg (by omega)], fun m h1 h2 => by
  unfold celF updW
  rw [if_neg (fun q => hi m h1 h2 q.symm)]⟩
theorem SW.of {w w' : Nat → Int} (h : SC w w') (hc : ∀ m, 0 ≤ m → m ≤ 9 → celF w m < 120) : SW w w' := ⟨h.1, fun m h1 h2 => by
  rw [h.2 m h1 h2]
  exact ⟨fun q => ⟨q, hc m h1 h2⟩, fun _ => rfl⟩⟩
theorem SW.tr {a b c : Nat → Int} (h : SW a b) (k : SW b c) : SW a c := ⟨fun i hi => (k.1 i hi).trans (h.1 i hi), fun m h1 h2 => by
  have a1 := h.2 m h1 h2
  have a2 := k.2 m h1 h2
  refine ⟨fun q => a2.1 (a1.1 q).1, fun q => ?_⟩
  rw [a2.2 (by rw [a1.2 q]; exact q), a1.2 q]⟩
theorem SW.cel {w : Nat → Int} {m v : Int} (hm : 0 ≤ m ∧ m ≤ 9) (hc : ∀ m, 0 ≤ m → m ≤ 9 → celF w m < 120) (h0 : 0 ≤ celF w m) (hv : 0 ≤ v ∧ v < 120) : SW w (updW w (12 + 6 * m + 0).toNat v) := ⟨fun j hj => by
  unfold updW
  rw [if_neg (by omega)], fun m' h1 h2 => by
  have hcm := hc m' h1 h2
  by_cases e : m' = m
  · subst e
    have : celF (updW w (12 + 6 * m' + 0).toNat v) m' = v := by unfold celF updW; rw [if_pos rfl]
    rw [this]
    exact ⟨fun _ => hv, fun q => by omega⟩
  · have : celF (updW w (12 + 6 * m + 0).toNat v) m' = celF w m' := by unfold celF updW; rw [if_neg (by omega)]
    rw [this]
    exact ⟨fun q => ⟨q, hcm⟩, fun _ => rfl⟩⟩
theorem SW.lt {w w' : Nat → Int} (h : SW w w') (hc : ∀ m, 0 ≤ m → m ≤ 9 → celF w m < 120) : ∀ m, 0 ≤ m → m ≤ 9 → celF w' m < 120 := fun m h1 h2 => by
  have a := h.2 m h1 h2
  have b := hc m h1 h2
  by_cases q : 0 ≤ celF w m
  · exact (a.1 q).2
  · rw [a.2 (by omega)]; exact b
theorem SW.goes {w : Nat → Int} {m c : Int} (hm : 0 ≤ m ∧ m ≤ 9) (hc : ∀ m, 0 ≤ m → m ≤ 9 → celF w m < 120) (h0 : 0 ≤ celF w m) (hv : 0 ≤ c ∧ c < 120) : SW w (goesF w m c) := by
  unfold goesF
  have h1 := SW.cel hm hc h0 hv
  have h2 := h1.lt hc
  have h3 : SC (updW w (12 + 6 * m + 0).toNat c) (updW (updW w (12 + 6 * m + 0).toNat c) (12 + 6 * m + 1).toNat 0) := SC.upd (by omega) (fun m h1 h2 => by omega)
  refine h1.tr ((SW.of h3 h2).tr (SW.of (SC.upd (by omega) (fun m h1 h2 => by omega)) ((SW.of h3 h2).lt h2)))
theorem SW.cnt {w : Nat → Int} {k : Int} (hk : 0 ≤ k ∧ k ≤ 7) (hc : ∀ m, 0 ≤ m → m ≤ 9 → celF w m < 120) : SW w (cntW w k) := SW.of (SC.upd (by omega) (fun m h1 h2 => by omega)) hc
theorem SC.waits {w : Nat → Int} {m : Int} (hm : 0 ≤ m ∧ m ≤ 9) : SC w (waitsF w m) := by
  unfold waitsF cntW
  exact SC.tr (SC.upd (by omega) (fun m h1 h2 => by omega)) (SC.upd (by omega) (fun m h1 h2 => by omega))
theorem SW.upd {w w' : Nat → Int} {i : Nat} {v : Int} (hs : SW w w') (hc : ∀ m, 0 ≤ m → m ≤ 9 → celF w m < 120) (h : 4 ≤ i ∧ i < 72) (hi : ∀ m : Int, 0 ≤ m → m ≤ 9 → i ≠ (12 + 6 * m + 0).toNat) : SW w (updW w' i v) := hs.tr (SW.of (SC.upd h hi) (hs.lt hc))
theorem SW.act {m : Int} {sl : Int → Int} {FF : Int → Int → Int} {w : Nat → Int} (hm : 0 ≤ m ∧ m ≤ 9) (hc : ∀ m, 0 ≤ m → m ≤ 9 → celF w m < 120) (h0 : 0 ≤ celF w m) : SW w (actF sl FF w m) := by
  unfold actF
  split
  · exact SW.of SC.rf hc
  · split
    · rename_i hw
      have hb := besF_rng (celF w m) (wayF (stpF (FF (sl m)) w m (FF (sl m) (celF w m))))
      rcases fstI_rng (stpF (FF (sl m)) w m (FF (sl m) (celF w m))) 4 0 (by omega) with e | ⟨-, -, e, -⟩
      · unfold wayF at hw; omega
      · have e1 := (of_decide_eq_true e).1
        have g := SW.goes hm hc h0 ⟨e1, hb.2⟩
        exact (g.tr (SW.cnt (k := 1) (by omega) (g.lt hc))).upd hc (by omega) (fun m h1 h2 => by omega)
    · split
      · rename_i hw
        have hb := besF_rng (celF w m) (wayF (excF sl FF (FF (sl m)) w m (FF (sl m) (celF w m))))
        rcases fstI_rng (excF sl FF (FF (sl m)) w m (FF (sl m) (celF w m))) 4 0 (by omega) with e | ⟨-, -, e, -⟩
        · unfold wayF at hw; omega
        · have e1 := of_decide_eq_true e
          have g := SW.goes hm hc h0 ⟨e1.1, hb.2⟩
          have ho := onF_rng w (besF (celF w m) (fstI (excF sl FF (FF (sl m)) w m (FF (sl m) (celF w m))) 4 0))
          have g2 := SW.goes (m := onF w (besF (celF w m) (fstI (excF sl FF (FF (sl m)) w m (FF (sl m) (celF w m))) 4 0))) ⟨e1.2.2.1, ho.2.1⟩ (g.lt hc) (g.2 _ e1.2.2.1 ho.2.1 |>.1 (ho.2.2 e1.2.2.1).1.2).1 (c := celF w m) ⟨h0, hc m hm.1 hm.2⟩
          have g3 := (g.tr g2).tr (SW.cnt (k := 3) (by omega) ((g.tr g2).lt hc))
          exact (g3.upd hc (by omega) (fun m h1 h2 => by omega)).upd hc (by unfold wayF at *; omega) (fun m h1 h2 => by unfold wayF at *; omega)
      · split
        · rename_i hw
          have hb := besF_rng (celF w m) (wayF (asdF w m))
          rcases fstI_rng (asdF w m) 4 0 (by omega) with e | ⟨-, -, e, -⟩
          · unfold wayF at hw; omega
          · have e1 := (of_decide_eq_true e).1
            have g := SW.goes hm hc h0 ⟨e1, hb.2⟩
            exact (g.tr (SW.cnt (k := 4) (by omega) (g.lt hc))).upd hc (by omega) (fun m h1 h2 => by omega)
        · refine SW.of ?_ hc
          have h1 : SC w (updW w (12 + 6 * m + 1).toNat (w (12 + 6 * m + 1).toNat + 1)) := SC.upd (by omega) (fun m h1 h2 => by omega)
          exact (h1.tr (SC.waits hm)).tr (SC.upd (by omega) (fun m h1 h2 => by omega))
theorem fstI_congr {p q : Int → Bool} : ∀ (n : Nat) (i : Int), (∀ j, i ≤ j → j < i + n → p j = q j) → fstI p n i = fstI q n i := by
  intro n
  induction n with
  | zero => intro i h; rfl
  | succ n ih =>
    intro i h
    unfold fstI
    rw [h i (Int.le_refl _) (by omega), ih (i + 1) (fun j h1 h2 => h j (by omega) (by omega))]
theorem isM_congr {w w' : Nat → Int} (h0 : w' 0 = w 0) (h : w 0 ≤ 10) (hc : ∀ m, 0 ≤ m → m ≤ 9 → (0 ≤ celF w' m ↔ 0 ≤ celF w m)) (m : Int) : isM w' m ↔ isM w m := by
  unfold isM
  rw [h0]
  constructor
  · intro q
    exact ⟨q.1, (hc m q.1.1 (by omega)).mp q.2⟩
  · intro q
    exact ⟨q.1, (hc m q.1.1 (by omega)).mpr q.2⟩
theorem ledF_congr {w w' : Nat → Int} (h0 : w' 0 = w 0) (h1 : w' 1 = w 1) (h : w 0 ≤ 10) (hc : ∀ m, 0 ≤ m → m ≤ 9 → (0 ≤ celF w' m ↔ 0 ≤ celF w m)) : ledF w' = ledF w := by
  unfold ledF
  rw [h1]
  have e := isM_congr h0 h hc
  by_cases q : 0 ≤ w 1 ∧ isM w (w 1)
  · rw [if_pos q, if_pos ⟨q.1, (e _).mpr q.2⟩]
  · rw [if_neg q, if_neg (fun q2 => q ⟨q2.1, (e _).mp q2.2⟩)]
    exact fstI_congr 10 0 (fun j _ _ => by rw [decide_eq_decide]; exact e j)
theorem SW.pos {w w' : Nat → Int} (h : SW w w') : ∀ m, 0 ≤ m → m ≤ 9 → (0 ≤ celF w' m ↔ 0 ≤ celF w m) := fun m h1 h2 => by
  have a := h.2 m h1 h2
  constructor
  · intro q
    by_cases r : 0 ≤ celF w m
    · exact r
    · rw [a.2 (by omega)] at q; exact q
  · intro q; exact (a.1 q).1
theorem SW.led {w w' : Nat → Int} (h : SW w w') (h0 : w 0 ≤ 10) : ledF w' = ledF w := ledF_congr (h.1 0 (by omega)) (h.1 1 (by omega)) h0 h.pos
theorem SW.isM {w w' : Nat → Int} (h : SW w w') (h0 : w 0 ≤ 10) (m : Int) : isM w' m ↔ isM w m := isM_congr (h.1 0 (by omega)) h0 h.pos m
