/-! THE CLASS'S METHODS, 21: round -/
set_option maxRecDepth 100000
section RN5
variable {w w0 w1 wb w' : Nat → Int} {τ t t0 u : CT} {a b m c v C : Int} {d p q n k s x cap B U : Nat} {e tr : Nat → Int} {Q : Option AV → CT → Prop} {L : TL} {S : Int → Prop}
theorem bg_bd {sl : Int → Int} (h : bdW C w) (hC : 200 ≤ C) : bdW (C + 1) (bgF sl w m) := by
  unfold bgF
  split
  · split
    · exact h.inc
    · exact h.inc.upd (by split <;> omega)
  · exact h.mono (by omega)
theorem bgn_bd {sl : Int → Int} {FF : Int → Int → Int} : ∀ (k : Nat) (m : Int) (w : Nat → Int) (L : TL) (C : Int), bdW C w → 200 ≤ C → bdW (C + k) (bgnF sl FF k m (w, L)).1 := by
  intro k
  induction k with
  | zero => intro m w L C h _; exact h.mono (by omega)
  | succ k ih =>
    intro m w L C h hC
    have := ih (m + 1) (bgF sl w m) (if inB sl FF w m = true then insF L (m, FF (sl m) (celF w m)) else L) (C + 1) (bg_bd h hC) (by omega)
    unfold bgnF
    exact this.mono (by omega)
/-- the state with a new queue -/
abbrev pqN (t : CT) : CT := stC (stC (newC (newC t pqK 4 (fun _ => 0)) (ckR 0 10) 10 (fun _ => 0)) (nvC t) 0 ((nvC t + 1 : Nat) : Int)) (nvC t) 2 19
theorem pqN_sg {y : Nat} (h1 : y ≠ nvC t) (h2 : y ≠ nvC t + 1) : sg (pqN t) y = sg t y := by
  unfold pqN
  rw [sg_st' h1, sg_st' h1, sg_new (show y ≠ nvC (newC t pqK 4 (fun _ => 0)) from h2), sg_new h1]
theorem pqN_D {y : Nat} (h1 : y ≠ nvC t) (h2 : y ≠ nvC t + 1) : (pqN t).2.1 y = t.2.1 y := by
  show (if y = nvC t + 1 then _ else if y = nvC t then _ else _) = _
  rw [if_neg h2, if_neg h1]
theorem pqN_frs (hn : 1000 ≤ n0C t ∧ n0C t ≤ nvC t) : FrS t (pqN t) := by
  have hs : ∀ y, y < nvC t → sg (pqN t) y = sg t y := fun y hy => pqN_sg (by omega) (by omega)
  exact ⟨⟨rfl, by show nvC t ≤ nvC t + 1 + 1; omega⟩, fun v hv => hs v (by omega), fun j _ _ => by rw [hs 10 (by omega)], fun y y1 y2 => ⟨pqN_D (by omega) (by omega), fun _ => hs y y2⟩, hs 18 (by omega), fun y y1 y2 => ⟨pqN_D (by omega) (by omega), hs y (by omega)⟩⟩
theorem pqN_pq (hn : 1000 ≤ n0C t ∧ n0C t ≤ nvC t) (hS : WS w1) (hG : Gd w1 t) (hW : St w1 t) (hI : IR w1) : PQs w1 w1 (pqN t) (nvC t) (nvC t + 1) 0 e := by
  have hs : ∀ y, y < nvC t → sg (pqN t) y = sg t y := fun y hy => pqN_sg (by omega) (by omega)
  have hF := pqN_frs hn
  have ep : ∀ j, sg (pqN t) (nvC t) j = if j = 2 then 19 else if j = 0 then ((nvC t + 1 : Nat) : Int) else 0 := fun j => by
    unfold pqN
    rw [sg_st, sg_st, sg_new (show nvC t ≠ nvC t + 1 by omega), sg_nw]
  have eq : ∀ j, sg (pqN t) (nvC t + 1) j = 0 := fun j => by
    unfold pqN
    rw [sg_st' (by omega), sg_st' (by omega)]
    exact congrFun (sg_nw (τ := newC t pqK 4 (fun _ => 0))) j
  refine ⟨⟨by omega, ?_, ⟨by omega, Or.inr hn.2⟩, by omega⟩, ⟨by rw [ep, if_neg (by decide), if_pos rfl], by rw [ep, if_neg (by decide), if_neg (by decide)]; rfl, by rw [ep, if_pos rfl]⟩, ⟨hS, ⟨fun m m0 m1 => by rw [hs 15 (by omega)]; exact hG.1 m m0 m1, hG.2.of hS (fun v hv => hs v (by omega)) (by rw [hs 10 (by omega)]) (by rw [hs 10 (by omega)])⟩, hF.wd hW.2.1 hW.1, hI, by omega, ?_, ⟨by omega, Or.inr (by show n0C t ≤ nvC t + 1; omega)⟩⟩, by omega, fun i hi => by omega, fun i _ _ => eq i, fun i i0 i1 => by omega, fun i j hi => by omega⟩
  · show (if nvC t = nvC t + 1 then _ else if nvC t = nvC t then some pqK else _) = _
    rw [if_neg (by omega), if_pos rfl]
  · show (if nvC t + 1 = nvC t + 1 then some (ckR 0 10) else _) = _
    rw [if_pos rfl]
theorem cc_round_135 (hS : WS w1) (hI1 : IR w1) (hnv : 1000 ≤ n0C τ ∧ n0C τ ≤ nvC τ) (hp : nvC τ ≤ p) (hq : nvC τ ≤ q) (hd : 8 ≤ d) (hC : 300 ≤ C ∧ C < 1000000000) {i1 : Int} {a2 : Nat} {o5 o6 o7 : Option AV} (hF : FrW τ t) (hpt : p < nvC t ∧ q < nvC t) (hxpq : tnC t ≠ p ∧ tnC t ≠ q) (hT0 : TnK τ) (hSC : SC w1 wb) (hbd : bdW C wb) (hR : RQ w1 wb t p q 10 L) (K : ∀ u, FrW τ u → Wd (L.foldl (fun u x => actF (slF w1) (frF w1) u x.1) wb) u → IR (L.foldl (fun u x => actF (slF w1) (frF w1) u x.1) wb) ∧ RC w1 (L.foldl (fun u x => actF (slF w1) (frF w1) u x.1) wb) ∧ bdW (C + 36) (L.foldl (fun u x => actF (slF w1) (frF w1) u x.1) wb) → (nvC u ≤ nvC t + 1 ∧ uC u ≤ uC t + 10) → Q none u) : Wc kap d rX0_round 135 [some (.inr 10), some (.inl i1), some (.inr a2), some (.inr p), some (.inr 103), o5, o6, o7] [] t (nQ Q) := by
  obtain ⟨n, e, hP, hn9, hel, hsr, hlo, hnl⟩ := hR
  obtain ⟨cap, s0, hA, hcap, hcx⟩ := hF.tnk hT0
  have htn3 : tnC t = 3 ∨ (110 ≤ tnC t ∧ kd kap t (tnC t) = some (ckR 0 cap)) := by
    rcases hA.2.2 with ⟨q1, -⟩ | ⟨q1, q2, -⟩
    · exact Or.inl q1
    · exact Or.inr ⟨(hcx (by omega)).1, q2⟩
  have htnτ : tnC t = 3 ∨ tnC t = tnC τ ∨ nvC τ ≤ tnC t := by
    rcases hF.2.2.2.2.1.2 with q | q
    · exact Or.inr (Or.inl q)
    · exact Or.inr (Or.inr q)
  have htw : tnC t = 3 ∨ (110 ≤ tnC t ∧ wrC t (tnC t)) := by
    rcases hA.2.2 with ⟨q1, -⟩ | ⟨q1, q2, q3, -⟩
    · exact Or.inl q1
    · exact Or.inr ⟨(hcx (by omega)).1, q3⟩
  have hcl := cc_clear hA (by rcases hcap with q | q <;> omega)
  have hv110 : 110 ≤ nvC t := by have := hF.1.2; omega
  have hDk : ∀ m, 0 ≤ m → m ≤ 9 → keyW w1 wb m = keyF (dsF w1 w1) m := fun m m0 m1 => by
    unfold keyW keyF
    rw [hSC.ds ⟨m0, m1⟩]
  refine wc_aload_n dX0_round_135 rfl ?_
  refine wc_getC dX0_round_136 (kF0_215 rfl) rfl rfl ?_
  refine wc_call dX0_round_139 rfl (hcl) (by omega) (hx_V (kV0_219 rfl) rfl rfl rfl rfl) ?_
  rintro _ _ ⟨rfl, hA2, g1, g2, g3⟩
  rename_i u1
  have hFL : FrL 18 (tnC t) t u1 := ⟨by unfold n0C; rw [g1], by unfold nvC; rw [g1]; omega, fun v _ => by rw [g2], fun v _ h1 h2 => g3 v h1 h2⟩
  have env : nvC u1 = nvC t := by unfold nvC; rw [g1]
  have eun : uC u1 = uC t := by unfold uC; rw [g1]
  have htu : tnC u1 = tnC t := by unfold tnC; rw [hA2.2.1.1]; exact Int.toNat_natCast _
  have hTu : TnK u1 := ⟨cap, 0, by rw [htu]; exact hA2, hcap, fun r => by rw [htu, env]; exact hcx r⟩
  have hFu := hF.frl hnv hFL htnτ htw hTu (Or.inl htu) rfl
  have hPu := hP.frl hFL hv110 htn3 hxpq.1 hxpq.2 hpt.1 hpt.2
  have hTR : TRs wb u1 (tnC t) cap 0 (fun _ => 0) := ⟨hA2.nil, hcap, fun r => by rw [env]; exact hcx r, fun i hi => by omega⟩
  refine cc_round_142 (S := fun m' => ∃ i, i < L.length ∧ (tg L i).1 = m') (B := nvC t) (U := uC t) hS hnv hp hq hd n 0 u1 (tnC t) cap e (fun _ => 0) hFu hPu hTR ⟨by omega, by omega, hxpq.1, hxpq.2, htnτ⟩ (fun i j _ hj => by omega) (fun i j hi => by omega) (by omega) (fun m' => ?_) ⟨fun _ => by omega, by omega, by omega⟩ (fun u2 x' cap' s' tr' k1 k2 k3 k4 k5 k6 k7 => ?_)
  · rw [← hel m']
    exact ⟨fun r => by rcases r with ⟨i, hi, _⟩ | r; omega; exact r, fun r => Or.inr r⟩
  · have htr9 : ∀ i, i < s' → 0 ≤ tr' i ∧ tr' i ≤ 9 := fun i hi => isM_le (k3.2.2.2 i hi).1 k2.2.2.1.2
    have hL9 : ∀ i, i < L.length → 0 ≤ (tg L i).1 ∧ (tg L i).1 ≤ 9 := fun i hi => by have := (hlo i hi).1; omega
    obtain ⟨hs', hLt⟩ := seq_eq (D := dsF w1 w1) (f := tr') (g := fun i => (tg L i).1) (a := s') (b := L.length) (fun i j hij hj => by
      have := k4 i j hij hj
      rw [hDk _ (htr9 i (by omega)).1 (htr9 i (by omega)).2, hDk _ (htr9 j hj).1 (htr9 j hj).2] at this
      exact this) hsr htr9 hL9 (fun i hi => (k5 (tr' i)).mp ⟨i, hi, rfl⟩) (fun j hj => (k5 _).mpr ⟨j, hj, rfl⟩)
    have hw0 : wkF w1 wb L 0 = wb := rfl
    have hsl : ∀ i, i < s' → isM w1 (tr' i) ∧ 0 ≤ slF w1 (tr' i) := fun i hi => by
      refine ⟨(hSC.isM hS.1.2 _).mp (k3.2.2.2 i hi).1, ?_⟩
      have := (hnl i (by omega)).2
      rw [← hLt i hi] at this
      unfold dsF at this
      split at this <;> omega
    have hx3 : x' = 3 ∨ (110 ≤ x' ∧ kd kap u2 x' = some (ckR 0 cap')) := by
      rcases k3.1.2.2.1 with ⟨q1, -⟩ | ⟨q1, q2, -⟩
      · exact Or.inl q1
      · exact Or.inr ⟨(k3.2.2.1 (by have := k3.2.1; omega)).1, q2⟩
    have h170 := cc_round_170 (τ := τ) (w1 := w1) (wb := wb) (L := L) (s := s') (x := x') (cap := cap') (C := C) (tr := tr') (d := d) (Q := Q) (i1 := i1) (a2 := a2) (o3 := some (.inr p)) (o5 := o5) (o6 := o6) (o7 := o7) hS hnv hC k6 hd (by omega) (fun i hi => (hLt i hi).symm) hsl s' 0 u2 (by omega) k1 (by rw [hw0]; exact k2.1) k2.2.1 (by rw [hw0]; exact k2.2.2) (by rw [hw0]; exact hSC.rc hS) (by rw [hw0]; exact hbd.mono (by omega)) k3.1 (fun i hi => (k3.2.2.2 i hi).2) hx3 (fun u3 f1 f2 f3 f4 => ?_)
    ·
      refine wc_iconst dX0_round_167 ?_
      refine wc_istore dX0_round_168 rfl ?_
      exact h170
    · have he : wkF w1 wb L s' = L.foldl (fun u x => actF (slF w1) (frF w1) u x.1) wb := by unfold wkF; rw [hs', List.take_length]
      rw [he] at f3 f4
      refine K u3 f1 f3 ⟨f4.1, f4.2.1, f4.2.2.mono (by omega)⟩ ?_
      unfold nvC uC at *
      rw [f2]
      omega
end RN5
