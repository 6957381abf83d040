/-! HOW THE CLASS'S WRITES CHANGE THE ROW -/
set_option maxRecDepth 100000
section UPD
variable {w : Nat → Int} {τ t : CT} {m c k v p : Int} {T : Nat → Option CK} {j i : Nat}
theorem isM_upd (h : w 0 ≤ 10) (hi : i ≠ 0 ∧ ∀ m : Int, 0 ≤ m → m ≤ 9 → i ≠ (12 + 6 * m + 0).toNat) (m : Int) : isM (updW w i v) m ↔ isM w m := isM_congr (upd_ne (Ne.symm hi.1)) h (fun m m0 m1 => by unfold celF; rw [upd_ne (Ne.symm (hi.2 m m0 m1))]) m
theorem celF_upd (hi : ∀ m : Int, 0 ≤ m → m ≤ 9 → i ≠ (12 + 6 * m + 0).toNat) (hm : 0 ≤ m ∧ m ≤ 9) : celF (updW w i v) m = celF w m := by unfold celF; rw [upd_ne (Ne.symm (hi m hm.1 hm.2))]
theorem onF_upd (h : w 0 ≤ 10) (hi : i ≠ 0 ∧ ∀ m : Int, 0 ≤ m → m ≤ 9 → i ≠ (12 + 6 * m + 0).toNat) (c : Int) : onF (updW w i v) c = onF w c := onF_congr (upd_ne (Ne.symm hi.1)) h (fun m m0 m1 => celF_upd hi.2 ⟨m0, m1⟩) c
theorem InjM.upd (hj : InjM w) (h : w 0 ≤ 10) (hi : i ≠ 0 ∧ ∀ m : Int, 0 ≤ m → m ≤ 9 → i ≠ (12 + 6 * m + 0).toNat) : InjM (updW w i v) := fun a b ha hb he => by
  rw [isM_upd h hi] at ha hb
  rw [celF_upd hi.2 (isM_le ha h), celF_upd hi.2 (isM_le hb h)] at he
  exact hj a b ha hb he
theorem accF_upd (hi : 12 ≤ i ∧ i < 72 ∨ i < 4) (hk : 0 ≤ k ∧ k < 8) : accF (updW w i v) k = accF w k := by
  unfold accF
  rw [upd_ne (by omega), oF_congr 120 0 (by omega) (fun j j0 j1 => upd_ne (by omega))]
theorem MemC.st {y x : Nat} (h : MemC τ w m y) (hx : x ≠ y) : MemC (stC τ x j v) w m y := by
  obtain ⟨h1, h2⟩ := h
  refine ⟨h1, ?_⟩
  rw [sg_st' (Ne.symm hx)]
  exact h2
theorem MemC.row {w' : Nat → Int} {y : Nat} (h : MemC τ w m y) (hw : ∀ q : Int, 0 ≤ q → q ≤ 5 → w' (12 + 6 * m + q).toNat = w (12 + 6 * m + q).toNat) : MemC τ w' m y := by
  obtain ⟨h1, h2, h3, h4, h5, h6, h7, h8⟩ := h
  exact ⟨h1, h2, by rw [h3]; exact (hw 0 (by omega) (by omega)).symm, by rw [h4, hw 5 (by omega) (by omega)], by rw [h5, hw 1 (by omega) (by omega)], by rw [h6, hw 2 (by omega) (by omega)], by rw [h7, hw 3 (by omega) (by omega)], by rw [h8, hw 4 (by omega) (by omega)]⟩
/-- a member's count or reason -/
theorem Wd.fld (hjp : (j = 2 ∧ p = 5) ∨ (j = 3 ∧ p = 1) ∨ (j = 4 ∧ p = 2) ∨ (j = 5 ∧ p = 3) ∨ (j = 6 ∧ p = 4)) (h : Wd w τ) (h0 : w 0 ≤ 10) (hm : isM w m) : Wd (updW w (12 + 6 * m + p).toNat v) (stC τ (mnC τ m) j v) := by
  have hr := isM_le hm h0
  have hM := h.mem h0 hm
  have hp : 1 ≤ p ∧ p ≤ 5 := by omega
  have hi : (12 + 6 * m + p).toNat ≠ 0 ∧ ∀ m' : Int, 0 ≤ m' → m' ≤ 9 → (12 + 6 * m + p).toNat ≠ (12 + 6 * m' + 0).toNat := ⟨by omega, fun m' a b => by omega⟩
  have hsg : ∀ x, x < 110 → sg (stC τ (mnC τ m) j v) x = sg τ x := fun x hx => sg_st' (by have := hM.1.1; omega)
  obtain ⟨⟨h1, h2, h3, h4, h5, h6⟩, h7⟩ := id h
  refine ⟨⟨fun c c0 c1 => ?_, fun m' m0 m1 => ?_, fun k k0 k1 => ?_, ?_, ?_, ?_⟩, fun m' hm' m0 m1 => ?_⟩
  · rw [hsg _ (by omega), hsg _ (by omega), upd_ne (by omega), onF_upd h0 hi]
    exact h1 c c0 c1
  · rw [hsg _ (by omega), isM_upd h0 hi]
    refine ⟨fun q => ?_, (h2 m' m0 m1).2⟩
    by_cases e : m' = m
    · subst e
      obtain ⟨g1, g2, g3, g4, g5, g6, g7, g8⟩ := hM
      refine ⟨g1, ?_⟩
      show sg (stC τ (mnC τ m') j v) (mnC τ m') 0 = _ ∧ sg (stC τ (mnC τ m') j v) (mnC τ m') 1 = _ ∧ sg (stC τ (mnC τ m') j v) (mnC τ m') 2 = _ ∧ sg (stC τ (mnC τ m') j v) (mnC τ m') 3 = _ ∧ sg (stC τ (mnC τ m') j v) (mnC τ m') 4 = _ ∧ sg (stC τ (mnC τ m') j v) (mnC τ m') 5 = _ ∧ sg (stC τ (mnC τ m') j v) (mnC τ m') 6 = _
      rw [sg_st, sg_st, sg_st, sg_st, sg_st, sg_st, sg_st, celF_upd hi.2 hr, g2, g3, g4, g5, g6, g7, g8]
      unfold updW
      rcases hjp with ⟨rfl, rfl⟩ | ⟨rfl, rfl⟩ | ⟨rfl, rfl⟩ | ⟨rfl, rfl⟩ | ⟨rfl, rfl⟩
      all_goals
        refine ⟨rfl, rfl, ?_, ?_, ?_, ?_, ?_⟩ <;> (first | (rw [if_pos rfl, if_pos rfl]; done) | (rw [if_neg (by decide), if_neg (by omega)]))
    · exact (((h.mem h0 q).st (fun r => h.inj h0 hm q (Ne.symm e) r.symm)).row (fun q q0 q1 => upd_ne (by omega)))
  · rw [hsg _ (by omega), accF_upd (by omega) ⟨k0, k1⟩]
    exact h3 k k0 k1
  · rw [hsg _ (by omega), h4]
    unfold ldC
    rw [upd_ne (by omega)]
  · rw [hsg _ (by omega), h5]
    unfold tgC
    rw [upd_ne (by omega)]
  · rw [hsg _ (by omega), h6, upd_ne (by omega)]
  · rw [isM_upd h0 hi] at hm'
    have := h7 m' hm' m0 m1
    unfold mnC
    rw [hsg _ (by omega)]
    exact this
/-- an account -/
theorem Wd.cnt (h : Wd w τ) (h0 : w 0 ≤ 10) (hk : 0 ≤ k ∧ k < 8 ∧ k ≠ 6) : Wd (updW w (4 + k).toNat v) (stC τ 105 k.toNat v) := by
  have hi : (4 + k).toNat ≠ 0 ∧ ∀ m' : Int, 0 ≤ m' → m' ≤ 9 → (4 + k).toNat ≠ (12 + 6 * m' + 0).toNat := ⟨by omega, fun m' a b => by omega⟩
  have hsg : ∀ x, x ≠ 105 → sg (stC τ 105 k.toNat v) x = sg τ x := fun x hx => sg_st' hx
  obtain ⟨⟨h1, h2, h3, h4, h5, h6⟩, h7⟩ := id h
  refine ⟨⟨fun c c0 c1 => ?_, fun m' m0 m1 => ?_, fun k' k0 k1 => ?_, ?_, ?_, ?_⟩, fun m' hm' m0 m1 => ?_⟩
  · rw [hsg _ (by omega), hsg _ (by omega), upd_ne (by omega), onF_upd h0 hi]
    exact h1 c c0 c1
  · rw [hsg _ (by omega), isM_upd h0 hi]
    exact ⟨fun q => ((h.mem h0 q).st (by have g := (h.mem h0 q).1.1; intro r; rw [← r] at g; omega)).row (fun q q0 q1 => upd_ne (by omega)), (h2 m' m0 m1).2⟩
  · rw [sg_st]
    unfold accF updW
    by_cases e : k' = k
    · subst e
      rw [if_pos rfl, if_neg hk.2.2, if_pos rfl]
    · rw [if_neg (by omega), h3 k' k0 k1]
      unfold accF
      rw [if_neg (show ¬ (4 + k').toNat = (4 + k).toNat by omega)]
      by_cases e6 : k' = 6
      · rw [if_pos e6, if_pos e6]
        exact (oF_congr 120 0 (by omega) (fun j j0 j1 => upd_ne (v := v) (i := (4 + k).toNat) (by omega))).symm
      · rw [if_neg e6, if_neg e6]
  · rw [hsg _ (by omega), h4]
    unfold ldC
    rw [upd_ne (by omega)]
  · rw [hsg _ (by omega), h5]
    unfold tgC
    rw [upd_ne (by omega)]
  · rw [hsg _ (by omega), h6, upd_ne (by omega)]
  · rw [isM_upd h0 hi] at hm'
    have := h7 m' hm' m0 m1
    unfold mnC
    rw [hsg _ (by omega)]
    exact this
/-- leader, target, shape -/
theorem Wd.fld1 (h : Wd w τ) (h0 : w 0 ≤ 10) {i : Nat} (hx : (j = 5 ∧ i = 1 ∧ c = (if v < 0 then -5 else v)) ∨ (j = 6 ∧ i = 2 ∧ c = (if v < 0 then -5 else v)) ∨ (j = 7 ∧ i = 3 ∧ c = v)) : Wd (updW w i v) (stC τ 100 j c) := by
  have hi : i ≠ 0 ∧ ∀ m' : Int, 0 ≤ m' → m' ≤ 9 → i ≠ (12 + 6 * m' + 0).toNat := ⟨by omega, fun m' a b => by omega⟩
  have hsg : ∀ x, x ≠ 100 → sg (stC τ 100 j c) x = sg τ x := fun x hx => sg_st' hx
  obtain ⟨⟨h1, h2, h3, h4, h5, h6⟩, h7⟩ := id h
  refine ⟨⟨fun c c0 c1 => ?_, fun m' m0 m1 => ?_, fun k' k0 k1 => ?_, ?_, ?_, ?_⟩, fun m' hm' m0 m1 => ?_⟩
  · rw [hsg _ (by omega), hsg _ (by omega), upd_ne (by omega), onF_upd h0 hi]
    exact h1 c c0 c1
  · rw [hsg _ (by omega), isM_upd h0 hi]
    exact ⟨fun q => ((h.mem h0 q).st (by have g := (h.mem h0 q).1.1; intro r; rw [← r] at g; omega)).row (fun q q0 q1 => upd_ne (by omega)), (h2 m' m0 m1).2⟩
  · rw [hsg _ (by omega), accF_upd (by omega) ⟨k0, k1⟩]
    exact h3 k' k0 k1
  · rw [sg_st]
    unfold ldC updW
    rcases hx with ⟨rfl, rfl, rfl⟩ | ⟨rfl, rfl, rfl⟩ | ⟨rfl, rfl, rfl⟩
    · simp
    · simp [h4, ldC]
    · simp [h4, ldC]
  · rw [sg_st]
    unfold tgC updW
    rcases hx with ⟨rfl, rfl, rfl⟩ | ⟨rfl, rfl, rfl⟩ | ⟨rfl, rfl, rfl⟩
    · simp [h5, tgC]
    · simp
    · simp [h5, tgC]
  · rw [sg_st]
    unfold updW
    rcases hx with ⟨rfl, rfl, rfl⟩ | ⟨rfl, rfl, rfl⟩ | ⟨rfl, rfl, rfl⟩
    · simpa using h6
    · simpa using h6
    · simp
  · rw [isM_upd h0 hi] at hm'
    have := h7 m' hm' m0 m1
    unfold mnC
    rw [hsg _ (by omega)]
    exact this
end UPD
