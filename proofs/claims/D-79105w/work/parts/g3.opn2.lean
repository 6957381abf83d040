/-! THE CLASS'S METHODS, 43: a member more, laws -/
set_option maxRecDepth 100000
section OPN2
variable {w w' : Nat → Int} {m c v C x y : Int} {d n i j k a b s : Nat}
theorem opn_cel (h0 : 0 ≤ w 0 ∧ w 0 ≤ 9) (a : Int) (ha : 0 ≤ a ∧ a ≤ 9) : celF (opnF w c) a = if a = w 0 then c else celF w a := by
  have e := opn_at (c := c) h0 (12 + 6 * a + 0).toNat
  unfold celF
  rw [e, if_neg (by omega), if_neg (by omega)]
  by_cases q : a = w 0
  · rw [if_pos (by omega), if_pos q]
  · rw [if_neg (by omega), if_neg (by omega), if_neg (by omega), if_neg q]
theorem opn_0 (h0 : 0 ≤ w 0 ∧ w 0 ≤ 9) : opnF w c 0 = w 0 + 1 := by rw [opn_at h0, if_pos rfl]
theorem opn_hi (h0 : 0 ≤ w 0 ∧ w 0 ≤ 9) (hj : (1 ≤ j ∧ j ≤ 10) ∨ 72 ≤ j) : opnF w c j = w j := by
  rw [opn_at h0, if_neg (by omega), if_neg (by omega), if_neg (by omega), if_neg (by omega), if_neg (by omega)]
theorem opn_isM (h0 : 0 ≤ w 0 ∧ w 0 ≤ 9) (hc : 0 ≤ c) (a : Int) : isM (opnF w c) a ↔ (isM w a ∨ a = w 0) := by
  have e0 := opn_0 (c := c) h0
  constructor
  · intro q
    by_cases qa : a = w 0
    · exact Or.inr qa
    · have q1 := q.1
      rw [e0] at q1
      have q2 : 0 ≤ celF (opnF w c) a := q.2
      rw [opn_cel h0 a ⟨q1.1, by omega⟩, if_neg qa] at q2
      exact Or.inl ⟨⟨q1.1, by omega⟩, q2⟩
  · intro q
    rcases q with q | q
    · refine ⟨by rw [e0]; have := q.1; omega, ?_⟩
      show 0 ≤ celF (opnF w c) a
      rw [opn_cel h0 a (isM_le q (by omega)), if_neg (by have := q.1; omega)]
      exact q.2
    · refine ⟨by rw [e0]; omega, ?_⟩
      show 0 ≤ celF (opnF w c) a
      rw [opn_cel h0 a (by omega), if_pos q]
      exact hc
theorem opn_inj (h : InjM w) (h0 : 0 ≤ w 0 ∧ w 0 ≤ 9) (hc : 0 ≤ c) (ho : onF w c < 0) : InjM (opnF w c) := fun a b qa qb e => by
  have h10 : w 0 ≤ 10 := by omega
  rw [opn_isM h0 hc] at qa qb
  have ra : 0 ≤ a ∧ a ≤ 9 := by
    rcases qa with q | q
    · exact isM_le q h10
    · omega
  have rb : 0 ≤ b ∧ b ≤ 9 := by
    rcases qb with q | q
    · exact isM_le q h10
    · omega
  rw [opn_cel h0 a ra, opn_cel h0 b rb] at e
  rcases qa with q | q <;> rcases qb with r | r
  · rw [if_neg (by have := q.1; omega), if_neg (by have := r.1; omega)] at e
    exact h a b q r e
  · rw [if_neg (by have := q.1; omega), if_pos r] at e
    exact absurd e (onF_no h10 ho q)
  · rw [if_pos q, if_neg (by have := r.1; omega)] at e
    exact absurd e.symm (onF_no h10 ho r)
  · omega
theorem opn_onF (h : InjM w) (h0 : 0 ≤ w 0 ∧ w 0 ≤ 9) (hc : 0 ≤ c) (ho : onF w c < 0) (x : Int) : onF (opnF w c) x = if x = c then w 0 else onF w x := by
  have h10 : w 0 ≤ 10 := by omega
  have e0 := opn_0 (c := c) h0
  have hj := opn_inj h h0 hc ho
  by_cases q : x = c
  · rw [if_pos q]
    exact onF_eq hj (by omega) ((opn_isM h0 hc _).mpr (Or.inr rfl)) (by rw [opn_cel h0 _ h0, if_pos rfl]; exact q.symm)
  · rw [if_neg q]
    have hr := onF_rng w x
    by_cases r : 0 ≤ onF w x
    · have r2 := hr.2.2 r
      exact onF_eq hj (by omega) ((opn_isM h0 hc _).mpr (Or.inl r2.1)) (by rw [opn_cel h0 _ (isM_le r2.1 h10), if_neg (by have := r2.1.1; omega)]; exact r2.2)
    · have e1 : onF w x = -1 := by omega
      rw [e1]
      refine onF_none (fun a qa e => ?_)
      rw [opn_isM h0 hc] at qa
      rcases qa with qa | qa
      · rw [opn_cel h0 _ (isM_le qa h10), if_neg (by have := qa.1; omega)] at e
        exact onF_no h10 (by omega) qa e
      · rw [opn_cel h0 _ (by omega), if_pos qa] at e
        exact q e.symm
end OPN2
