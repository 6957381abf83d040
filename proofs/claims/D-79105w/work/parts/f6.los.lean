/-! THE CLASS'S METHODS, 36: a member lost -/
set_option maxRecDepth 100000
section LOS
variable {w w' : Nat → Int} {R : Nat → Nat → Int} {τ t u t4 : CT} {m c v C : Int} {d x y n i j k a b s : Nat} {Q : Option AV → CT → Prop}
theorem los_ne {i : Nat} (h1 : i ≠ (12 + 6 * m + 0).toNat) (h2 : i ≠ 9) : losF w m i = w i := by
  unfold losF cntW
  rw [upd_ne (by omega), upd_ne h1]
theorem los_cel (hm : 0 ≤ m ∧ m ≤ 9) (a : Int) (ha : 0 ≤ a ∧ a ≤ 9) : celF (losF w m) a = if a = m then -1 else celF w a := by
  unfold celF
  by_cases q : a = m
  · rw [if_pos q, q]
    unfold losF cntW
    rw [upd_ne (by omega)]
    exact upd_at
  · rw [if_neg q, los_ne (by omega) (by omega)]
theorem los_isM (h0 : w 0 ≤ 10) (hm : 0 ≤ m ∧ m ≤ 9) (a : Int) : isM (losF w m) a ↔ (isM w a ∧ a ≠ m) := by
  have e0 : losF w m 0 = w 0 := los_ne (by omega) (by omega)
  constructor
  · intro q
    have qa := q.1
    rw [e0] at qa
    have ha : 0 ≤ a ∧ a ≤ 9 := ⟨qa.1, by omega⟩
    have := q.2
    have e : losF w m (12 + 6 * a + 0).toNat = celF (losF w m) a := rfl
    rw [e, los_cel hm a ha] at this
    split at this
    · omega
    · rename_i q2
      exact ⟨⟨qa, this⟩, q2⟩
  · intro ⟨q, q2⟩
    have ha := isM_le q h0
    refine ⟨by rw [e0]; exact q.1, ?_⟩
    show 0 ≤ celF (losF w m) a
    rw [los_cel hm a ha, if_neg q2]
    exact q.2
theorem los_inj (h : InjM w) (h0 : w 0 ≤ 10) (hm : 0 ≤ m ∧ m ≤ 9) : InjM (losF w m) := fun a b qa qb e => by
  rw [los_isM h0 hm] at qa qb
  rw [los_cel hm a (isM_le qa.1 h0), los_cel hm b (isM_le qb.1 h0), if_neg qa.2, if_neg qb.2] at e
  exact h a b qa.1 qb.1 e
theorem los_onF (h : InjM w) (h0 : w 0 ≤ 10) (hm : isM w m) (c : Int) : onF (losF w m) c = if c = celF w m then -1 else onF w c := by
  have hm9 := isM_le hm h0
  have e0 : losF w m 0 = w 0 := los_ne (by omega) (by omega)
  by_cases q : c = celF w m
  · rw [if_pos q]
    refine onF_none (fun a qa e => ?_)
    rw [los_isM h0 hm9] at qa
    rw [los_cel hm9 a (isM_le qa.1 h0), if_neg qa.2] at e
    exact qa.2 (h a m qa.1 hm (e.trans q))
  · rw [if_neg q]
    by_cases ho : 0 ≤ onF w c
    · have hr := (onF_rng w c).2.2 ho
      have hne : onF w c ≠ m := fun r => q (by rw [← hr.2, r]; rfl)
      have h9 := isM_le hr.1 h0
      exact onF_eq (los_inj h h0 hm9) (by rw [e0]; exact h0) ((los_isM h0 hm9 _).mpr ⟨hr.1, hne⟩) (by rw [los_cel hm9 _ h9, if_neg hne]; exact hr.2)
    · have hr := (onF_rng w c).1
      have e1 : onF w c = -1 := by omega
      rw [e1]
      refine onF_none (fun a qa e => ?_)
      rw [los_isM h0 hm9] at qa
      rw [los_cel hm9 a (isM_le qa.1 h0), if_neg qa.2] at e
      exact onF_no h0 (by omega) qa.1 e
end LOS
