/-! THE CLASS'S METHODS, 42: a member more -/
set_option maxRecDepth 100000
section OPN
variable {w w' : Nat → Int} {R : Nat → Nat → Int} {τ t u t4 : CT} {m c v C x y : Int} {d n i j k a b s : Nat} {Q : Option AV → CT → Prop}
theorem ly_at (hm : 0 ≤ m) : ∀ (k : Nat) (i : Int) (w : Nat → Int) (j : Nat), 0 ≤ i → lyF m k i w j = if 12 + 6 * m + i ≤ (j : Int) ∧ (j : Int) < 12 + 6 * m + i + k then 0 else w j := by
  intro k
  induction k with
  | zero => intro i w j _; rw [if_neg (by omega)]; rfl
  | succ k ih =>
    intro i w j hi
    show lyF m k (i + 1) (updW w (12 + 6 * m + i).toNat 0) j = _
    rw [ih (i + 1) _ j (by omega)]
    by_cases q : 12 + 6 * m + (i + 1) ≤ (j : Int) ∧ (j : Int) < 12 + 6 * m + (i + 1) + k
    · rw [if_pos q, if_pos (by omega)]
    · rw [if_neg q]
      by_cases r : j = (12 + 6 * m + i).toNat
      · rw [if_pos (by omega), r]
        exact upd_at
      · rw [if_neg (by omega), upd_ne r]
/-- the row with a member more, place by place -/
theorem opn_at (h0 : 0 ≤ w 0 ∧ w 0 ≤ 9) (j : Nat) : opnF w c j = if j = 0 then w 0 + 1 else if j = 11 then w 11 + 1 else if (j : Int) = 12 + 6 * w 0 then c else if (j : Int) = 12 + 6 * w 0 + 5 then -5 else if 12 + 6 * w 0 ≤ (j : Int) ∧ (j : Int) < 12 + 6 * w 0 + 6 then 0 else w j := by
  unfold opnF cntW
  by_cases q11 : j = 11
  · rw [if_neg (by omega), if_pos q11, q11]
    have e : ((4 : Int) + 7).toNat = 11 := rfl
    rw [e, upd_at, upd_ne (by omega), upd_ne (by omega), ly_at h0.1 6 0 _ 11 (by omega), if_neg (by omega), upd_ne (by omega)]
  · have e : ((4 : Int) + 7).toNat = 11 := rfl
    rw [e, upd_ne q11]
    by_cases q5 : (j : Int) = 12 + 6 * w 0 + 5
    · rw [if_neg (by omega), if_neg q11, if_neg (by omega), if_pos q5]
      have e2 : j = (12 + 6 * w 0 + 5).toNat := by omega
      rw [e2, upd_at]
    · rw [upd_ne (by omega)]
      by_cases q0 : (j : Int) = 12 + 6 * w 0
      · rw [if_neg (by omega), if_neg q11, if_pos q0]
        have e2 : j = (12 + 6 * w 0 + 0).toNat := by omega
        rw [e2, upd_at]
      · rw [upd_ne (by omega), ly_at h0.1 6 0 _ j (by omega)]
        by_cases qz : j = 0
        · rw [if_neg (by omega), if_pos qz, qz, upd_at]
        · rw [if_neg qz, if_neg q11, if_neg q0, if_neg q5]
          by_cases qr : 12 + 6 * w 0 ≤ (j : Int) ∧ (j : Int) < 12 + 6 * w 0 + 6
          · rw [if_pos (by omega), if_pos qr]
          · rw [if_neg (by omega), if_neg qr, upd_ne qz]
end OPN
