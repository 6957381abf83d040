/-! SETS OF SLOTS, AND WHAT THE LEAST SUM IS -/
set_option maxRecDepth 100000
theorem ten {s : Int} (h : 0 ≤ s ∧ s < 10) : s = 0 ∨ s = 1 ∨ s = 2 ∨ s = 3 ∨ s = 4 ∨ s = 5 ∨ s = 6 ∨ s = 7 ∨ s = 8 ∨ s = 9 := by omega
theorem bit01 (A s : Int) : bitF A s = 0 ∨ bitF A s = 1 := by unfold bitF; omega
theorem pw2 (s : Nat) : (1 : Int) ≤ 2 ^ s := by
  have : (0 : Int) < 2 ^ s := Int.pow_pos (by decide)
  omega
/-- a bit below -/
theorem bit_lo {A : Int} {s e : Nat} (h : e < s) : ((A + 2 ^ s) / 2 ^ e) % 2 = (A / 2 ^ e) % 2 := by
  obtain ⟨k, rfl⟩ : ∃ k, s = e + (k + 1) := ⟨s - e - 1, by omega⟩
  have hp := pw2 e
  rw [Int.pow_add, Int.add_mul_ediv_left _ _ (by omega), Int.pow_succ]
  omega
theorem bit_eq {A : Int} {s : Nat} : ((A + 2 ^ s) / 2 ^ s) % 2 = 1 - (A / 2 ^ s) % 2 := by
  have hp := pw2 s
  have := Int.add_mul_ediv_left A 1 (show (2 : Int) ^ s ≠ 0 by omega)
  rw [Int.mul_one] at this
  rw [this]
  omega
/-- a bit above, when bit s is 0 -/
theorem bit_hi {A : Int} {s e : Nat} (h : s < e) (h0 : (A / 2 ^ s) % 2 = 0) : (A + 2 ^ s) / 2 ^ e = A / 2 ^ e := by
  obtain ⟨k, rfl⟩ : ∃ k, e = s + (k + 1) := ⟨e - s - 1, by omega⟩
  have hp := pw2 s
  have hk := pw2 k
  rw [Int.pow_add, ← Int.ediv_ediv_of_nonneg (show (0 : Int) ≤ 2 ^ s by omega), ← Int.ediv_ediv_of_nonneg (show (0 : Int) ≤ 2 ^ s by omega)]
  have := Int.add_mul_ediv_left A 1 (show (2 : Int) ^ s ≠ 0 by omega)
  rw [Int.mul_one] at this
  rw [this, Int.pow_succ, Int.mul_comm, ← Int.ediv_ediv_of_nonneg (show (0 : Int) ≤ 2 by omega), ← Int.ediv_ediv_of_nonneg (show (0 : Int) ≤ 2 by omega)]
  rw [show (A / 2 ^ s + 1) / 2 = (A / 2 ^ s) / 2 by omega]
theorem bit_add {A s e : Int} (hs : 0 ≤ s) (he : 0 ≤ e) (h0 : bitF A s = 0) : bitF (A + 2 ^ s.toNat) e = if e = s then 1 else bitF A e := by
  unfold bitF at *
  by_cases q : e = s
  · rw [if_pos q, q, bit_eq, h0]; decide
  · rw [if_neg q]
    by_cases l : e < s
    · exact bit_lo (by omega)
    · rw [bit_hi (s := s.toNat) (e := e.toNat) (by omega) h0]
theorem bit_set {A s e : Int} (hs : 0 ≤ s) (he : 0 ≤ e) : bitF (setF A s) e = if e = s then 1 else bitF A e := by
  unfold setF
  split
  · rename_i h
    by_cases q : e = s
    · rw [if_pos q, q, h]
    · rw [if_neg q]
  · rename_i h
    exact bit_add hs he (by rcases bit01 A s with q | q; exact q; exact absurd q h)
theorem bit_clr {A s e : Int} (hs : 0 ≤ s) (he : 0 ≤ e) : bitF (clrF A s) e = if e = s then 0 else bitF A e := by
  unfold clrF
  split
  · rename_i h
    have h2 : bitF (A - 2 ^ s.toNat) s = 0 := by
      unfold bitF at h ⊢
      have := bit_eq (A := A - 2 ^ s.toNat) (s := s.toNat)
      rw [Int.sub_add_cancel, h] at this
      omega
    have := bit_add (A := A - 2 ^ s.toNat) hs he h2
    rw [Int.sub_add_cancel] at this
    by_cases q : e = s
    · rw [if_pos q, q, h2]
    · rw [if_neg q] at this ⊢
      exact this.symm
  · rename_i h
    by_cases q : e = s
    · rw [if_pos q, q]
      rcases bit01 A s with r | r
      · exact r
      · exact absurd r h
    · rw [if_neg q]
/-- the sets agree below n -/
def BE (n : Nat) (A B : Int) : Prop := ∀ s : Int, 0 ≤ s → s < n → bitF A s = bitF B s
theorem BE.clr {n : Nat} {A B s : Int} (h : BE n A B) (hs : 0 ≤ s) : BE n (clrF A s) (clrF B s) := fun e e0 e1 => by
  rw [bit_clr hs e0, bit_clr hs e0, h e e0 e1]
theorem bst_congr {v : Int → Int} {W : Int → Int} {A B : Int} {n : Nat} (hW : ∀ A B, BE n A B → W A = W B) (h : BE n A B) : ∀ (j : Nat) (s most : Int), 0 ≤ s → s + j ≤ n → bstF v W A j s most = bstF v W B j s most := by
  intro j
  induction j with
  | zero => intro s most _ _; rfl
  | succ j ih =>
    intro s most h0 h1
    unfold bstF
    rw [h s h0 (by omega), hW _ _ (h.clr h0)]
    exact ih _ _ (by omega) (by omega)
theorem wth_congr {v : Int → Int → Int} {n : Nat} : ∀ (k : Nat) (A B : Int), BE n A B → wthF v n k A = wthF v n k B := by
  intro k
  induction k with
  | zero => intro A B _; rfl
  | succ k ih =>
    intro A B h
    unfold wthF
    rw [bst_congr ih h n 0 _ (by omega) (by omega), ih A B h]
theorem bst_none {v : Int → Int} {W : Int → Int} {A : Int} : ∀ (j : Nat) (s most : Int), (∀ e : Int, s ≤ e → e < s + j → v e = 0) → bstF v W A j s most = most := by
  intro j
  induction j with
  | zero => intro s most _; rfl
  | succ j ih =>
    intro s most h
    unfold bstF
    rw [if_pos (Or.inr (h s (Int.le_refl _) (by omega)))]
    exact ih _ _ (fun e e0 e1 => h e (by omega) (by omega))
theorem wth_skip {v : Int → Int → Int} {n k : Nat} {A : Int} (h : ∀ s : Int, 0 ≤ s → s < n → v (9 - k) s = 0) : wthF v n (k + 1) A = wthF v n k A := by
  conv => lhs; unfold wthF
  exact bst_none n 0 _ (fun e e0 e1 => h e e0 (by omega))
/-- nobody's row is empty -/
theorem wof_non {w : Nat → Int} {m s : Int} (h : ¬ (isM w m ∧ m ≠ ledF w)) : wofF w m s = 0 := by
  unfold wofF
  rw [if_neg (fun q => h ⟨q.1, q.2.1⟩)]
/-- members other than the leader among the last k -/
def nkF (w : Nat → Int) : Nat → Int
  | 0 => 0
  | k + 1 => nkF w k + if isM w (9 - k) ∧ (9 - (k : Int)) ≠ ledF w then 1 else 0
theorem nk_rng (w : Nat → Int) : ∀ k, 0 ≤ nkF w k ∧ nkF w k ≤ k := by
  intro k
  induction k with
  | zero => exact ⟨Int.le_refl _, Int.le_refl _⟩
  | succ k ih =>
    unfold nkF
    split <;> omega
def coF (w : Nat → Int) (n k : Nat) (A : Int) : Int := 10000 * nkF w k - wthF (wofF w) n k A
theorem wof_rng {w : Nat → Int} {m s : Int} (hf : frF w s (celF w m) < 1000) : 0 ≤ wofF w m s ∧ wofF w m s ≤ 10000 := by
  unfold wofF
  split
  · split <;> omega
  · omega
theorem bst_rng {v : Int → Int} {W : Int → Int} {A a b : Int} (hv : ∀ s, 0 ≤ v s ∧ v s ≤ 10000) (hW : ∀ A, a ≤ W A ∧ W A ≤ b) : ∀ (j : Nat) (s most : Int), a ≤ most → most ≤ b + 10000 → a ≤ bstF v W A j s most ∧ bstF v W A j s most ≤ b + 10000 := by
  intro j
  induction j with
  | zero => intro s most h1 h2; exact ⟨h1, h2⟩
  | succ j ih =>
    intro s most h1 h2
    unfold bstF
    have a1 := hv s
    have a2 := hW (clrF A s)
    split
    · exact ih _ _ h1 h2
    · split
      · exact ih _ _ h1 h2
      · exact ih _ _ (by omega) (by omega)
theorem wth_rng {v : Int → Int → Int} {n : Nat} (hv : ∀ m s, 0 ≤ v m s ∧ v m s ≤ 10000) : ∀ (k : Nat) (A : Int), 0 ≤ wthF v n k A ∧ wthF v n k A ≤ 10000 * k := by
  intro k
  induction k with
  | zero => intro A; exact ⟨Int.le_refl _, Int.le_refl _⟩
  | succ k ih =>
    intro A
    unfold wthF
    have := bst_rng (v := v (9 - k)) (W := wthF v n k) (A := A) (a := 0) (b := 10000 * k) (hv (9 - k)) ih n 0 (wthF v n k A) (ih A).1 (by have := (ih A).2; omega)
    omega
theorem co_rng {w : Nat → Int} {n k : Nat} {A : Int} (hf : ∀ m s, frF w s (celF w m) < 1000) : -10000 * k ≤ coF w n k A ∧ coF w n k A ≤ 10000 * k := by
  unfold coF
  have a := nk_rng w k
  have b := wth_rng (v := wofF w) (n := n) (fun m s => wof_rng (hf m s)) k A
  omega
/-- T is taken, A is left -/
def BR (w : Nat → Int) (n : Nat) (T A : Int) : Prop := (0 ≤ T ∧ T < 1024) ∧ (0 ≤ A ∧ A < 1024) ∧ ∀ s : Int, 0 ≤ s → s < n → (bitF A s = 1 ↔ 0 ≤ pl0F w s ∧ bitF T s = 0)
theorem BR.eq {w : Nat → Int} {n : Nat} {T A B : Int} (h : BR w n T A) (g : BR w n T B) : BE n A B := fun s s0 s1 => by
  have a := h.2.2 s s0 s1
  have b := g.2.2 s s0 s1
  rcases bit01 A s with q | q <;> rcases bit01 B s with r | r
  · rw [q, r]
  · exact absurd (a.mpr (b.mp r)) (by omega)
  · exact absurd (b.mpr (a.mp q)) (by omega)
  · rw [q, r]
theorem BR.co {w : Nat → Int} {n k : Nat} {T A B : Int} (h : BR w n T A) (g : BR w n T B) : coF w n k A = coF w n k B := by
  unfold coF
  rw [wth_congr k A B (h.eq g)]
theorem BR.step {w : Nat → Int} {n : Nat} {T A s : Int} (h : BR w n T A) (hs : 0 ≤ s ∧ s < 10) : BR w n (setF T s) (clrF A s) := by
  have a := b_rng h.1 hs
  have b := b_rng h.2.1 hs
  refine ⟨a.2.1, ⟨b.1.1, by have := h.2.1; omega⟩, fun e e0 e1 => ?_⟩
  rw [bit_clr hs.1 e0, bit_set hs.1 e0]
  by_cases q : e = s
  · rw [if_pos q, if_pos q]
    omega
  · rw [if_neg q, if_neg q]
    exact h.2.2 e e0 e1
theorem bit_0 (s : Int) : bitF 0 s = 0 := by unfold bitF; rw [Int.zero_ediv]; rfl
theorem lft_rng {w : Nat → Int} : ∀ (k : Nat) (s A : Int), 0 ≤ s → s + k ≤ 10 → 0 ≤ A → A < 1024 → 0 ≤ lftF w k s A ∧ lftF w k s A < 1024 := by
  intro k
  induction k with
  | zero => intro s A _ _ h1 h2; exact ⟨h1, h2⟩
  | succ k ih =>
    intro s A h0 hs h1 h2
    unfold lftF
    split
    · exact ih _ _ (by omega) (by omega) h1 h2
    · have := (b_rng ⟨h1, h2⟩ (show 0 ≤ s ∧ s < 10 by omega)).2.1
      exact ih _ _ (by omega) (by omega) this.1 this.2
theorem lft_bit {w : Nat → Int} : ∀ (k : Nat) (s A e : Int), 0 ≤ s → 0 ≤ e → bitF (lftF w k s A) e = if s ≤ e ∧ e < s + k ∧ 0 ≤ pl0F w e then 1 else bitF A e := by
  intro k
  induction k with
  | zero => intro s A e h0 he; rw [if_neg (by omega)]; rfl
  | succ k ih =>
    intro s A e h0 he
    unfold lftF
    rw [ih _ _ _ (by omega) he]
    by_cases q : e = s
    · subst q
      rw [if_neg (by omega)]
      by_cases p : pl0F w e < 0
      · rw [if_pos p, if_neg (by omega)]
      · rw [if_neg p, bit_set h0 h0, if_pos rfl, if_pos (by omega)]
    · by_cases r : s + 1 ≤ e ∧ e < s + 1 + k ∧ 0 ≤ pl0F w e
      · rw [if_pos r, if_pos (by omega)]
      · have r2 : ¬ (s ≤ e ∧ e < s + ((k + 1 : Nat) : Int) ∧ 0 ≤ pl0F w e) := by omega
        rw [if_neg r, if_neg r2]
        split
        · rfl
        · rw [bit_set h0 he, if_neg q]
theorem BR.zero {w : Nat → Int} {n : Nat} (hn : n ≤ 10) : BR w n 0 (lftF w n 0 0) := by
  refine ⟨⟨by omega, by omega⟩, lft_rng n 0 0 (by omega) (by omega) (by omega) (by omega), fun s s0 s1 => ?_⟩
  rw [lft_bit n 0 0 s (by omega) s0, bit_0]
  by_cases q : 0 ≤ pl0F w s
  · rw [if_pos ⟨s0, by omega, q⟩]; exact ⟨fun _ => ⟨q, rfl⟩, fun _ => rfl⟩
  · rw [if_neg (fun r => q r.2.2)]; exact ⟨fun r => by omega, fun r => absurd r.1 q⟩
