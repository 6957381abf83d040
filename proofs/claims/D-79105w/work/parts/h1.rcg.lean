/-! PLAIN LAW: recognizing by the first member -/
/-- how many of n from i on -/
def cntB (p : Int → Bool) : Nat → Int → Int
  | 0, _ => 0
  | n + 1, i => (if p i = true then 1 else 0) + cntB p n (i + 1)
/-- slots of a shape lie on different cells -/
def DS (w : Nat → Int) (x : Int) : Prop := ∀ s s', 0 ≤ s → s < sltF w x → 0 ≤ s' → s' < sltF w x → colF w x s = colF w x s' → rowF w x s = rowF w x s' → s = s'
/-- the class's way: slot s lies on the member f, all lie on members -/
def seeF (w : Nat → Int) (x y f s : Int) : Prop := ∀ s', 0 ≤ s' → s' < sltF w x → 0 ≤ xyF (celF w f % 12 + ((trnR w x s' y).1 - (trnR w x s y).1)) (celF w f / 12 + ((trnR w x s' y).2 - (trnR w x s y).2)) ∧ 0 ≤ onF w (xyF (celF w f % 12 + ((trnR w x s' y).1 - (trnR w x s y).1)) (celF w f / 12 + ((trnR w x s' y).2 - (trnR w x s y).2)))
section RCG
variable {w : Nat → Int} {x y f m s a : Int} {p : Int → Bool} {n : Nat}
theorem cntB_rm (hp : p a = true) : ∀ (k : Nat) (i : Int), cntB p k i = cntB (fun j => p j && decide (j ≠ a)) k i + if i ≤ a ∧ a < i + k then 1 else 0 := by
  intro k
  induction k with
  | zero => intro i; rw [if_neg (by omega)]; rfl
  | succ k ih =>
    intro i
    unfold cntB
    rw [ih]
    by_cases e : i = a
    · subst e
      rw [if_pos hp, if_neg (show ¬ (p i && decide (i ≠ i)) = true by simp), if_neg (by omega), if_pos (by omega)]; omega
    · by_cases q : p i = true
      · rw [if_pos q, if_pos (show (p i && decide (i ≠ a)) = true by simp [q, e])]
        by_cases e2 : i + 1 ≤ a ∧ a < i + 1 + k
        · rw [if_pos e2, if_pos (show i ≤ a ∧ a < i + ((k + 1 : Nat) : Int) by omega)]; omega
        · rw [if_neg e2, if_neg (show ¬ (i ≤ a ∧ a < i + ((k + 1 : Nat) : Int)) by omega)]; omega
      · rw [if_neg q, if_neg (show ¬ (p i && decide (i ≠ a)) = true by simp [q])]
        by_cases e2 : i + 1 ≤ a ∧ a < i + 1 + k
        · rw [if_pos e2, if_pos (show i ≤ a ∧ a < i + ((k + 1 : Nat) : Int) by omega)]; omega
        · rw [if_neg e2, if_neg (show ¬ (i ≤ a ∧ a < i + ((k + 1 : Nat) : Int)) by omega)]; omega
theorem cntB_pos : ∀ (k : Nat) (i : Int), 0 ≤ cntB p k i := by
  intro k
  induction k with
  | zero => intro i; exact Int.le_refl _
  | succ k ih => intro i; unfold cntB; have := ih (i + 1); split <;> omega
/-- one to one: no more than there are -/
theorem cntB_inj {σ : Int → Int} : ∀ (n : Nat) (p : Int → Bool), (∀ s : Int, 0 ≤ s → s < n → p (σ s) = true ∧ 0 ≤ σ s ∧ σ s < 10) → (∀ s s' : Int, 0 ≤ s → s < n → 0 ≤ s' → s' < n → σ s = σ s' → s = s') → (n : Int) ≤ cntB p 10 0 := by
  intro n
  induction n with
  | zero => intro p _ _; exact cntB_pos 10 0
  | succ n ih =>
    intro p h1 h2
    have ha := h1 n (by omega) (by omega)
    have := ih (fun j => p j && decide (j ≠ σ n)) (fun s s0 s1 => by
      have := h1 s s0 (by omega)
      refine ⟨?_, this.2⟩
      have hne : ¬ σ s = σ n := fun r => by have := h2 s n s0 (by omega) (by omega) (by omega) r; omega
      simp [this.1, hne]) (fun s s' a b c e => h2 s s' a (by omega) c (by omega))
    rw [cntB_rm ha.1 10 0, if_pos (by omega)]
    omega
theorem cntF_B : ∀ (k : Nat) (i : Int), cntF w k i = cntB (fun m => decide (isM w m)) k i := by
  intro k
  induction k with
  | zero => intro i; rfl
  | succ k ih =>
    intro i
    unfold cntF cntB
    rw [ih]
    by_cases q : isM w i
    · rw [if_pos q, if_pos (decide_eq_true q)]
    · rw [if_neg q, if_neg (by simpa using q)]
theorem rot_inj : ∀ (k : Nat) (p q : Int × Int), rotF k p = rotF k q → p = q := by
  intro k
  induction k with
  | zero => intro p q h; exact h
  | succ k ih =>
    intro p q h
    have := ih _ _ h
    obtain ⟨a, b⟩ := p
    obtain ⟨c, d⟩ := q
    simp only [Prod.mk.injEq] at this ⊢
    omega
theorem trn_inj (hD : DS w x) {s' : Int} (h0 : 0 ≤ s ∧ s < sltF w x) (h1 : 0 ≤ s' ∧ s' < sltF w x) (h : trnR w x s y = trnR w x s' y) : s = s' := by
  have := rot_inj _ _ _ h
  simp only [Prod.mk.injEq] at this
  refine hD s s' h0.1 h0.2 h1.1 h1.2 ?_ this.2
  have h2 := this.1
  split at h2 <;> omega
theorem see_rec (hf : isM w f) (hm : manyF w = sltF w x) (h0 : w 0 ≤ 10) (hc : ∀ m, isM w m → celF w m < 120) (hD : DS w x) (hn : 0 < sltF w x) : recF w x y ↔ ∃ s, (0 ≤ s ∧ s < sltF w x) ∧ seeF w x y f s := by
  have hfc : 0 ≤ celF w f ∧ celF w f < 120 := ⟨hf.2, hc f hf⟩
  have hin : ∀ X Y : Int, 0 ≤ xyF X Y → ((0 ≤ X ∧ X ≤ 11) ∧ 0 ≤ Y ∧ Y ≤ 9) ∧ xyF X Y = 12 * Y + X := fun X Y h => by
    unfold xyF at *
    by_cases q : (0 ≤ X ∧ X ≤ 11) ∧ 0 ≤ Y ∧ Y ≤ 9
    · rw [if_pos q]; exact ⟨q, rfl⟩
    · rw [if_neg q] at h; omega
  have hxy : ∀ X Y : Int, (0 ≤ X ∧ X ≤ 11) → (0 ≤ Y ∧ Y ≤ 9) → xyF X Y = 12 * Y + X := fun X Y h1 h2 => by unfold xyF; rw [if_pos ⟨h1, h2⟩]
  constructor
  · intro ⟨m, hm1, hl⟩
    have hmc : 0 ≤ celF w m ∧ celF w m < 120 := ⟨hm1.2, hc m hm1⟩
    -- some slot lies on f
    have hex : ∃ s, (0 ≤ s ∧ s < sltF w x) ∧ onF w (12 * atY w x y m s + atX w x y m s) = f := by
      refine Classical.byContradiction (fun hno => ?_)
      have hr : ∀ s, 0 ≤ s → s < sltF w x → isM w (onF w (12 * atY w x y m s + atX w x y m s)) ∧ celF w (onF w (12 * atY w x y m s + atX w x y m s)) = 12 * atY w x y m s + atX w x y m s ∧ onF w (12 * atY w x y m s + atX w x y m s) < 10 := fun s s0 s1 => by
        have h1 := (hl s s0 s1).2.2
        have h2 := onF_rng w (12 * atY w x y m s + atX w x y m s)
        exact ⟨(h2.2.2 h1).1, (h2.2.2 h1).2, by omega⟩
      have h1 := cntB_inj (σ := fun s => onF w (12 * atY w x y m s + atX w x y m s)) (sltF w x).toNat (fun j => decide (isM w j) && decide (j ≠ f)) (fun s s0 s1 => by
        have h2 := hr s s0 (by omega)
        have h3 : ¬ onF w (12 * atY w x y m s + atX w x y m s) = f := fun r => hno ⟨s, ⟨s0, by omega⟩, r⟩
        have h4 : 0 ≤ onF w (12 * atY w x y m s + atX w x y m s) := (hl s s0 (by omega)).2.2
        refine ⟨?_, h4, h2.2.2⟩
        rw [decide_eq_true h2.1, decide_eq_true h3]
        rfl) (fun s s' a b c e r => by
        have h2 := hr s a (by omega)
        have h3 := hr s' c (by omega)
        have h4 := hl s a (by omega)
        have h5 := hl s' c (by omega)
        have h6 : celF w (onF w (12 * atY w x y m s + atX w x y m s)) = celF w (onF w (12 * atY w x y m s' + atX w x y m s')) := congrArg (celF w) r
        have hx1 : atX w x y m s = atX w x y m s' := by have := h4.1; have := h5.1; omega
        have hy1 : atY w x y m s = atY w x y m s' := by have := h4.1; have := h5.1; omega
        refine trn_inj (y := y) hD ⟨a, by omega⟩ ⟨c, by omega⟩ (Prod.ext ?_ ?_)
        · unfold atX at hx1; omega
        · unfold atY at hy1; omega)
      have h2 := cntB_rm (p := fun j => decide (isM w j)) (a := f) (decide_eq_true hf) 10 0
      have h3 : manyF w = cntB (fun j => decide (isM w j)) 10 0 := cntF_B 10 0
      have hf0 := hf.1
      rw [if_pos (by omega)] at h2
      omega
    obtain ⟨s, hs, he⟩ := hex
    have h1 := hl s hs.1 hs.2
    have h2 := (onF_rng w (12 * atY w x y m s + atX w x y m s)).2.2 h1.2.2
    rw [he] at h2
    have h3 : celF w f = 12 * atY w x y m s + atX w x y m s := h2.2
    refine ⟨s, hs, fun s' a b => ?_⟩
    have h4 := hl s' a b
    have e1 : celF w f % 12 + ((trnR w x s' y).1 - (trnR w x s y).1) = atX w x y m s' := by
      have : celF w f % 12 = atX w x y m s := by have := h1.1; omega
      rw [this]; unfold atX; omega
    have e2 : celF w f / 12 + ((trnR w x s' y).2 - (trnR w x s y).2) = atY w x y m s' := by
      have : celF w f / 12 = atY w x y m s := by have := h1.1; omega
      rw [this]; unfold atY; omega
    rw [e1, e2, hxy _ _ h4.1 h4.2.1]
    exact ⟨by have := h4.1; have := h4.2.1; omega, h4.2.2⟩
  · intro ⟨s, hs, hl⟩
    have h0' := hl 0 (by omega) hn
    have h1 := hin _ _ h0'.1
    have h2 := (onF_rng w _).2.2 h0'.2
    refine ⟨_, h2.1, fun s' a b => ?_⟩
    have h4 := hl s' a b
    have h5 := hin _ _ h4.1
    have h6 := h2.2.trans h1.2
    change celF w _ = _ at h6
    have e1 : atX w x y (onF w (xyF (celF w f % 12 + ((trnR w x 0 y).1 - (trnR w x s y).1)) (celF w f / 12 + ((trnR w x 0 y).2 - (trnR w x s y).2)))) s' = celF w f % 12 + ((trnR w x s' y).1 - (trnR w x s y).1) := by
      unfold atX
      have h7 := h1.1.1
      omega
    have e2 : atY w x y (onF w (xyF (celF w f % 12 + ((trnR w x 0 y).1 - (trnR w x s y).1)) (celF w f / 12 + ((trnR w x 0 y).2 - (trnR w x s y).2)))) s' = celF w f / 12 + ((trnR w x s' y).2 - (trnR w x s y).2) := by
      unfold atY
      have h7 := h1.1.1
      omega
    unfold lk1F
    rw [e1, e2, ← h5.2]
    exact ⟨h5.1.1, h5.1.2, h4.2⟩
end RCG
