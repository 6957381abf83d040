/-! THE FLOOD'S DISTANCES: least, symmetric -/
set_option maxRecDepth 100000
/-- what holds while the queue's place k is worked on, ways below v done -/
def BX (blk : Int → Bool) (c0 k v : Int) (s : BS) : Prop := BI s ∧ (∀ i, 0 ≤ i → i < s.2.2 → blk (s.2.1 i) = false) ∧ (∀ x, s.1 x = 0 ↔ x = c0) ∧ (∀ x, 0 < s.1 x → ∃ p v', (0 ≤ v' ∧ v' < 4) ∧ s.1 p = s.1 x - 1 ∧ besF p v' = x) ∧ (∀ i v', 0 ≤ i → i < s.2.2 → (i < k ∨ (i = k ∧ v' < v)) → 0 ≤ v' → v' < 4 → 0 ≤ besF (s.2.1 i) v' → blk (besF (s.2.1 i) v') = false → 0 ≤ s.1 (besF (s.2.1 i) v') ∧ s.1 (besF (s.2.1 i) v') ≤ s.1 (s.2.1 i) + 1) ∧ (∀ i j, 0 ≤ i → i ≤ j → j < s.2.2 → s.1 (s.2.1 i) ≤ s.1 (s.2.1 j)) ∧ (k < s.2.2 → ∀ j, 0 ≤ j → j < s.2.2 → s.1 (s.2.1 j) ≤ s.1 (s.2.1 k) + 1)
section BFSX
variable {blk : Int → Bool} {c0 k v c : Int} {s : BS}
theorem bst_BX (h : BX blk c0 k v s) (hk : 0 ≤ k ∧ k < s.2.2) (hc : s.2.1 k = c) (hv : 0 ≤ v ∧ v < 4) : BX blk c0 k (v + 1) (bst blk c v s) ∧ s.2.2 ≤ (bst blk c v s).2.2 ∧ (∀ i, i < s.2.2 → (bst blk c v s).2.1 i = s.2.1 i) := by
  obtain ⟨h1, h2, h3, h4, h5, h6, h7⟩ := h
  obtain ⟨b1, b2, b3⟩ := bst_BI (blk := blk) (c := c) (v := v) h1 hk hc
  refine ⟨?_, b2, b3⟩
  have hbi := h1
  obtain ⟨g1, g2, g3, g4⟩ := hbi
  by_cases hno : besF c v < 0 ∨ blk (besF c v) = true ∨ 0 ≤ s.1 (besF c v)
  · have e : bst blk c v s = s := by unfold bst; rw [if_pos hno]
    rw [e]
    refine ⟨h1, h2, h3, h4, fun i v' i0 i1 hi v0 v1 hb hbl => ?_, h6, h7⟩
    rcases hi with hi | ⟨hi, hv'⟩
    · exact h5 i v' i0 i1 (Or.inl hi) v0 v1 hb hbl
    · by_cases e2 : v' < v
      · exact h5 i v' i0 i1 (Or.inr ⟨hi, e2⟩) v0 v1 hb hbl
      · have e3 : v' = v := by omega
        subst e3 hi
        rw [hc] at hb hbl ⊢
        rcases hno with q | q | q
        · omega
        · rw [q] at hbl; cases hbl
        · refine ⟨q, ?_⟩
          rcases g4 (besF c v') with r | ⟨j, hj, ej⟩
          · omega
          · have := h7 hk.2 j hj.1 hj.2
            rw [← ej, hc] at this
            exact this
  · have e : bst blk c v s = (fun i => if i = besF c v then s.1 c + 1 else s.1 i, fun i => if i = s.2.2 then besF c v else s.2.1 i, s.2.2 + 1) := by unfold bst; rw [if_neg hno]
    have n1 : ¬ besF c v < 0 := fun q => hno (Or.inl q)
    have n2 : blk (besF c v) = false := Bool.eq_false_iff.mpr (fun q => hno (Or.inr (Or.inl q)))
    have n3 : ¬ 0 ≤ s.1 (besF c v) := fun q => hno (Or.inr (Or.inr q))
    have hfc := (g2 k hk.1 hk.2).2.1
    rw [hc] at hfc
    have hq : ∀ i, 0 ≤ i → i < s.2.2 → s.2.1 i ≠ besF c v := fun i i0 i1 r => n3 (by rw [← r]; exact (g2 i i0 i1).2.1)
    rw [e] at b1 b2 b3 ⊢
    dsimp only at b1 b2 b3
    refine ⟨b1, fun i i0 i1 => ?_, fun x => ?_, fun x hx => ?_, fun i v' i0 i1 hi v0 v1 => ?_, fun i j i0 ij j1 => ?_, fun _ j j0 j1 => ?_⟩
    · dsimp only at i1 ⊢
      by_cases q : i = s.2.2
      · rw [if_pos q]; exact n2
      · rw [if_neg q]; exact h2 i i0 (by omega)
    · dsimp only
      by_cases q : x = besF c v
      · rw [if_pos q]
        refine ⟨fun r => by omega, fun r => ?_⟩
        have := (h3 x).mpr r
        rw [q] at this
        omega
      · rw [if_neg q]; exact h3 x
    · dsimp only at hx ⊢
      by_cases q : x = besF c v
      · refine ⟨c, v, hv, ?_, q.symm⟩
        rw [if_pos q, if_neg (fun r => n3 (by rw [← r]; exact hfc))]
        omega
      · rw [if_neg q] at hx ⊢
        obtain ⟨p, v', hv', hp, hb⟩ := h4 x hx
        refine ⟨p, v', hv', ?_, hb⟩
        rw [if_neg (fun r => n3 (by rw [← r]; omega)), hp]
    · dsimp only at i1 ⊢
      have hi2 : i < s.2.2 := by omega
      rw [if_neg (show ¬ i = s.2.2 by omega)]
      intro hb hbl
      rw [if_neg (hq i i0 hi2)]
      by_cases q : besF (s.2.1 i) v' = besF c v
      · rw [q, if_pos rfl]
        rcases hi with hi | ⟨hi, hv'⟩
        · have := h5 i v' i0 hi2 (Or.inl hi) v0 v1 hb hbl
          rw [q] at this
          omega
        · subst hi
          rw [hc]
          omega
      · rw [if_neg q]
        refine h5 i v' i0 hi2 ?_ v0 v1 hb hbl
        rcases hi with hi | ⟨hi, hv'⟩
        · exact Or.inl hi
        · refine Or.inr ⟨hi, ?_⟩
          have : v' ≠ v := fun r => q (by rw [r, hi, hc])
          omega
    · dsimp only at j1 ⊢
      by_cases qj : j = s.2.2
      · rw [if_pos qj, if_pos rfl]
        by_cases qi : i = s.2.2
        · rw [if_pos qi, if_pos rfl]; omega
        · rw [if_neg qi, if_neg (hq i i0 (by omega))]
          have := h7 hk.2 i i0 (by omega)
          rw [hc] at this
          exact this
      · rw [if_neg qj, if_neg (show ¬ i = s.2.2 by omega), if_neg (hq i i0 (by omega)), if_neg (hq j (by omega) (by omega))]
        exact h6 i j i0 ij (by omega)
    · dsimp only at j1 ⊢
      rw [if_neg (show ¬ k = s.2.2 by omega), hc, if_neg (show ¬ c = besF c v by rw [← hc]; exact hq k hk.1 hk.2 |> fun z => by rw [hc] at z ⊢; exact z)]
      by_cases qj : j = s.2.2
      · rw [if_pos qj, if_pos rfl]; omega
      · rw [if_neg qj, if_neg (hq j j0 (by omega))]
        have := h7 hk.2 j j0 (by omega)
        rw [hc] at this
        exact this
theorem bct_BX : ∀ (n : Nat) (v : Int) (s : BS), v + n = 4 → 0 ≤ v → BX blk c0 k v s → 0 ≤ k ∧ k < s.2.2 → s.2.1 k = c → BX blk c0 k 4 (bct blk c n v s) ∧ s.2.2 ≤ (bct blk c n v s).2.2 := by
  intro n
  induction n with
  | zero =>
    intro v s hv h0 h hk hc
    have e : v = 4 := by omega
    subst e
    exact ⟨h, Int.le_refl _⟩
  | succ n ih =>
    intro v s hv h0 h hk hc
    obtain ⟨a1, a2, a3⟩ := bst_BX h hk hc ⟨h0, by omega⟩
    have := ih (v + 1) _ (by omega) (by omega) a1 ⟨hk.1, by omega⟩ (by rw [a3 k hk.2, hc])
    unfold bct
    exact ⟨this.1, by omega⟩
theorem BX.next (h : BX blk c0 k 4 s) (hk : 0 ≤ k) : BX blk c0 (k + 1) 0 s := by
  obtain ⟨h1, h2, h3, h4, h5, h6, h7⟩ := h
  refine ⟨h1, h2, h3, h4, fun i v' i0 i1 hi v0 v1 => ?_, h6, fun hk1 j j0 j1 => ?_⟩
  · refine h5 i v' i0 i1 ?_ v0 v1
    rcases hi with hi | ⟨-, hi⟩
    · by_cases e : i = k
      · exact Or.inr ⟨e, v1⟩
      · exact Or.inl (by omega)
    · omega
  · have a := h7 (by omega) j j0 j1
    have b := h6 k (k + 1) hk (by omega) hk1
    omega
theorem blp_BX : ∀ (n : Nat) (k : Int) (s : BS), k + n = 120 → 0 ≤ k → BX blk c0 k 0 s → ∃ K, (blp blk n k s).2.2 ≤ K ∧ BX blk c0 K 0 (blp blk n k s) := by
  intro n
  induction n with
  | zero =>
    intro k s hk h0 h
    have := h.1.le
    exact ⟨k, by unfold blp; omega, h⟩
  | succ n ih =>
    intro k s hk h0 h
    unfold blp
    split
    · rename_i hlt
      have := (bct_BX 4 0 s (by omega) (by omega) h ⟨h0, hlt⟩ rfl).1
      exact ih (k + 1) _ (by omega) (by omega) (this.next h0)
    · rename_i hlt
      exact ⟨k, by omega, h⟩
/-- what a flood is, from an open cell -/
def BF (blk : Int → Bool) (c : Int) (f : Int → Int) : Prop := (∀ x, f x = 0 ↔ x = c) ∧ (∀ x, 0 < f x → ∃ p v, (0 ≤ v ∧ v < 4) ∧ f p = f x - 1 ∧ besF p v = x) ∧ (∀ x v, 0 ≤ f x → 0 ≤ v → v < 4 → 0 ≤ besF x v → blk (besF x v) = false → 0 ≤ f (besF x v) ∧ f (besF x v) ≤ f x + 1) ∧ (∀ x, 0 ≤ f x → blk x = false ∧ 0 ≤ x ∧ x < 120)
theorem bfs_BF (hc : 0 ≤ c ∧ c < 120) (hb : blk c = false) : BF blk c (bfsF blk c) := by
  have h0 : BX blk c 0 0 (b0F c) := by
    refine ⟨b0_BI hc, fun i i0 i1 => hb, fun x => ?_, fun x hx => ?_, fun i v' i0 i1 hi => ?_, fun i j i0 ij j1 => Int.le_refl _, fun _ j j0 j1 => ?_⟩
    · show (if x = c then (0 : Int) else -1) = 0 ↔ _
      by_cases e : x = c
      · rw [if_pos e]; exact ⟨fun _ => e, fun _ => rfl⟩
      · rw [if_neg e]; exact ⟨fun q => by omega, fun q => absurd q e⟩
    · have hx : 0 < (if x = c then (0 : Int) else -1) := hx
      split at hx <;> omega
    · omega
    · show (if c = c then (0 : Int) else -1) ≤ (if c = c then (0 : Int) else -1) + 1
      rw [if_pos rfl]; omega
  obtain ⟨K, hK, h1, h2, h3, h4, h5, h6, h7⟩ := blp_BX 120 0 (b0F c) (by omega) (by omega) h0
  have e : bfsF blk c = (blp blk 120 0 (b0F c)).1 := by unfold bfsF; rw [if_neg (by rw [hb]; decide)]
  rw [e]
  refine ⟨h3, h4, fun x v hx v0 v1 hy hbl => ?_, fun x hx => ?_⟩
  · rcases h1.2.2.2 x with q | ⟨i, hi, rfl⟩
    · omega
    · exact h5 i v hi.1 hi.2 (Or.inl (by omega)) v0 v1 hy hbl
  · rcases h1.2.2.2 x with q | ⟨i, hi, rfl⟩
    · omega
    · exact ⟨h2 i hi.1 hi.2, (h1.2.1 i hi.1 hi.2).1⟩
theorem xy_inv {X Y x : Int} (h : xyF X Y = x) (hx : 0 ≤ x) : (0 ≤ X ∧ X ≤ 11) ∧ (0 ≤ Y ∧ Y ≤ 9) ∧ x % 12 = X ∧ x / 12 = Y := by
  unfold xyF at h
  split at h
  · rename_i q
    exact ⟨q.1, q.2, by omega, by omega⟩
  · omega
theorem xy_mk {p : Int} (hp : 0 ≤ p ∧ p < 120) : xyF (p % 12) (p / 12) = p := by
  unfold xyF
  rw [if_pos (by omega)]
  omega
/-- the way back -/
theorem bes_back {p v x : Int} (hp : 0 ≤ p ∧ p < 120) (hv : 0 ≤ v ∧ v < 4) (h : besF p v = x) (hx : 0 ≤ x) : ∃ v', (0 ≤ v' ∧ v' < 4) ∧ besF x v' = p := by
  have hv4 : v = 0 ∨ v = 1 ∨ v = 2 ∨ v = 3 := by omega
  obtain ⟨-, -, e1, e2⟩ := xy_inv h hx
  have hb : ∀ v', (eaF v' = - eaF v ∧ soF v' = - soF v) → besF x v' = p := fun v' q => by
    show xyF (x % 12 + eaF v') (x / 12 + soF v') = p
    rw [e1, e2, q.1, q.2, show p % 12 + eaF v + -eaF v = p % 12 by omega, show p / 12 + soF v + -soF v = p / 12 by omega]
    exact xy_mk hp
  rcases hv4 with rfl | rfl | rfl | rfl
  · exact ⟨2, by omega, hb 2 (by decide)⟩
  · exact ⟨3, by omega, hb 3 (by decide)⟩
  · exact ⟨0, by omega, hb 0 (by decide)⟩
  · exact ⟨1, by omega, hb 1 (by decide)⟩
theorem bf_le {a b : Int} {fa fb : Int → Int} (ha : BF blk a fa) (hb : BF blk b fb) : ∀ (n : Nat) (x : Int), fa x = n → 0 ≤ fb x → 0 ≤ fb a ∧ fb a ≤ fb x + n := by
  intro n
  induction n with
  | zero =>
    intro x hx h
    have e := (ha.1 x).mp hx
    subst e
    exact ⟨h, by omega⟩
  | succ n ih =>
    intro x hx h
    obtain ⟨p, v, hv, hp, hb2⟩ := ha.2.1 x (by omega)
    have hpu := ha.2.2.2 p (by omega)
    obtain ⟨v', hv', e⟩ := bes_back hpu.2 hv hb2 (hb.2.2.2 x h).2.1
    have hc := hb.2.2.1 x v' h hv'.1 hv'.2 (by rw [e]; exact hpu.2.1) (by rw [e]; exact hpu.1)
    rw [e] at hc
    have := ih p (by omega) hc.1
    omega
theorem bfs_sym {a b : Int} (ha : 0 ≤ a ∧ a < 120) (hb : 0 ≤ b ∧ b < 120) : bfsF blk a b = bfsF blk b a := by
  have r1 := bfsF_rng blk ha b
  have r2 := bfsF_rng blk hb a
  rcases qa : blk a with _ | _
  · rcases qb : blk b with _ | _
    · have fa := bfs_BF ha qa
      have fb := bfs_BF hb qb
      have za := (fa.1 a).mpr rfl
      have zb := (fb.1 b).mpr rfl
      by_cases h : 0 ≤ bfsF blk a b
      · have e1 := bf_le fa fb (bfsF blk a b).toNat b (by omega) (by omega)
        have e2 := bf_le fb fa (bfsF blk b a).toNat a (by omega) (by omega)
        omega
      · by_cases h2 : 0 ≤ bfsF blk b a
        · have e2 := bf_le fb fa (bfsF blk b a).toNat a (by omega) (by omega)
          omega
        · omega
    · have fa := bfs_BF ha qa
      have e1 : bfsF blk b a = -1 := by unfold bfsF; rw [if_pos qb]
      have e2 : ¬ 0 ≤ bfsF blk a b := fun q => by have := (fa.2.2.2 b q).1; rw [qb] at this; cases this
      omega
  · have e1 : bfsF blk a b = -1 := by unfold bfsF; rw [if_pos qa]
    rcases qb : blk b with _ | _
    · have fb := bfs_BF hb qb
      have e2 : ¬ 0 ≤ bfsF blk b a := fun q => by have := (fb.2.2.2 a q).1; rw [qa] at this; cases this
      omega
    · have e2 : bfsF blk b a = -1 := by unfold bfsF; rw [if_pos qb]
      omega
end BFSX
