/-! THE FLOOD: pure, and the model's method 'floods' -/
set_option maxRecDepth 100000
theorem pig : ∀ (N m : Nat) (f : Nat → Nat), (∀ i, i < m → f i < N) → (∀ i j, i < m → j < m → f i = f j → i = j) → m ≤ N := by
  intro N
  induction N with
  | zero =>
    intro m f h1 h2
    cases m with
    | zero => exact Nat.le_refl _
    | succ m => exact absurd (h1 0 (by omega)) (by omega)
  | succ N ih =>
    intro m f h1 h2
    by_cases hq : ∃ j, j < m ∧ f j = N
    · obtain ⟨j, hj, hfj⟩ := hq
      obtain ⟨m', rfl⟩ : ∃ k, m = k + 1 := ⟨m - 1, by omega⟩
      refine Nat.succ_le_succ (ih m' (fun i => if i < j then f i else f (i + 1)) (fun i hi => ?_) (fun i i' hi hi' he => ?_))
      · split
        · rename_i hlt
          have a1 := h1 i (by omega)
          have a2 : f i ≠ N := fun h => by have := h2 i j (by omega) hj (by omega); omega
          omega
        · have a1 := h1 (i + 1) (by omega)
          have a2 : f (i + 1) ≠ N := fun h => by have := h2 (i + 1) j (by omega) hj (by omega); omega
          omega
      · split at he <;> split at he
        · exact h2 i i' (by omega) (by omega) he
        · have := h2 i (i' + 1) (by omega) (by omega) he; omega
        · have := h2 (i + 1) i' (by omega) (by omega) he; omega
        · have := h2 (i + 1) (i' + 1) (by omega) (by omega) he; omega
    · refine Nat.le_succ_of_le (ih m f (fun i hi => ?_) h2)
      have a1 := h1 i hi
      have a2 : f i ≠ N := fun h => hq ⟨i, hi, h⟩
      omega
/-- distances (-1: none), the queue, how many -/
abbrev BS : Type := (Int → Int) × (Int → Int) × Int
def bst (blk : Int → Bool) (c v : Int) (s : BS) : BS := if besF c v < 0 ∨ blk (besF c v) = true ∨ 0 ≤ s.1 (besF c v) then s else (fun i => if i = besF c v then s.1 c + 1 else s.1 i, fun i => if i = s.2.2 then besF c v else s.2.1 i, s.2.2 + 1)
def bct (blk : Int → Bool) (c : Int) : Nat → Int → BS → BS
  | 0, _, s => s
  | n + 1, v, s => bct blk c n (v + 1) (bst blk c v s)
def blp (blk : Int → Bool) : Nat → Int → BS → BS
  | 0, _, s => s
  | n + 1, k, s => if k < s.2.2 then blp blk n (k + 1) (bct blk (s.2.1 k) 4 0 s) else s
def b0F (c : Int) : BS := (fun i => if i = c then 0 else -1, fun _ => c, 1)
def bfsF (blk : Int → Bool) (c : Int) : Int → Int := if blk c = true then fun _ => -1 else (blp blk 120 0 (b0F c)).1
def blkF (w : Nat → Int) (c : Int) : Bool := decide (w (72 + c).toNat = 1)
def BI (s : BS) : Prop := 1 ≤ s.2.2 ∧ (∀ i, 0 ≤ i → i < s.2.2 → (0 ≤ s.2.1 i ∧ s.2.1 i < 120) ∧ 0 ≤ s.1 (s.2.1 i) ∧ s.1 (s.2.1 i) ≤ i) ∧ (∀ i j, 0 ≤ i → i < s.2.2 → 0 ≤ j → j < s.2.2 → s.2.1 i = s.2.1 j → i = j) ∧ (∀ x, s.1 x = -1 ∨ ∃ i, (0 ≤ i ∧ i < s.2.2) ∧ x = s.2.1 i)
theorem BI.le {s : BS} (h : BI s) : s.2.2 ≤ 120 := by
  obtain ⟨h1, h2, h3, -⟩ := h
  have := pig 120 s.2.2.toNat (fun i => (s.2.1 (i : Int)).toNat) (fun i hi => by have := (h2 i (by omega) (by omega)).1; omega) (fun i j hi hj he => by
    have a1 := (h2 i (by omega) (by omega)).1
    have a2 := (h2 j (by omega) (by omega)).1
    have := h3 i j (by omega) (by omega) (by omega) (by omega) (by omega)
    omega)
  omega
theorem BI.f {s : BS} (h : BI s) (x : Int) : -1 ≤ s.1 x ∧ s.1 x < 120 := by
  rcases h.2.2.2 x with e | ⟨i, hi, rfl⟩
  · omega
  · have := (h.2.1 i hi.1 hi.2).2
    have := h.le
    omega
theorem xyF_rng (x y : Int) : -1 ≤ xyF x y ∧ xyF x y < 120 := by
  unfold xyF
  split <;> omega
theorem besF_rng (c v : Int) : -1 ≤ besF c v ∧ besF c v < 120 := xyF_rng _ _
theorem bst_BI {blk : Int → Bool} {c v k : Int} {s : BS} (h : BI s) (hk : 0 ≤ k ∧ k < s.2.2) (hc : s.2.1 k = c) : BI (bst blk c v s) ∧ s.2.2 ≤ (bst blk c v s).2.2 ∧ (∀ i, i < s.2.2 → (bst blk c v s).2.1 i = s.2.1 i) := by
  unfold bst
  split
  · exact ⟨h, Int.le_refl _, fun _ _ => rfl⟩
  · rename_i hn
    obtain ⟨h1, h2, h3, h4⟩ := h
    have hb := besF_rng c v
    have hn1 : ¬ besF c v < 0 := fun q => hn (Or.inl q)
    have hn2 : ¬ 0 ≤ s.1 (besF c v) := fun q => hn (Or.inr (Or.inr q))
    have ha : ∀ i, 0 ≤ i → i < s.2.2 → s.2.1 i ≠ besF c v := fun i i0 i1 e => hn2 (by rw [← e]; exact (h2 i i0 i1).2.1)
    have hfc := (h2 k hk.1 hk.2).2
    rw [hc] at hfc
    refine ⟨⟨by dsimp only; omega, fun i i0 i1 => ?_, fun i j i0 i1 j0 j1 he => ?_, fun x => ?_⟩, by dsimp only; omega, fun i hi => ?_⟩
    · dsimp only at i1 ⊢
      by_cases hi : i = s.2.2
      · rw [if_pos hi, if_pos rfl]
        omega
      · rw [if_neg hi, if_neg (ha i i0 (by omega))]
        exact h2 i i0 (by omega)
    · dsimp only at i1 j1 he
      split at he <;> split at he
      · omega
      · exact absurd he.symm (ha j j0 (by omega))
      · exact absurd he (ha i i0 (by omega))
      · exact h3 i j i0 (by omega) j0 (by omega) he
    · dsimp only
      by_cases hx : x = besF c v
      · exact Or.inr ⟨s.2.2, ⟨by omega, by omega⟩, by rw [if_pos rfl]; exact hx⟩
      · rw [if_neg hx]
        rcases h4 x with e | ⟨i, hi, e⟩
        · exact Or.inl e
        · exact Or.inr ⟨i, ⟨hi.1, by omega⟩, by rw [if_neg (by omega)]; exact e⟩
    · dsimp only
      rw [if_neg (by omega)]
theorem b0_BI {c : Int} (hc : 0 ≤ c ∧ c < 120) : BI (b0F c) := by
  refine ⟨Int.le_refl _, fun i i0 i1 => ?_, fun i j i0 i1 j0 j1 _ => ?_, fun x => ?_⟩
  · show (0 ≤ c ∧ c < 120) ∧ 0 ≤ (if c = c then (0 : Int) else -1) ∧ (if c = c then (0 : Int) else -1) ≤ i
    rw [if_pos rfl]
    omega
  · have i1 : i < 1 := i1
    have j1 : j < 1 := j1
    omega
  · show (if x = c then (0 : Int) else -1) = -1 ∨ _
    by_cases hx : x = c
    · exact Or.inr ⟨0, ⟨Int.le_refl _, by show (0 : Int) < 1; omega⟩, hx⟩
    · rw [if_neg hx]; exact Or.inl rfl
/-- the store with a row of distances and a queue -/
def flR (τ : MT) (b : Int) (f : Int → Int) (q : Nat → Int) : MT := (τ.1, fun a i => if a = 3 ∧ b ≤ (i : Int) ∧ (i : Int) < b + 120 then f (i - b) else if a = 4 then q i else τ.2 a i)
theorem flR_id (τ : MT) (b : Int) (hb : 0 ≤ b) : flR τ b (fun i => τ.2 3 (b + i).toNat) (τ.2 4) = τ := by
  unfold flR
  refine Prod.ext rfl (funext fun a => funext fun i => ?_)
  dsimp only
  split
  · rename_i h
    rw [h.1]
    exact congrArg (τ.2 3) (by omega)
  · split
    · rename_i h; rw [h]
    · rfl
theorem flR_f (τ : MT) {b x : Int} (f : Int → Int) (q : Nat → Int) (hb : 0 ≤ b) (hx : 0 ≤ x ∧ x < 120) : (flR τ b f q).2 3 (b + x).toNat = f x := by
  unfold flR
  dsimp only
  rw [if_pos (by omega)]
  exact congrArg f (by omega)
theorem flR_q (τ : MT) {b : Int} (f : Int → Int) (q : Nat → Int) (i : Nat) : (flR τ b f q).2 4 i = q i := by
  unfold flR
  dsimp only
  rw [if_neg (by omega), if_pos rfl]
theorem flR_o (τ : MT) {b : Int} (f : Int → Int) (q : Nat → Int) {a : Nat} (h3 : a ≠ 3) (h4 : a ≠ 4) : (flR τ b f q).2 a = τ.2 a := by
  funext i
  unfold flR
  dsimp only
  rw [if_neg (by omega), if_neg h4]
theorem flR_sf (τ : MT) {b x v : Int} (f : Int → Int) (q : Nat → Int) (hb : 0 ≤ b) (hx : 0 ≤ x ∧ x < 120) : stA (flR τ b f q) 3 (b + x).toNat v = flR τ b (fun i => if i = x then v else f i) q := by
  unfold stA flR
  refine Prod.ext rfl (funext fun a => funext fun i => ?_)
  dsimp only
  by_cases h1 : a = 3 ∧ i = (b + x).toNat
  · rw [if_pos h1, if_pos (by omega), if_pos (by omega)]
  · rw [if_neg h1]
    by_cases h2 : a = 3 ∧ b ≤ (i : Int) ∧ (i : Int) < b + 120
    · rw [if_pos h2, if_pos h2, if_neg (by omega)]
    · rw [if_neg h2, if_neg h2]
theorem flR_sq (τ : MT) {b v : Int} {x : Nat} (f : Int → Int) (q : Nat → Int) : stA (flR τ b f q) 4 x v = flR τ b f (fun i => if i = x then v else q i) := by
  unfold stA flR
  refine Prod.ext rfl (funext fun a => funext fun i => ?_)
  dsimp only
  by_cases h3 : a = 3
  · subst h3
    rw [if_neg (by omega)]
    split
    · rfl
    · rw [if_neg (by omega), if_neg (by omega)]
  · by_cases h4 : a = 4
    · subst h4
      by_cases hi : i = x
      · rw [if_pos ⟨rfl, hi⟩, if_neg (by omega), if_pos rfl, if_pos hi]
      · simp [hi]
    · rw [if_neg (by omega), if_neg (by omega), if_neg h4, if_neg (by omega), if_neg h4]
theorem flR_congr (τ : MT) {b : Int} {f g : Int → Int} (q : Nat → Int) (h : ∀ i, 0 ≤ i → i < 120 → f i = g i) : flR τ b f q = flR τ b g q := by
  unfold flR
  refine Prod.ext rfl (funext fun a => funext fun i => ?_)
  dsimp only
  split
  · exact h _ (by omega) (by omega)
  · rfl
section MFL
variable {τ : MT} {b c v x y z r : Int} {d : Nat} {Q : Option Int → MT → Prop}
theorem mc_floods_31 (hb : 0 ≤ b ∧ b + 120 ≤ 1440) {o5 o6 o7 o8 : Option AV} {q : Nat → Int} : ∀ (n : Nat) (k : Int) (f : Int → Int), k + n = 120 → 0 ≤ k → Wm d rX3_floods 31 [some (.inr 1), some (.inl r), some (.inl c), some (.inl b), some (.inl 120), o5, o6, o7, o8] [] (flR τ b (fun i => if k ≤ i then -1 else f i) q) Q → Wm d rX3_floods 8 [some (.inr 1), some (.inl r), some (.inl c), some (.inl b), some (.inl k), o5, o6, o7, o8] [] (flR τ b f q) Q := by
  intro n
  induction n with
  | zero =>
    intro k f hk h0 K
    refine wm_iload dX3_floods_8 rfl ?_
    refine wm_bipush dX3_floods_10 (by decide) ?_
    refine wm_icmp dX3_floods_12 (cB_ge ⟨by omega, by omega⟩ ⟨by omega, by omega⟩) 31 rfl (fun c12 => ?_) (fun c12 => ?_)
    ·
      have e : k = 120 := by omega
      subst e
      rw [flR_congr τ (g := f) q (fun i h1 h2 => if_neg (by omega))] at K
      exact K
    ·
      omega
  | succ n ih =>
    intro k f hk h0 K
    refine wm_iload dX3_floods_8 rfl ?_
    refine wm_bipush dX3_floods_10 (by decide) ?_
    refine wm_icmp dX3_floods_12 (cB_ge ⟨by omega, by omega⟩ ⟨by omega, by omega⟩) 31 rfl (fun c12 => ?_) (fun c12 => ?_)
    ·
      omega
    ·
      refine wm_aload_n dX3_floods_15 rfl ?_
      refine wm_getA dX3_floods_16 (kF3_13 rfl) rfl ?_
      refine wm_iload_n dX3_floods_19 rfl ?_
      refine wm_iload dX3_floods_20 rfl ?_
      refine wm_iadd dX3_floods_22 ?_
      refine wm_iconst dX3_floods_23 ?_
      refine wm_iastore dX3_floods_24 rfl ⟨by omega, by omega⟩ _ rfl ?_
      refine wm_iinc dX3_floods_25 rfl ?_
      refine wm_goto dX3_floods_28 8 rfl ?_
      rw [flR_sf τ f q hb.1 ⟨by omega, by omega⟩]
      refine ih (k + 1) _ (by omega) (by omega) ?_
      rw [flR_congr τ (g := fun i => if k ≤ i then -1 else f i) q (fun i h1 h2 => by by_cases e1 : i = k <;> by_cases e2 : k + 1 ≤ i <;> by_cases e3 : k ≤ i <;> simp [e1, e2, e3] <;> omega)]
      exact K
/-- the loop over the four ways -/
theorem mc_floods_81 (hb : 0 ≤ b ∧ b + 120 ≤ 1440) (hr : ∀ i, rng (τ.2 0 i)) (hd : 2 ≤ d) {k c0 : Int} : ∀ (n : Nat) (v : Int) (s : BS) (q : Nat → Int) (o8 : Option AV), v + n = 4 → 0 ≤ v → BI s → 0 ≤ k ∧ k < s.2.2 → s.2.1 k = c → (∀ i, 0 ≤ i → i < s.2.2 → q i.toNat = s.2.1 i) →
    (∀ (s' : BS) (q' : Nat → Int) (o : Option AV), s' = bct (blkF (τ.2 0)) c n v s → BI s' → s.2.2 ≤ s'.2.2 → (∀ i, i < s.2.2 → s'.2.1 i = s.2.1 i) → (∀ i, 0 ≤ i → i < s'.2.2 → q' i.toNat = s'.2.1 i) → Wm d rX3_floods 163 [some (.inr 1), some (.inl r), some (.inl c0), some (.inl b), some (.inl s'.2.2), some (.inl k), some (.inl c), some (.inl 4), o] [] (flR τ b s'.1 q') Q) →
    Wm d rX3_floods 81 [some (.inr 1), some (.inl r), some (.inl c0), some (.inl b), some (.inl s.2.2), some (.inl k), some (.inl c), some (.inl v), o8] [] (flR τ b s.1 q) Q := by
  intro n
  induction n with
  | zero =>
    intro v s q o8 hv h0 hI hk hc hq K
    have e : v = 4 := by omega
    subst e
    refine wm_iload dX3_floods_81 rfl ?_
    refine wm_iconst dX3_floods_83 ?_
    refine wm_icmp dX3_floods_84 (cB_ge ⟨by omega, by omega⟩ ⟨by omega, by omega⟩) 163 rfl (fun c84 => ?_) (fun c84 => ?_)
    ·
      exact K s q o8 rfl hI (Int.le_refl _) (fun _ _ => rfl) hq
    ·
      omega
  | succ n ih =>
    intro v s q o8 hv h0 hI hk hc hq K
    have hcr := (hI.2.1 k hk.1 hk.2).1
    rw [hc] at hcr
    have hbs := besF_rng c v
    have hst := bst_BI (blk := blkF (τ.2 0)) (c := c) (v := v) hI hk hc
    have hle := hI.le
    have hle2 := hst.1.le
    have hskip : bst (blkF (τ.2 0)) c v s = s → ∀ o, Wm d rX3_floods 81 [some (.inr 1), some (.inl r), some (.inl c0), some (.inl b), some (.inl s.2.2), some (.inl k), some (.inl c), some (.inl (v + 1)), o] [] (flR τ b s.1 q) Q := fun he o => ih (v + 1) s q o (by omega) (by omega) hI hk hc hq (fun s' q' o' h1 h2 h3 h4 h5 => K s' q' o' (by rw [h1, bct, he]) h2 h3 h4 h5)
    refine wm_iload dX3_floods_81 rfl ?_
    refine wm_iconst dX3_floods_83 ?_
    refine wm_icmp dX3_floods_84 (cB_ge ⟨by omega, by omega⟩ ⟨by omega, by omega⟩) 163 rfl (fun c84 => ?_) (fun c84 => ?_)
    ·
      omega
    ·
      refine wm_iload dX3_floods_87 rfl ?_
      refine wm_iload dX3_floods_89 rfl ?_
      refine wm_calls dX3_floods_91 (kS3_72 rfl) (kSn3_72 rfl) (mc_beside (by omega) (by omega)) (by omega) rfl rfl ?_
      rintro _ _ ⟨rfl, rfl⟩
      refine wm_istore dX3_floods_94 rfl ?_
      refine wm_iload dX3_floods_96 rfl ?_
      refine wm_if dX3_floods_98 (cB_lt ⟨by omega, by omega⟩ ⟨by omega, by omega⟩) 157 rfl (fun c98 => ?_) (fun c98 => ?_)
      ·
        refine wm_iinc dX3_floods_157 rfl ?_
        refine wm_goto dX3_floods_160 81 rfl ?_
        exact hskip (by unfold bst; rw [if_pos (Or.inl c98)]) _
      ·
        refine wm_aload_n dX3_floods_101 rfl ?_
        refine wm_iload dX3_floods_102 rfl ?_
        refine wm_callv dX3_floods_104 (kV3_69 rfl) rfl (mc_isBlocked (by omega) (by rw [flR_o τ _ _ (by decide) (by decide)]; exact hr _)) (by omega) rfl rfl ?_
        rintro _ _ ⟨rfl, ⟨h104, rfl⟩ | ⟨h104, rfl⟩⟩
        ·
          refine wm_ifT dX3_floods_107 (by decide) 157 rfl ?_
          refine wm_iinc dX3_floods_157 rfl ?_
          refine wm_goto dX3_floods_160 81 rfl ?_
          exact hskip (by unfold bst; rw [if_pos (Or.inr (Or.inl (by unfold blkF; rw [decide_eq_true_eq]; rw [flR_o τ _ _ (by decide) (by decide)] at h104; exact h104)))]) _
        ·
          refine wm_ifF dX3_floods_107 (by decide) 157 rfl ?_
          refine wm_aload_n dX3_floods_110 rfl ?_
          refine wm_getA dX3_floods_111 (kF3_13 rfl) rfl ?_
          refine wm_iload_n dX3_floods_114 rfl ?_
          refine wm_iload dX3_floods_115 rfl ?_
          refine wm_iadd dX3_floods_117 ?_
          refine wm_iaload dX3_floods_118 rfl ⟨by omega, by omega⟩ _ rfl ?_
          refine wm_if dX3_floods_119 (cB_lt (show rng _ by rw [flR_f τ _ _ hb.1 (by omega)]; have := hI.f (besF c v); omega) ⟨by omega, by omega⟩) 125 rfl (fun c119 => ?_) (fun c119 => ?_)
          ·
            rw [flR_f τ _ _ hb.1 (by omega)] at c119
            rw [flR_o τ _ _ (by decide) (by decide)] at h104
            have he : bst (blkF (τ.2 0)) c v s = (fun i => if i = besF c v then s.1 c + 1 else s.1 i, fun i => if i = s.2.2 then besF c v else s.2.1 i, s.2.2 + 1) := by
              unfold bst
              rw [if_neg (fun q => by rcases q with q | q | q; exact c98 q; exact h104 (of_decide_eq_true q); omega)]
            rw [he] at hst hle2
            dsimp only at hle2
            refine wm_aload_n dX3_floods_125 rfl ?_
            refine wm_getA dX3_floods_126 (kF3_13 rfl) rfl ?_
            refine wm_iload_n dX3_floods_129 rfl ?_
            refine wm_iload dX3_floods_130 rfl ?_
            refine wm_iadd dX3_floods_132 ?_
            refine wm_aload_n dX3_floods_133 rfl ?_
            refine wm_getA dX3_floods_134 (kF3_13 rfl) rfl ?_
            refine wm_iload_n dX3_floods_137 rfl ?_
            refine wm_iload dX3_floods_138 rfl ?_
            refine wm_iadd dX3_floods_140 ?_
            refine wm_iaload dX3_floods_141 rfl ⟨by omega, by omega⟩ _ rfl ?_
            refine wm_iconst dX3_floods_142 ?_
            refine wm_iadd dX3_floods_143 ?_
            rw [flR_f τ _ _ hb.1 hcr]
            refine wm_iastore dX3_floods_144 rfl ⟨by omega, by omega⟩ _ rfl ?_
            refine wm_aload_n dX3_floods_145 rfl ?_
            refine wm_getA dX3_floods_146 (kF3_16 rfl) rfl ?_
            refine wm_iload dX3_floods_149 rfl ?_
            refine wm_iload dX3_floods_151 rfl ?_
            refine wm_iastore dX3_floods_153 rfl ⟨by omega, by omega⟩ _ rfl ?_
            rw [flR_sf τ _ _ hb.1 (by omega), flR_sq]
            refine wm_iinc dX3_floods_154 rfl ?_
            refine wm_iinc dX3_floods_157 rfl ?_
            refine wm_goto dX3_floods_160 81 rfl ?_
            exact ih (v + 1) _ _ _ (by omega) (by omega) hst.1 ⟨hk.1, by dsimp only; omega⟩ (by rw [hst.2.2 k hk.2]; exact hc) (fun i i0 i1 => by
              dsimp only at i1 ⊢
              by_cases hi : i = s.2.2
              · rw [if_pos hi, if_pos (by omega)]
              · rw [if_neg hi, if_neg (by omega)]
                exact hq i i0 (by omega)) (fun s' q' o' h1 h2 h3 h4 h5 => K s' q' o' (by rw [h1, bct, he]) h2 (by dsimp only at h3; omega) (fun i hi => by rw [h4 i (by dsimp only; omega)]; dsimp only; rw [if_neg (by omega)]) h5)
          ·
            refine wm_goto dX3_floods_122 157 rfl ?_
            refine wm_iinc dX3_floods_157 rfl ?_
            refine wm_goto dX3_floods_160 81 rfl ?_
            rw [flR_f τ _ _ hb.1 (by omega)] at c119
            exact hskip (by unfold bst; rw [if_pos (Or.inr (Or.inr (by omega)))]) _
/-- the loop over the queue -/
theorem mc_floods_62 (hb : 0 ≤ b ∧ b + 120 ≤ 1440) (hr : ∀ i, rng (τ.2 0 i)) (hd : 2 ≤ d) {c0 : Int} : ∀ (n : Nat) (k : Int) (s : BS) (q : Nat → Int) (o6 o7 o8 : Option AV), k + n = 120 → 0 ≤ k → BI s → (∀ i, 0 ≤ i → i < s.2.2 → q i.toNat = s.2.1 i) →
    (∀ (q' : Nat → Int), Q none (flR τ b (blp (blkF (τ.2 0)) n k s).1 q')) →
    Wm d rX3_floods 62 [some (.inr 1), some (.inl r), some (.inl c0), some (.inl b), some (.inl s.2.2), some (.inl k), o6, o7, o8] [] (flR τ b s.1 q) Q := by
  intro n
  induction n with
  | zero =>
    intro k s q o6 o7 o8 hk h0 hI hq K
    have hle := hI.le
    have hge := hI.1
    refine wm_iload dX3_floods_62 rfl ?_
    refine wm_iload dX3_floods_64 rfl ?_
    refine wm_icmp dX3_floods_66 (cB_ge ⟨by omega, by omega⟩ ⟨by omega, by omega⟩) 169 rfl (fun c66 => ?_) (fun c66 => ?_)
    ·
      refine wm_vreturn dX3_floods_169 rfl ?_
      exact K q
    ·
      omega
  | succ n ih =>
    intro k s q o6 o7 o8 hk h0 hI hq K
    have hle := hI.le
    have hge := hI.1
    refine wm_iload dX3_floods_62 rfl ?_
    refine wm_iload dX3_floods_64 rfl ?_
    refine wm_icmp dX3_floods_66 (cB_ge ⟨by omega, by omega⟩ ⟨by omega, by omega⟩) 169 rfl (fun c66 => ?_) (fun c66 => ?_)
    ·
      refine wm_vreturn dX3_floods_169 rfl ?_
      have := K q
      rw [blp, if_neg (by omega)] at this
      exact this
    ·
      refine wm_aload_n dX3_floods_69 rfl ?_
      refine wm_getA dX3_floods_70 (kF3_16 rfl) rfl ?_
      refine wm_iload dX3_floods_73 rfl ?_
      refine wm_iaload dX3_floods_75 rfl ⟨by omega, by omega⟩ _ rfl ?_
      refine wm_istore dX3_floods_76 rfl ?_
      refine wm_iconst dX3_floods_78 ?_
      refine wm_istore dX3_floods_79 rfl ?_
      rw [flR_q, hq k h0 (by omega)]
      refine mc_floods_81 hb hr hd 4 0 s q _ (by omega) (by omega) hI ⟨h0, by omega⟩ rfl hq (fun s' q' o h1 h2 h3 h4 h5 => ?_)
      refine wm_iinc dX3_floods_163 rfl ?_
      refine wm_goto dX3_floods_166 62 rfl ?_
      exact ih (k + 1) s' q' _ _ _ (by omega) (by omega) h2 h5 (fun q2 => by have := K q2; rw [blp, if_pos (by omega), ← h1] at this; exact this)
theorem mc_floods (hx : 0 ≤ x ∧ x ≤ 11) (hc : 0 ≤ c ∧ c < 120) (hr : ∀ i, rng (τ.2 0 i)) : Mt 2 rX3_floods [.inr 1, .inl x, .inl c] τ (fun v t => none = v ∧ ∃ q, t = flR τ (120 * x) (bfsF (blkF (τ.2 0)) c) q) := by
  intro d hd
  refine wm_bipush dX3_floods_0 (by decide) ?_
  refine wm_iload_n dX3_floods_2 rfl ?_
  refine wm_imul dX3_floods_3 ?_
  refine wm_istore_n dX3_floods_4 rfl ?_
  refine wm_iconst dX3_floods_5 ?_
  refine wm_istore dX3_floods_6 rfl ?_
  rw [← flR_id τ (120 * x) (by omega)]
  refine mc_floods_31 (by omega) 120 0 _ (by omega) (by omega) ?_
  rw [flR_congr τ (g := fun _ => -1) _ (fun i h1 h2 => if_pos h1), flR_id τ (120 * x) (by omega)]
  refine wm_aload_n dX3_floods_31 rfl ?_
  refine wm_iload_n dX3_floods_32 rfl ?_
  refine wm_callv dX3_floods_33 (kV3_69 rfl) rfl (mc_isBlocked hc (by rw [flR_o τ _ _ (by decide) (by decide)]; exact hr _)) (by omega) rfl rfl ?_
  rintro _ _ ⟨rfl, ⟨h33, rfl⟩ | ⟨h33, rfl⟩⟩
  ·
    refine wm_ifF dX3_floods_36 (by decide) 40 rfl ?_
    refine wm_vreturn dX3_floods_39 rfl ?_
    rw [flR_o τ _ _ (by decide) (by decide)] at h33
    exact ⟨rfl, _, by rw [bfsF, if_pos (by unfold blkF; rw [decide_eq_true_eq]; exact h33)]⟩
  ·
    refine wm_ifT dX3_floods_36 (by decide) 40 rfl ?_
    refine wm_aload_n dX3_floods_40 rfl ?_
    refine wm_getA dX3_floods_41 (kF3_13 rfl) rfl ?_
    refine wm_iload_n dX3_floods_44 rfl ?_
    refine wm_iload_n dX3_floods_45 rfl ?_
    refine wm_iadd dX3_floods_46 ?_
    refine wm_iconst dX3_floods_47 ?_
    refine wm_iastore dX3_floods_48 rfl ⟨by omega, by omega⟩ _ rfl ?_
    rw [flR_sf τ _ _ (by omega) hc]
    refine wm_aload_n dX3_floods_49 rfl ?_
    refine wm_getA dX3_floods_50 (kF3_16 rfl) rfl ?_
    refine wm_iconst dX3_floods_53 ?_
    refine wm_iload_n dX3_floods_54 rfl ?_
    refine wm_iastore dX3_floods_55 rfl ⟨by omega, by omega⟩ _ rfl ?_
    rw [flR_sq]
    refine wm_iconst dX3_floods_56 ?_
    refine wm_istore dX3_floods_57 rfl ?_
    refine wm_iconst dX3_floods_59 ?_
    refine wm_istore dX3_floods_60 rfl ?_
    rw [flR_o τ _ _ (by decide) (by decide)] at h33
    exact mc_floods_62 (by omega) hr hd 120 0 (b0F c) _ _ _ _ (by omega) (by omega) (b0_BI hc) (fun i i0 i1 => by have i1 : i < 1 := i1; rw [if_pos (by omega)]; rfl) (fun q' => ⟨rfl, q', by rw [bfsF, if_neg (by unfold blkF; rw [decide_eq_true_eq]; exact h33)]⟩)
end MFL
