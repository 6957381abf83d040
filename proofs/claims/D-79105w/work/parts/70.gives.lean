/-! THE MODEL'S 'gives', 1: pure; the loops ahead of the table -/
set_option maxRecDepth 100000
def pl0F (w : Nat → Int) (s : Int) : Int := if s = ancF w (w 3) then -1 else plcF w s
def frF (w : Nat → Int) (s x : Int) : Int := bfsF (blkF w) (pl0F w s) x
def wofF (w : Nat → Int) (m s : Int) : Int := if isM w m ∧ m ≠ ledF w ∧ 0 ≤ pl0F w s then (if frF w s (celF w m) < 0 then 0 else 10000 - frF w s (celF w m)) else 0
def bstF (v : Int → Int) (W : Int → Int) (A : Int) : Nat → Int → Int → Int
  | 0, _, most => most
  | k + 1, s, most => bstF v W A k (s + 1) (if bitF A s = 0 ∨ v s = 0 then most else if v s + W (clrF A s) ≤ most then most else v s + W (clrF A s))
/-- the greatest worth, k members left (from 10 - k on) -/
def wthF (v : Int → Int → Int) (n : Nat) : Nat → Int → Int
  | 0, _ => 0
  | k + 1, A => bstF (v (9 - k)) (wthF v n k) A n 0 (wthF v n k A)
def pickF (v : Int → Int) (W : Int → Int) (left due : Int) : Int → Bool := fun s => decide (¬ bitF left s = 0 ∧ ¬ v s = 0 ∧ v s + W (clrF left s) = due)
/-- left, given, sum, slots -/
abbrev GS : Type := Int × Int × Int × (Int → Int)
def gr1F (v : Int → Int → Int) (n : Nat) (k : Nat) (g : GS) : GS :=
  if fstI (pickF (v (9 - k)) (wthF v n k) g.1 (wthF v n (k + 1) g.1)) n 0 < 0 then g else
    (clrF g.1 (fstI (pickF (v (9 - k)) (wthF v n k) g.1 (wthF v n (k + 1) g.1)) n 0), g.2.1 + 1, g.2.2.1 + (10000 - v (9 - k) (fstI (pickF (v (9 - k)) (wthF v n k) g.1 (wthF v n (k + 1) g.1)) n 0)), fun m => if m = 9 - k then fstI (pickF (v (9 - k)) (wthF v n k) g.1 (wthF v n (k + 1) g.1)) n 0 else g.2.2.2 m)
def grF (v : Int → Int → Int) (n : Nat) : Nat → GS → GS
  | 0, g => g
  | k + 1, g => grF v n k (gr1F v n k g)
def lftF (w : Nat → Int) : Nat → Int → Int → Int
  | 0, _, A => A
  | k + 1, s, A => lftF w k (s + 1) (if pl0F w s < 0 then A else setF A s)
def givF (w : Nat → Int) : GS := grF (wofF w) (sltF w (w 3)).toNat 10 (lftF w (sltF w (w 3)).toNat 0 0, 0, 0, fun _ => -1)
/-- what 'gives' may write -/
def FrG (τ t : MT) : Prop := (∀ a, ¬ (a = 3 ∨ a = 4 ∨ a = 5 ∨ a = 6 ∨ a = 7 ∨ a = 10) → t.2 a = τ.2 a) ∧ ∀ j, j ≠ 8 → j ≠ 9 → t.1 j = τ.1 j
theorem FrG.rf {τ : MT} : FrG τ τ := ⟨fun _ _ => rfl, fun _ _ _ => rfl⟩
theorem FrG.w {τ t : MT} (h : FrG τ t) : t.2 0 = τ.2 0 := h.1 0 (by decide)
theorem FrG.sA {τ t : MT} {a i : Nat} {v : Int} (h : FrG τ t) (ha : (a = 3 ∨ a = 4 ∨ a = 5 ∨ a = 6 ∨ a = 7 ∨ a = 10)) : FrG τ (stA t a i v) := ⟨fun a' h' => by
  rw [← h.1 a' h']
  funext j
  unfold stA
  dsimp only
  rw [if_neg (fun q => h' (by rw [q.1]; exact ha))], h.2⟩
theorem FrG.sI {τ t : MT} {j : Nat} {v : Int} (h : FrG τ t) (hj : j = 8 ∨ j = 9) : FrG τ (stI t j v) := ⟨h.1, fun i h1 h2 => by
  rw [← h.2 i h1 h2]
  unfold stI
  dsimp only
  rw [if_neg (by omega)]⟩
theorem FrG.fl {τ t : MT} {b : Int} {f : Int → Int} {q : Nat → Int} (h : FrG τ t) : FrG τ (flR t b f q) := ⟨fun a' h' => by
  rw [← h.1 a' h', flR_o t f q (by omega) (by omega)], h.2⟩
def fillR (τ : MT) (a : Nat) (lo hi v : Int) : MT := (τ.1, fun a' j => if a' = a ∧ lo ≤ (j : Int) ∧ (j : Int) < hi then v else τ.2 a' j)
theorem fillR_step (τ : MT) {a : Nat} {i hi v : Int} (h : 0 ≤ i ∧ i < hi) : fillR (stA τ a i.toNat v) a (i + 1) hi v = fillR τ a i hi v := by
  unfold fillR stA
  refine Prod.ext rfl (funext fun a' => funext fun j => ?_)
  dsimp only
  by_cases ha : a' = a
  · subst ha
    simp only [true_and]
    by_cases h1 : i ≤ (j : Int) ∧ (j : Int) < hi
    · rw [if_pos h1]
      by_cases h2 : j = i.toNat
      · rw [if_neg (by omega), if_pos h2]
      · rw [if_pos (by omega)]
    · rw [if_neg h1, if_neg (by omega), if_neg (by omega)]
  · simp [ha]
theorem fillR_end (τ : MT) (a : Nat) (i v : Int) : fillR τ a i i v = τ := by
  unfold fillR
  refine Prod.ext rfl (funext fun a' => funext fun j => ?_)
  dsimp only
  rw [if_neg (by omega)]
theorem FrG.fill {τ t : MT} {a : Nat} {lo hi v : Int} (h : FrG τ t) (ha : (a = 3 ∨ a = 4 ∨ a = 5 ∨ a = 6 ∨ a = 7 ∨ a = 10)) : FrG τ (fillR t a lo hi v) := ⟨fun a' h' => by
  rw [← h.1 a' h']
  funext j
  unfold fillR
  dsimp only
  rw [if_neg (fun q => h' (by rw [q.1]; exact ha))], h.2⟩
theorem bct_BI {blk : Int → Bool} {c k : Int} : ∀ (n : Nat) (v : Int) (s : BS), BI s → 0 ≤ k ∧ k < s.2.2 → s.2.1 k = c → BI (bct blk c n v s) ∧ s.2.2 ≤ (bct blk c n v s).2.2 := by
  intro n
  induction n with
  | zero => intro v s h hk hc; exact ⟨h, Int.le_refl _⟩
  | succ n ih =>
    intro v s h hk hc
    obtain ⟨h1, h2, h3⟩ := bst_BI (blk := blk) (c := c) (v := v) h hk hc
    obtain ⟨i1, i2⟩ := ih (v + 1) _ h1 ⟨hk.1, by omega⟩ (by rw [h3 k hk.2]; exact hc)
    exact ⟨i1, by rw [bct]; omega⟩
theorem blp_BI {blk : Int → Bool} : ∀ (n : Nat) (k : Int) (s : BS), BI s → 0 ≤ k → BI (blp blk n k s) := by
  intro n
  induction n with
  | zero => intro k s h hk; exact h
  | succ n ih =>
    intro k s h hk
    unfold blp
    split
    · rename_i hlt
      exact ih (k + 1) _ (bct_BI 4 0 s h ⟨hk, hlt⟩ rfl).1 (by omega)
    · exact h
theorem bfsF_rng (blk : Int → Bool) {c : Int} (hc : 0 ≤ c ∧ c < 120) (x : Int) : -1 ≤ bfsF blk c x ∧ bfsF blk c x < 120 := by
  unfold bfsF
  split
  · show (-1 : Int) ≤ -1 ∧ (-1 : Int) < 120
    decide
  · exact (blp_BI 120 0 (b0F c) (b0_BI hc) (Int.le_refl _)).f x
/-- what the row of the present state must hold for 'gives' -/
def WG (w : Nat → Int) : Prop := (0 ≤ w 0 ∧ w 0 ≤ 10) ∧ (∀ i, rng (w i)) ∧ (0 ≤ w 3 ∧ w 3 ≤ 2) ∧ (∀ m, 0 ≤ m → m ≤ 9 → -1 ≤ celF w m ∧ celF w m < 120) ∧ (0 ≤ sltF w (w 3) ∧ sltF w (w 3) ≤ 10) ∧ (0 ≤ ancF w (w 3) ∧ ancF w (w 3) ≤ 9) ∧ (∀ k, 0 ≤ k → k < sltF w (w 3) → (-1000 ≤ colF w (w 3) k ∧ colF w (w 3) k ≤ 1000) ∧ -1000 ≤ rowF w (w 3) k ∧ rowF w (w 3) k ≤ 1000)
theorem plcF_rng (w : Nat → Int) (k : Int) : -1 ≤ plcF w k ∧ plcF w k < 120 := by
  unfold plcF
  split
  · omega
  · split
    · rename_i h
      have := h.1
      omega
    · omega
theorem pl0F_rng (w : Nat → Int) (k : Int) : -1 ≤ pl0F w k ∧ pl0F w k < 120 := by
  unfold pl0F
  split
  · omega
  · exact plcF_rng w k
theorem wofF_rng (w : Nat → Int) (m s : Int) : 0 ≤ wofF w m s ∧ wofF w m s ≤ 10000 := by
  unfold wofF
  split
  · rename_i h
    have h2 := bfsF_rng (blkF w) ⟨h.2.2, (pl0F_rng w s).2⟩ (celF w m)
    unfold frF
    split <;> omega
  · omega
/-- the distances' range -/
def HF (t : MT) : Prop := ∀ i, -1 ≤ t.2 3 i ∧ t.2 3 i ≤ 1000
theorem HF.other {t t' : MT} (h : HF t) (e : t'.2 3 = t.2 3) : HF t' := fun i => by rw [e]; exact h i
theorem HF.fl {t : MT} {b c : Int} {blk : Int → Bool} {q : Nat → Int} (h : HF t) (hc : 0 ≤ c ∧ c < 120) : HF (flR t b (bfsF blk c) q) := fun i => by
  unfold flR
  dsimp only
  split
  · have := bfsF_rng blk hc ((i : Int) - b)
    omega
  · rw [if_neg (by decide)]
    exact h i
/-- places and distances up to slot s -/
def GP (w : Nat → Int) (s : Int) (t : MT) : Prop := ∀ k, 0 ≤ k → k < s → t.2 5 k.toNat = pl0F w k ∧ (0 ≤ pl0F w k → ∀ x, 0 ≤ x → x < 120 → t.2 3 (120 * k + x).toNat = frF w k x)
section M5
variable {τ : MT} {m c v x y z b n : Int} {d : Nat} {Q : Option Int → MT → Prop}
theorem mc_gives_12 {o2 o3 o4 o5 o6 o7 o8 : Option AV} : ∀ (k : Nat) (i : Int) (t : MT), i + k = 10 → 0 ≤ i → Wm d rX3_gives 31 [some (.inr 1), some (.inl 10), o2, o3, o4, o5, o6, o7, o8] [] (fillR t 7 i 10 (-1)) Q → Wm d rX3_gives 12 [some (.inr 1), some (.inl i), o2, o3, o4, o5, o6, o7, o8] [] t Q := by
  intro k
  induction k with
  | zero =>
    intro i t hi h0 K
    have e : i = 10 := by omega
    subst e
    rw [fillR_end] at K
    refine wm_iload_n dX3_gives_12 rfl ?_
    refine wm_bipush dX3_gives_13 (by decide) ?_
    refine wm_icmp dX3_gives_15 (cB_ge ⟨by omega, by omega⟩ ⟨by omega, by omega⟩) 31 rfl (fun c15 => ?_) (fun c15 => ?_)
    ·
      exact K
    ·
      omega
  | succ k ih =>
    intro i t hi h0 K
    refine wm_iload_n dX3_gives_12 rfl ?_
    refine wm_bipush dX3_gives_13 (by decide) ?_
    refine wm_icmp dX3_gives_15 (cB_ge ⟨by omega, by omega⟩ ⟨by omega, by omega⟩) 31 rfl (fun c15 => ?_) (fun c15 => ?_)
    ·
      omega
    ·
      refine wm_aload_n dX3_gives_18 rfl ?_
      refine wm_getA dX3_gives_19 (kF3_25 rfl) rfl ?_
      refine wm_iload_n dX3_gives_22 rfl ?_
      refine wm_iconst dX3_gives_23 ?_
      refine wm_iastore dX3_gives_24 rfl ⟨by omega, by omega⟩ _ rfl ?_
      refine wm_iinc dX3_gives_25 rfl ?_
      refine wm_goto dX3_gives_28 12 rfl ?_
      refine ih (i + 1) _ (by omega) (by omega) ?_
      rw [fillR_step t ⟨h0, by omega⟩]
      exact K
theorem mc_gives_129 {o1 o3 o5 o6 o7 o8 : Option AV} (hn : 0 ≤ n ∧ n ≤ 10) : ∀ (k : Nat) (i : Int) (t : MT), i + k = 2 ^ n.toNat → 0 ≤ i → Wm d rX3_gives 155 [some (.inr 1), o1, some (.inl n), o3, some (.inl (2 ^ n.toNat)), o5, o6, o7, o8] [] (fillR t 6 (10240 + i) (10240 + 2 ^ n.toNat) 0) Q → Wm d rX3_gives 129 [some (.inr 1), o1, some (.inl n), o3, some (.inl i), o5, o6, o7, o8] [] t Q := by
  have hp := b_pow (s := n) (by omega)
  intro k
  induction k with
  | zero =>
    intro i t hi h0 K
    have e : i = 2 ^ n.toNat := by omega
    rw [e, fillR_end] at K
    rw [e]
    refine wm_iload dX3_gives_129 rfl ?_
    refine wm_iconst dX3_gives_131 ?_
    refine wm_iload_n dX3_gives_132 rfl ?_
    refine wm_shl1 dX3_gives_133 ⟨by omega, by omega⟩ ?_
    refine wm_icmp dX3_gives_134 (cB_ge ⟨by omega, by omega⟩ ⟨by omega, by omega⟩) 155 rfl (fun c134 => ?_) (fun c134 => ?_)
    ·
      exact K
    ·
      omega
  | succ k ih =>
    intro i t hi h0 K
    refine wm_iload dX3_gives_129 rfl ?_
    refine wm_iconst dX3_gives_131 ?_
    refine wm_iload_n dX3_gives_132 rfl ?_
    refine wm_shl1 dX3_gives_133 ⟨by omega, by omega⟩ ?_
    refine wm_icmp dX3_gives_134 (cB_ge ⟨by omega, by omega⟩ ⟨by omega, by omega⟩) 155 rfl (fun c134 => ?_) (fun c134 => ?_)
    ·
      omega
    ·
      refine wm_aload_n dX3_gives_137 rfl ?_
      refine wm_getA dX3_gives_138 (kF3_22 rfl) rfl ?_
      refine wm_sipush dX3_gives_141 (by decide) ?_
      refine wm_iload dX3_gives_144 rfl ?_
      refine wm_iadd dX3_gives_146 ?_
      refine wm_iconst dX3_gives_147 ?_
      refine wm_iastore dX3_gives_148 rfl ⟨by omega, by omega⟩ _ rfl ?_
      refine wm_iinc dX3_gives_149 rfl ?_
      refine wm_goto dX3_gives_152 129 rfl ?_
      refine ih (i + 1) _ (by omega) (by omega) ?_
      rw [show (10240 : Int) + (i + 1) = (10240 + i) + 1 by omega, fillR_step t ⟨by omega, by omega⟩]
      exact K
theorem GP.congr {w : Nat → Int} {s : Int} {t t' : MT} (h : GP w s t) (h3 : t'.2 3 = t.2 3) (h5 : t'.2 5 = t.2 5) : GP w s t' := fun k k0 k1 => by
  rw [h3, h5]
  exact h k k0 k1
/-- the loop over the slots -/
theorem mc_gives_49 {o5 o6 o7 o8 : Option AV} {w : Nat → Int} (hd : 4 ≤ d) (hW : WG w) (hn : n = sltF w (w 3)) : ∀ (k : Nat) (s A : Int) (t : MT), s + k = n → 0 ≤ s → t.2 0 = w → GP w s t → (0 ≤ A ∧ A < 1024) → HF t →
    (∀ t', HF t' → FrG t t' → t'.2 7 = t.2 7 → t'.1 = t.1 → GP w n t' → (0 ≤ lftF w k s A ∧ lftF w k s A < 1024) → Wm d rX3_gives 121 [some (.inr 1), some (.inl (w 3)), some (.inl n), some (.inl (lftF w k s A)), some (.inl n), o5, o6, o7, o8] [] t' Q) →
    Wm d rX3_gives 49 [some (.inr 1), some (.inl (w 3)), some (.inl n), some (.inl A), some (.inl s), o5, o6, o7, o8] [] t Q := by
  obtain ⟨w0, wr, w3, wc, ws, wa, wk⟩ := hW
  intro k
  induction k with
  | zero =>
    intro s A t hs h0 hw hg hA hf K
    have e : s = n := by omega
    subst e
    refine wm_iload dX3_gives_49 rfl ?_
    refine wm_iload_n dX3_gives_51 rfl ?_
    refine wm_icmp dX3_gives_52 (cB_ge ⟨by omega, by omega⟩ ⟨by omega, by omega⟩) 121 rfl (fun c52 => ?_) (fun c52 => ?_)
    ·
      exact K t hf FrG.rf rfl rfl hg hA
    ·
      omega
  | succ k ih =>
    intro s A t hs h0 hw hg hA hf K
    have hpl := pl0F_rng w s
    have hst : ∀ (v : Int), v = pl0F w s → Wm d rX3_gives 81 [some (.inr 1), some (.inl (w 3)), some (.inl n), some (.inl A), some (.inl s), o5, o6, o7, o8] [.inl v, .inl s, .inr 7] t Q := fun v hv => by
      subst hv
      have g1 : GP w s (stA t 5 s.toNat (pl0F w s)) := fun k k0 k1 => by
        have := hg k k0 k1
        refine ⟨?_, this.2⟩
        unfold stA
        dsimp only
        rw [if_neg (by omega)]
        exact this.1
      have g2 : (stA t 5 s.toNat (pl0F w s)).2 5 s.toNat = pl0F w s := by simp [stA]
      refine wm_iastore dX3_gives_81 rfl ⟨by omega, by omega⟩ _ rfl ?_
      refine wm_aload_n dX3_gives_82 rfl ?_
      refine wm_getA dX3_gives_83 (kF3_19 rfl) rfl ?_
      refine wm_iload dX3_gives_86 rfl ?_
      refine wm_iaload dX3_gives_88 rfl ⟨by omega, by omega⟩ _ rfl ?_
      refine wm_if dX3_gives_89 (cB_ge (by rw [g2]; omega) ⟨by omega, by omega⟩) 95 rfl (fun c89 => ?_) (fun c89 => ?_)
      ·
        refine wm_iload_n dX3_gives_95 rfl ?_
        refine wm_iconst dX3_gives_96 ?_
        refine wm_iload dX3_gives_97 rfl ?_
        refine wm_shl1 dX3_gives_99 ⟨by omega, by omega⟩ ?_
        refine wm_or1 dX3_gives_100 ⟨by omega, by omega⟩ ⟨by omega, by omega⟩ ?_
        refine wm_istore_n dX3_gives_101 rfl ?_
        refine wm_aload_n dX3_gives_102 rfl ?_
        refine wm_iload dX3_gives_103 rfl ?_
        refine wm_aload_n dX3_gives_105 rfl ?_
        refine wm_getA dX3_gives_106 (kF3_19 rfl) rfl ?_
        refine wm_iload dX3_gives_109 rfl ?_
        refine wm_iaload dX3_gives_111 rfl ⟨by omega, by omega⟩ _ rfl ?_
        rw [g2]
        refine wm_callv dX3_gives_112 (kV3_75 rfl) rfl (mc_floods (by omega) (by rw [g2] at c89; omega) (show ∀ i, rng ((stA t 5 s.toNat (pl0F w s)).2 0 i) from fun i => by show rng (t.2 0 i); rw [hw]; exact wr i)) (by omega) rfl rfl ?_
        rintro _ _ ⟨rfl, q, rfl⟩
        refine wm_iinc dX3_gives_115 rfl ?_
        refine wm_goto dX3_gives_118 49 rfl ?_
        rw [g2] at c89
        refine ih (s + 1) _ _ (by omega) (by omega) hw (fun k k0 k1 => ?_) (b_rng hA (by omega)).2.1 (HF.fl (hf.other (by unfold stA; funext j; dsimp only; rw [if_neg (by omega)])) (by omega)) (fun t' hff h1 h2 h3 h4 h5 => ?_)
        · rw [flR_o _ _ _ (by decide) (by decide)]
          by_cases e : k = s
          · subst e
            refine ⟨g2, fun _ x x0 x1 => ?_⟩
            rw [flR_f _ _ _ (by omega) ⟨x0, x1⟩]
            show bfsF (blkF (t.2 0)) _ x = _
            rw [hw]
            rfl
          · have := g1 k k0 (by omega)
            refine ⟨this.1, fun hp x x0 x1 => ?_⟩
            rw [← this.2 hp x x0 x1]
            unfold flR
            dsimp only
            rw [if_neg (by omega), if_neg (by omega)]
        · rw [show lftF w (k + 1) s A = lftF w k (s + 1) (setF A s) by rw [lftF, if_neg (by omega)]] at K
          refine K t' hff ⟨fun a ha => ?_, fun j j8 j9 => h1.2 j j8 j9⟩ ?_ h3 h4 h5
          · rw [h1.1 a ha]
            exact (FrG.fl (τ := t) (FrG.rf.sA (τ := t) (by decide))).1 a ha
          · rw [h2, flR_o _ _ _ (by decide) (by decide)]
            rfl
      ·
        refine wm_goto dX3_gives_92 115 rfl ?_
        refine wm_iinc dX3_gives_115 rfl ?_
        refine wm_goto dX3_gives_118 49 rfl ?_
        rw [g2] at c89
        refine ih (s + 1) A _ (by omega) (by omega) hw (fun k k0 k1 => ?_) hA (hf.other (by unfold stA; funext j; dsimp only; rw [if_neg (by omega)])) (fun t' hff h1 h2 h3 h4 h5 => ?_)
        · by_cases e : k = s
          · subst e
            exact ⟨g2, fun h => by omega⟩
          · exact g1 k k0 (by omega)
        · rw [show lftF w (k + 1) s A = lftF w k (s + 1) A by rw [lftF, if_pos (by omega)]] at K
          refine K t' hff ⟨fun a ha => ?_, fun j j8 j9 => h1.2 j j8 j9⟩ h2 h3 h4 h5
          rw [h1.1 a ha]
          exact (FrG.rf.sA (τ := t) (by decide)).1 a ha
    refine wm_iload dX3_gives_49 rfl ?_
    refine wm_iload_n dX3_gives_51 rfl ?_
    refine wm_icmp dX3_gives_52 (cB_ge ⟨by omega, by omega⟩ ⟨by omega, by omega⟩) 121 rfl (fun c52 => ?_) (fun c52 => ?_)
    ·
      omega
    ·
      refine wm_aload_n dX3_gives_55 rfl ?_
      refine wm_getA dX3_gives_56 (kF3_19 rfl) rfl ?_
      refine wm_iload dX3_gives_59 rfl ?_
      refine wm_iload dX3_gives_61 rfl ?_
      refine wm_aload_n dX3_gives_63 rfl ?_
      refine wm_iload_n dX3_gives_64 rfl ?_
      refine wm_callv dX3_gives_65 (kV3_82 rfl) rfl (mc_anchor w3) (by omega) rfl rfl ?_
      rintro _ _ ⟨rfl, rfl⟩
      refine wm_icmp dX3_gives_68 (cB_ne ⟨by omega, by omega⟩ (by rw [hw]; omega)) 75 rfl (fun c68 => ?_) (fun c68 => ?_)
      ·
        refine wm_aload_n dX3_gives_75 rfl ?_
        refine wm_iload dX3_gives_76 rfl ?_
        refine wm_callv dX3_gives_78 (kV3_104 rfl) rfl (mc_placeOf (by rw [hw]; exact w0) (by rw [hw]; exact wr) (by rw [hw]; exact w3) (by rw [hw]; exact fun m h1 h2 => (wc m h1 h2).2) (by omega) (by rw [hw]; exact wa) (by rw [hw]; exact wk s h0 (by omega))) (by omega) rfl rfl ?_
        rintro _ _ ⟨rfl, rfl⟩
        rw [hw] at c68 ⊢
        exact hst _ (by rw [pl0F, if_neg c68])
      ·
        refine wm_iconst dX3_gives_71 ?_
        refine wm_goto dX3_gives_72 81 rfl ?_
        rw [hw] at c68
        exact hst _ (by rw [pl0F, if_pos (by omega)])
end M5
