/-! THE MODEL'S 'gives', 4: the greedy end, the whole; 'isFormed' -/
set_option maxRecDepth 100000
section M8
variable {τ : MT} {m c v x y z b n : Int} {d : Nat} {Q : Option Int → MT → Prop}
def pkR (t : MT) (m s u : Int) : MT := stI (stI (stA t 7 m.toNat s) 8 (t.1 8 + 1)) 9 (t.1 9 + (10000 - u))
theorem mc_gives_348 {o1 o8 : Option AV} {V : Int → Int → Int} (hV : ∀ m s, 0 ≤ V m s ∧ V m s ≤ 10000) (hn : 0 ≤ n ∧ n ≤ 10) {k : Nat} (hk : k < 10) {A : Int} (hA : 0 ≤ A ∧ A < 2 ^ n.toNat) {t : MT} (hg : GO V n t) (ht : GT V n.toNat 10 t) (h7 : t.2 7 (9 - (k : Int)).toNat = -1) : ∀ (j : Nat) (s : Int) (o7 : Option AV), s + j = n → 0 ≤ s →
    (fstI (pickF (V (9 - (k : Int))) (wthF V n.toNat k) A (wthF V n.toNat (k + 1) A)) j s < 0 → ∀ o6 o7, Wm d rX3_gives 475 [some (.inr 1), o1, some (.inl n), some (.inl A), some (.inl (9 - (k : Int))), some (.inl (wthF V n.toNat (k + 1) A)), o6, o7, o8] [] t Q) →
    (∀ s0, s0 = fstI (pickF (V (9 - (k : Int))) (wthF V n.toNat k) A (wthF V n.toNat (k + 1) A)) j s → 0 ≤ s0 ∧ s0 < n → ∀ o6 o7, Wm d rX3_gives 475 [some (.inr 1), o1, some (.inl n), some (.inl (clrF A s0)), some (.inl (9 - (k : Int))), some (.inl (wthF V n.toNat (k + 1) A)), o6, o7, o8] [] (pkR t (9 - (k : Int)) s0 (V (9 - (k : Int)) s0)) Q) →
    Wm d rX3_gives 348 [some (.inr 1), o1, some (.inl n), some (.inl A), some (.inl (9 - (k : Int))), some (.inl (wthF V n.toNat (k + 1) A)), some (.inl s), o7, o8] [] t Q := by
  have hp := b_pow (s := n) (by omega)
  intro j
  induction j with
  | zero =>
    intro s o7 hs h0 K1 K2
    refine wm_iload dX3_gives_348 rfl ?_
    refine wm_iload_n dX3_gives_350 rfl ?_
    refine wm_icmp dX3_gives_351 (cB_ge ⟨by omega, by omega⟩ ⟨by omega, by omega⟩) 475 rfl (fun c351 => ?_) (fun c351 => ?_)
    ·
      exact K1 (by rw [fstI]; omega) _ _
    ·
      omega
  | succ j ih =>
    intro s o7 hs h0 K1 K2
    have hb := b_rng (a := A) (s := s) (by omega) (by omega)
    have hgo := hg (9 - (k : Int)) s (by omega) (by omega) h0 (by omega)
    have hgt := ht k (clrF A s) (by omega) hb.1.1 (by omega)
    have hv := hV (9 - (k : Int)) s
    have hw := wthF_rng (n := n.toNat) hV k (clrF A s)
    have hw2 := wthF_rng (n := n.toNat) hV (k + 1) A
    have hbd : A / 2 ^ s.toNat % 2 = bitF A s := rfl
    have e1 : (1024 * (9 - (k : Int) + 1) + clrF A s).toNat = (1024 * (10 - (k : Int)) + clrF A s).toNat := by omega
    have hno : pickF (V (9 - (k : Int))) (wthF V n.toNat k) A (wthF V n.toNat (k + 1) A) s = false → ∀ o7, Wm d rX3_gives 348 [some (.inr 1), o1, some (.inl n), some (.inl A), some (.inl (9 - (k : Int))), some (.inl (wthF V n.toNat (k + 1) A)), some (.inl (s + 1)), o7, o8] [] t Q := fun h o7 => by
      rw [fstI, if_neg (by rw [h]; decide)] at K1 K2
      exact ih (s + 1) o7 (by omega) (by omega) K1 K2
    refine wm_iload dX3_gives_348 rfl ?_
    refine wm_iload_n dX3_gives_350 rfl ?_
    refine wm_icmp dX3_gives_351 (cB_ge ⟨by omega, by omega⟩ ⟨by omega, by omega⟩) 475 rfl (fun c351 => ?_) (fun c351 => ?_)
    ·
      omega
    ·
      refine wm_aload_n dX3_gives_354 rfl ?_
      refine wm_getA dX3_gives_355 (kF3_25 rfl) rfl ?_
      refine wm_iload dX3_gives_358 rfl ?_
      refine wm_iaload dX3_gives_360 rfl ⟨by omega, by omega⟩ _ rfl ?_
      refine wm_if dX3_gives_361 (cB_ge (by rw [h7]; decide) ⟨by omega, by omega⟩) 475 rfl (fun c361 => ?_) (fun c361 => ?_)
      ·
        exact absurd (show (0 : Int) ≤ -1 by rw [← h7]; assumption) (by decide)
      ·
        refine wm_aload_n dX3_gives_364 rfl ?_
        refine wm_getA dX3_gives_365 (kF3_28 rfl) rfl ?_
        refine wm_bipush dX3_gives_368 (by decide) ?_
        refine wm_iload dX3_gives_370 rfl ?_
        refine wm_imul dX3_gives_372 ?_
        refine wm_iload dX3_gives_373 rfl ?_
        refine wm_iadd dX3_gives_375 ?_
        refine wm_iaload dX3_gives_376 rfl ⟨by omega, by omega⟩ _ rfl ?_
        rw [hgo]
        refine wm_istore dX3_gives_377 rfl ?_
        refine wm_iload_n dX3_gives_379 rfl ?_
        refine wm_iload dX3_gives_380 rfl ?_
        refine wm_shr dX3_gives_382 ⟨by omega, by omega⟩ ⟨by omega, by omega⟩ ?_
        refine wm_iconst dX3_gives_383 ?_
        refine wm_and1 dX3_gives_384 ⟨by omega, by omega⟩ ?_
        refine wm_if dX3_gives_385 (cB_eq ⟨by omega, by omega⟩ ⟨by omega, by omega⟩) 469 rfl (fun c385 => ?_) (fun c385 => ?_)
        ·
          refine wm_iinc dX3_gives_469 rfl ?_
          refine wm_goto dX3_gives_472 348 rfl ?_
          exact hno (by unfold pickF; rw [decide_eq_false_iff_not]; exact fun h => h.1 (by omega)) _
        ·
          refine wm_iload dX3_gives_388 rfl ?_
          refine wm_if dX3_gives_390 (cB_eq ⟨by omega, by omega⟩ ⟨by omega, by omega⟩) 469 rfl (fun c390 => ?_) (fun c390 => ?_)
          ·
            refine wm_iinc dX3_gives_469 rfl ?_
            refine wm_goto dX3_gives_472 348 rfl ?_
            exact hno (by unfold pickF; rw [decide_eq_false_iff_not]; exact fun h => h.2.1 c390) _
          ·
            refine wm_iload dX3_gives_393 rfl ?_
            refine wm_aload_n dX3_gives_395 rfl ?_
            refine wm_getA dX3_gives_396 (kF3_22 rfl) rfl ?_
            refine wm_sipush dX3_gives_399 (by decide) ?_
            refine wm_iload dX3_gives_402 rfl ?_
            refine wm_iconst dX3_gives_404 ?_
            refine wm_iadd dX3_gives_405 ?_
            refine wm_imul dX3_gives_406 ?_
            refine wm_iload_n dX3_gives_407 rfl ?_
            refine wm_iconst dX3_gives_408 ?_
            refine wm_iload dX3_gives_409 rfl ?_
            refine wm_shl1 dX3_gives_411 ⟨by omega, by omega⟩ ?_
            refine wm_iconst dX3_gives_412 ?_
            refine wm_not dX3_gives_413 ⟨by omega, by omega⟩ ?_
            refine wm_clr dX3_gives_414 ⟨by omega, by omega⟩ ⟨by omega, by omega⟩ ?_
            refine wm_iadd dX3_gives_415 ?_
            refine wm_iaload dX3_gives_416 rfl ⟨by omega, by omega⟩ _ rfl ?_
            rw [e1, hgt]
            refine wm_iadd dX3_gives_417 ?_
            refine wm_iload dX3_gives_418 rfl ?_
            refine wm_icmp dX3_gives_420 (cB_eq ⟨by omega, by omega⟩ ⟨by omega, by omega⟩) 426 rfl (fun c420 => ?_) (fun c420 => ?_)
            ·
              refine wm_aload_n dX3_gives_426 rfl ?_
              refine wm_getA dX3_gives_427 (kF3_25 rfl) rfl ?_
              refine wm_iload dX3_gives_430 rfl ?_
              refine wm_iload dX3_gives_432 rfl ?_
              refine wm_iastore dX3_gives_434 rfl ⟨by omega, by omega⟩ _ rfl ?_
              refine wm_iload_n dX3_gives_435 rfl ?_
              refine wm_iconst dX3_gives_436 ?_
              refine wm_iload dX3_gives_437 rfl ?_
              refine wm_shl1 dX3_gives_439 ⟨by omega, by omega⟩ ?_
              refine wm_iconst dX3_gives_440 ?_
              refine wm_not dX3_gives_441 ⟨by omega, by omega⟩ ?_
              refine wm_clr dX3_gives_442 ⟨by omega, by omega⟩ ⟨by omega, by omega⟩ ?_
              refine wm_istore_n dX3_gives_443 rfl ?_
              refine wm_aload_n dX3_gives_444 rfl ?_
              refine wm_dup dX3_gives_445 ?_
              refine wm_getI dX3_gives_446 (kF3_95 rfl) rfl rfl ?_
              refine wm_iconst dX3_gives_449 ?_
              refine wm_iadd dX3_gives_450 ?_
              refine wm_putI dX3_gives_451 (kF3_95 rfl) rfl rfl (Or.inl rfl) ?_
              refine wm_aload_n dX3_gives_454 rfl ?_
              refine wm_dup dX3_gives_455 ?_
              refine wm_getI dX3_gives_456 (kF3_98 rfl) rfl rfl ?_
              refine wm_sipush dX3_gives_459 (by decide) ?_
              refine wm_iload dX3_gives_462 rfl ?_
              refine wm_isub dX3_gives_464 ?_
              refine wm_iadd dX3_gives_465 ?_
              refine wm_putI dX3_gives_466 (kF3_98 rfl) rfl rfl (Or.inl rfl) ?_
              refine wm_iinc dX3_gives_469 rfl ?_
              refine wm_goto dX3_gives_472 348 rfl ?_
              have hy : pickF (V (9 - (k : Int))) (wthF V n.toNat k) A (wthF V n.toNat (k + 1) A) s = true := by
                unfold pickF
                rw [decide_eq_true_eq]
                exact ⟨by omega, c390, c420⟩
              have K3 := K2 s (by rw [fstI, if_pos hy]) ⟨h0, by omega⟩
              have r7 : (stA t 7 (9 - (k : Int)).toNat s).2 7 (9 - (k : Int)).toNat = s := by simp [stA]
              refine wm_iload dX3_gives_348 rfl ?_
              refine wm_iload_n dX3_gives_350 rfl ?_
              refine wm_icmp dX3_gives_351 (cB_ge ⟨by omega, by omega⟩ ⟨by omega, by omega⟩) 475 rfl (fun c351 => ?_) (fun c351 => ?_)
              ·
                exact K3 _ _
              ·
                refine wm_aload_n dX3_gives_354 rfl ?_
                refine wm_getA dX3_gives_355 (kF3_25 rfl) rfl ?_
                refine wm_iload dX3_gives_358 rfl ?_
                refine wm_iaload dX3_gives_360 rfl ⟨by omega, by omega⟩ _ rfl ?_
                refine wm_if dX3_gives_361 (cB_ge (show rng ((stA t 7 (9 - (k : Int)).toNat s).2 7 (9 - (k : Int)).toNat) by rw [r7]; omega) ⟨by omega, by omega⟩) 475 rfl (fun c361 => ?_) (fun c361 => ?_)
                ·
                  exact K3 _ _
                ·
                  exact absurd (show 0 ≤ (stA t 7 (9 - (k : Int)).toNat s).2 7 (9 - (k : Int)).toNat by rw [r7]; exact h0) c361
            ·
              refine wm_goto dX3_gives_423 469 rfl ?_
              refine wm_iinc dX3_gives_469 rfl ?_
              refine wm_goto dX3_gives_472 348 rfl ?_
              exact hno (by unfold pickF; rw [decide_eq_false_iff_not]; exact fun h => c420 h.2.2) _
theorem mc_gives_323 {o1 : Option AV} {V : Int → Int → Int} (hV : ∀ m s, 0 ≤ V m s ∧ V m s ≤ 10000) (hn : 0 ≤ n ∧ n ≤ 10) : ∀ (k : Nat) (g : GS) (t : MT) (o5 o6 o7 o8 : Option AV), k ≤ 10 → (0 ≤ g.1 ∧ g.1 < 2 ^ n.toNat) → GO V n t → GT V n.toNat 10 t → (∀ m', 0 ≤ m' → m' < 10 → t.2 7 m'.toNat = g.2.2.2 m') → (∀ m', 10 - (k : Int) ≤ m' → g.2.2.2 m' = -1) → t.1 8 = g.2.1 → t.1 9 = g.2.2.1 →
    (∀ t', (∀ a, a ≠ 7 → t'.2 a = t.2 a) → (∀ j, j ≠ 8 → j ≠ 9 → t'.1 j = t.1 j) → (∀ m', 0 ≤ m' → m' < 10 → t'.2 7 m'.toNat = (grF V n.toNat k g).2.2.2 m') → t'.1 8 = (grF V n.toNat k g).2.1 → t'.1 9 = (grF V n.toNat k g).2.2.1 → Q none t') →
    Wm d rX3_gives 323 [some (.inr 1), o1, some (.inl n), some (.inl g.1), some (.inl (10 - (k : Int))), o5, o6, o7, o8] [] t Q := by
  have hp := b_pow (s := n) (by omega)
  intro k
  induction k with
  | zero =>
    intro g t o5 o6 o7 o8 hk hA hg ht h7 h7n h8 h9 K
    refine wm_iload dX3_gives_323 rfl ?_
    refine wm_bipush dX3_gives_325 (by decide) ?_
    refine wm_icmp dX3_gives_327 (cB_ge ⟨by omega, by omega⟩ ⟨by omega, by omega⟩) 481 rfl (fun c327 => ?_) (fun c327 => ?_)
    ·
      refine wm_vreturn dX3_gives_481 rfl ?_
      exact K t (fun _ _ => rfl) (fun _ _ _ => rfl) h7 h8 h9
    ·
      omega
  | succ k ih =>
    intro g t o5 o6 o7 o8 hk hA hg ht h7 h7n h8 h9 K
    rw [show 10 - ((k + 1 : Nat) : Int) = 9 - (k : Int) by omega] at h7n ⊢
    have hgt := ht (k + 1) g.1 hk hA.1 hA.2
    have e1 : (1024 * (9 - (k : Int)) + g.1).toNat = (1024 * (10 - ((k + 1 : Nat) : Int)) + g.1).toNat := by omega
    refine wm_iload dX3_gives_323 rfl ?_
    refine wm_bipush dX3_gives_325 (by decide) ?_
    refine wm_icmp dX3_gives_327 (cB_ge ⟨by omega, by omega⟩ ⟨by omega, by omega⟩) 481 rfl (fun c327 => ?_) (fun c327 => ?_)
    ·
      omega
    ·
      refine wm_aload_n dX3_gives_330 rfl ?_
      refine wm_getA dX3_gives_331 (kF3_22 rfl) rfl ?_
      refine wm_sipush dX3_gives_334 (by decide) ?_
      refine wm_iload dX3_gives_337 rfl ?_
      refine wm_imul dX3_gives_339 ?_
      refine wm_iload_n dX3_gives_340 rfl ?_
      refine wm_iadd dX3_gives_341 ?_
      refine wm_iaload dX3_gives_342 rfl ⟨by omega, by omega⟩ _ rfl ?_
      rw [e1, hgt]
      refine wm_istore dX3_gives_343 rfl ?_
      refine wm_iconst dX3_gives_345 ?_
      refine wm_istore dX3_gives_346 rfl ?_
      refine mc_gives_348 hV hn (by omega) hA hg ht (by rw [h7 _ (by omega) (by omega)]; exact h7n _ (Int.le_refl _)) n.toNat 0 _ (by omega) (by omega) (fun hneg o6 o7 => ?_) (fun s0 hs0 hs1 o6 o7 => ?_)
      · refine wm_iinc dX3_gives_475 rfl ?_
        refine wm_goto dX3_gives_478 323 rfl ?_
        show Wm d rX3_gives 323 [some (.inr 1), o1, some (.inl n), some (.inl g.1), some (.inl (9 - (k : Int) + 1)), _, _, _, _] [] t Q
        rw [show 9 - (k : Int) + 1 = 10 - (k : Int) by omega]
        refine ih g t _ _ _ _ (by omega) hA hg ht h7 (fun m' h => h7n m' (by omega)) h8 h9 (fun t' a1 a2 a3 a4 a5 => ?_)
        have hgr : grF V n.toNat (k + 1) g = grF V n.toNat k g := by rw [grF, gr1F, if_pos hneg]
        rw [hgr] at K
        exact K t' a1 a2 a3 a4 a5
      · have hgr : gr1F V n.toNat k g = (clrF g.1 s0, g.2.1 + 1, g.2.2.1 + (10000 - V (9 - k) s0), fun m : Int => if m = 9 - (k : Int) then s0 else g.2.2.2 m) := by rw [gr1F, if_neg (by omega), ← hs0]
        have hc := (b_rng (a := g.1) (s := s0) (by omega) (by omega)).1
        refine wm_iinc dX3_gives_475 rfl ?_
        refine wm_goto dX3_gives_478 323 rfl ?_
        show Wm d rX3_gives 323 [some (.inr 1), o1, some (.inl n), some (.inl (clrF g.1 s0)), some (.inl (9 - (k : Int) + 1)), _, _, _, _] [] _ Q
        rw [show 9 - (k : Int) + 1 = 10 - (k : Int) by omega]
        have q2 : ∀ a, a ≠ 7 → (pkR t (9 - (k : Int)) s0 (V (9 - (k : Int)) s0)).2 a = t.2 a := fun a ha => by funext i; simp [pkR, stI, stA, ha]
        refine ih (clrF g.1 s0, g.2.1 + 1, g.2.2.1 + (10000 - V (9 - k) s0), fun m : Int => if m = 9 - (k : Int) then s0 else g.2.2.2 m) _ _ _ _ _ (by omega) ⟨hc.1, by dsimp only; omega⟩ (fun m s a1 a2 a3 a4 => by rw [q2 10 (by decide)]; exact hg m s a1 a2 a3 a4) (fun k' A' a1 a2 a3 => by rw [q2 6 (by decide)]; exact ht k' A' a1 a2 a3) (fun m' a1 a2 => ?_) (fun m' h => ?_) ?_ ?_ (fun t' a1 a2 a3 a4 a5 => ?_)
        · have := h7 m' a1 a2
          by_cases e : m' = 9 - (k : Int)
          · subst e
            simp [pkR, stI, stA]
          · have e2 : ¬ m'.toNat = 9 - k := by omega
            simp [pkR, stI, stA, e, e2, this]
        · dsimp only
          rw [if_neg (by omega)]
          exact h7n m' (by omega)
        · simp [pkR, stI, stA, h8]
        · simp [pkR, stI, stA, h9]
        · have hgr2 : grF V n.toNat (k + 1) g = grF V n.toNat k (clrF g.1 s0, g.2.1 + 1, g.2.2.1 + (10000 - V (9 - k) s0), fun m : Int => if m = 9 - (k : Int) then s0 else g.2.2.2 m) := by rw [grF, hgr]
          rw [hgr2] at K
          exact K t' (fun a ha => by rw [a1 a ha, q2 a ha]) (fun j j8 j9 => by rw [a2 j j8 j9]; simp [pkR, stI, stA, j8, j9]) a3 a4 a5
/-- what 'gives' leaves -/
def GV (w : Nat → Int) (τ t : MT) : Prop := FrG τ t ∧ GP w (sltF w (w 3)) t ∧ (∀ m, 0 ≤ m → m < 10 → gsl t m = (givF w).2.2.2 m) ∧ t.1 8 = (givF w).2.1 ∧ t.1 9 = (givF w).2.2.1 ∧ HF t
theorem lftF_rng {w : Nat → Int} {n : Nat} (hn : n ≤ 10) : ∀ (k : Nat) (s A : Int), s + k = n → 0 ≤ s → 0 ≤ A ∧ A < 2 ^ s.toNat → 0 ≤ lftF w k s A ∧ lftF w k s A < 2 ^ n := by
  intro k
  induction k with
  | zero =>
    intro s A hs h0 hA
    rw [show s.toNat = n by omega] at hA
    exact hA
  | succ k ih =>
    intro s A hs h0 hA
    have hp := b_pow (s := s) (by omega)
    have hd : (2 : Int) ^ (s + 1).toNat = 2 * 2 ^ s.toNat := by rw [show (s + 1).toNat = s.toNat + 1 by omega, Int.pow_succ]; omega
    have hq : bitF A s = 0 := by
      unfold bitF
      rw [Int.ediv_eq_zero_of_lt hA.1 hA.2]
      rfl
    unfold lftF
    refine ih (s + 1) _ (by omega) (by omega) ?_
    rw [hd]
    split
    · omega
    · unfold setF
      rw [hq, if_neg (by decide)]
      omega
theorem mc_gives (hW : WG (τ.2 0)) (hf : HF τ) : Mt 5 rX3_gives [.inr 1] τ (fun v t => none = v ∧ GV (τ.2 0) τ t) := by
  intro d hd
  have hW2 := hW
  obtain ⟨w0, wr, w3, wc, ws, wa, wk⟩ := hW2
  have hlf := lftF_rng (w := τ.2 0) (n := (sltF (τ.2 0) (τ.2 0 3)).toNat) (by omega) (sltF (τ.2 0) (τ.2 0 3)).toNat 0 0 (by omega) (by omega) (by decide)
  have fe : ∀ (t : MT) (lo hi v : Int) (a a' : Nat), a' ≠ a → (fillR t a lo hi v).2 a' = t.2 a' := fun t lo hi v a a' h => by funext j; simp [fillR, h]
  have f7 : ∀ (t : MT) (m : Int), 0 ≤ m → m < 10 → (fillR t 7 0 10 (-1)).2 7 m.toNat = -1 := fun t m h1 h2 => by
    unfold fillR
    dsimp only
    rw [if_pos (by omega)]
  refine wm_aload_n dX3_gives_0 rfl ?_
  refine wm_iconst dX3_gives_1 ?_
  refine wm_putI dX3_gives_2 (kF3_95 rfl) rfl rfl (Or.inl rfl) ?_
  refine wm_aload_n dX3_gives_5 rfl ?_
  refine wm_iconst dX3_gives_6 ?_
  refine wm_putI dX3_gives_7 (kF3_98 rfl) rfl rfl (Or.inl rfl) ?_
  refine wm_iconst dX3_gives_10 ?_
  refine wm_istore_n dX3_gives_11 rfl ?_
  refine mc_gives_12 10 0 _ (by omega) (by omega) ?_
  refine wm_aload_n dX3_gives_31 rfl ?_
  refine wm_getA dX3_gives_32 (kF3_9 rfl) rfl ?_
  refine wm_iconst dX3_gives_35 ?_
  refine wm_iaload dX3_gives_36 rfl ⟨by omega, by omega⟩ 3 rfl ?_
  refine wm_istore_n dX3_gives_37 rfl ?_
  refine wm_aload_n dX3_gives_38 rfl ?_
  refine wm_iload_n dX3_gives_39 rfl ?_
  refine wm_callv dX3_gives_40 (kV3_101 rfl) rfl (mc_slots w3) (by omega) rfl rfl ?_
  rintro _ _ ⟨rfl, rfl⟩
  refine wm_istore_n dX3_gives_43 rfl ?_
  refine wm_iconst dX3_gives_44 ?_
  refine wm_istore_n dX3_gives_45 rfl ?_
  refine wm_iconst dX3_gives_46 ?_
  refine wm_istore dX3_gives_47 rfl ?_
  refine mc_gives_49 (w := τ.2 0) (by omega) hW rfl (sltF (τ.2 0) (τ.2 0 3)).toNat 0 0 _ (by omega) (by omega) rfl (fun k k0 k1 => by omega) (by omega) (hf.other (fe _ _ _ _ _ _ (by decide))) (fun t1 hf1 g1 g2 g3 g4 g5 => ?_)
  have hw1 : t1.2 0 = τ.2 0 := g1.w
  refine wm_aload_n dX3_gives_121 rfl ?_
  refine wm_iload_n dX3_gives_122 rfl ?_
  refine wm_callv dX3_gives_123 (kV3_107 rfl) rfl (mc_reckons hW rfl hw1 g4) (by omega) rfl rfl ?_
  rintro _ _ ⟨rfl, r1, r2, r3⟩
  rename_i t2
  refine wm_iconst dX3_gives_126 ?_
  refine wm_istore dX3_gives_127 rfl ?_
  have hp := b_pow (s := sltF (τ.2 0) (τ.2 0 3)) (by omega)
  refine mc_gives_129 ws (2 ^ (sltF (τ.2 0) (τ.2 0 3)).toNat) 0 _ (by simp) (by omega) ?_
  refine wm_bipush dX3_gives_155 (by decide) ?_
  refine wm_istore dX3_gives_157 rfl ?_
  refine mc_gives_159 (V := wofF (τ.2 0)) (wofF_rng _) ws 10 0 _ _ _ _ _ (by omega) (fun m s a1 a2 a3 a4 => by rw [fe _ _ _ _ _ _ (by decide)]; exact r3 m s a1 a2 a3 a4) (fun k' A' a1 a2 a3 => by
    have e : k' = 0 := by omega
    subst e
    unfold fillR
    dsimp only
    rw [if_pos (by omega)]
    rfl) (fun t3 o5 o6 o7 o8 e1 e2 e3 e4 => ?_)
  refine wm_iconst dX3_gives_320 ?_
  refine wm_istore dX3_gives_321 rfl ?_
  have q7 : t3.2 7 = (fillR (stI (stI τ 8 0) 9 0) 7 0 10 (-1)).2 7 := by rw [e2 7 (by decide), fe _ _ _ _ _ _ (by decide), r2 7 (by decide), g2]
  have q3 : t3.2 3 = t1.2 3 := by rw [e2 3 (by decide), fe _ _ _ _ _ _ (by decide), r2 3 (by decide)]
  have q5 : t3.2 5 = t1.2 5 := by rw [e2 5 (by decide), fe _ _ _ _ _ _ (by decide), r2 5 (by decide)]
  have q1 : t3.1 = (stI (stI τ 8 0) 9 0).1 := by rw [e1]; show t2.1 = _; rw [r1, g3]; rfl
  refine mc_gives_323 (V := wofF (τ.2 0)) (wofF_rng _) ws 10 (lftF (τ.2 0) (sltF (τ.2 0) (τ.2 0 3)).toNat 0 0, 0, 0, fun _ => -1) t3 _ _ _ _ (Nat.le_refl _) hlf e3 e4 (fun m' a1 a2 => by rw [q7]; exact f7 _ _ a1 a2) (fun m' _ => rfl) (by rw [q1]; rfl) (by rw [q1]; rfl) (fun t' a1 a2 a3 a4 a5 => ⟨rfl, ⟨fun a ha => ?_, fun j j8 j9 => ?_⟩, g4.congr (by rw [a1 3 (by decide), q3]) (by rw [a1 5 (by decide), q5]), a3, a4, a5, hf1.other (by rw [a1 3 (by decide), q3])⟩)
  · rw [a1 a (by omega), e2 a (by omega), fe _ _ _ _ _ _ (by omega), r2 a (by omega), g1.1 a ha, fe _ _ _ _ _ _ (by omega)]
    rfl
  · rw [a2 j j8 j9, q1]
    simp [stI, j8, j9]
end M8
