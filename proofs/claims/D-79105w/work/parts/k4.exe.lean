/-! THE CLASS'S METHODS, 71: execute -/
set_option maxRecDepth 100000
/-- the planner's own fields stay, but for some; the tape is read off -/
def FrG4 (t u : CT) : Prop := (∀ j, j ≠ 1 → j ≠ 6 → j ≠ 7 → j ≠ 16 → j ≠ 17 → sg u 10 j = if j = 14 then 0 else sg t 10 j) ∧ sg u 21 = sg t 21
/-- what execute leaves -/
def ExC (w : Nat → Int) (C : Int) (R : Nat → Nat → Int) (s : Nat) (t : CT) (v : Option AV) (u : CT) : Prop :=
  ((0 ≤ (prs0F (sg t 21) (sg t 10 14)).1 ∧ some (.inl (-100 - (prs0F (sg t 21) (sg t 10 14)).1)) = v ∧ FltP t u) ∨
   ((prs0F (sg t 21) (sg t 10 14)).1 = -1 ∧ FrG4 t u ∧
    ((¬ (exF (prs0F (sg t 21) (sg t 10 14)).2 0 w).1 = 0 ∧ some (.inl (-200 - (exF (prs0F (sg t 21) (sg t 10 14)).2 0 w).1)) = v ∧ (∃ x, NX w C R s x u) ∧ sg u 10 16 = (exF (prs0F (sg t 21) (sg t 10 14)).2 0 w).1 ∧ sg u 10 17 = (exF (prs0F (sg t 21) (sg t 10 14)).2 0 w).2.1) ∨
     ((exF (prs0F (sg t 21) (sg t 10 14)).2 0 w).1 = 0 ∧ some (.inl ((prs0F (sg t 21) (sg t 10 14)).2.length : Int)) = v ∧ NX (exF (prs0F (sg t 21) (sg t 10 14)).2 0 w).2.2 (C + 200000) (chgR R s w) (chgS s) 100 u ∧ (exF (prs0F (sg t 21) (sg t 10 14)).2 0 w).2.2 11 = (exF (prs0F (sg t 21) (sg t 10 14)).2 0 w).2.2 0 ∧ sg u 10 16 = sg t 10 16 ∧ sg u 10 17 = sg t 10 17)))) ∧ nvC u ≤ nvC t + 28000 ∧ uC u ≤ uC t + 160000
section EXE
variable {w w' w0 : Nat → Int} {R R' : Nat → Nat → Int} {τ t u t0 : CT} {m c v C A P p Y : Int} {i j k a b s x y z n N d xa ex la lx q : Nat} {f e : Nat → Nat} {L : OLs} {tp : Nat → Int} {T : Int}
theorem prs_ok (ht : ∀ i, 0 ≤ tp i ∧ tp i ≤ 127) : ∀ (n : Nat) (p : Int) (L : OLs), (0 ≤ p ∧ p ≤ 90) → OLk L → (p < 90 ∨ True) → (∀ p', p' < T → p' ≤ 60) → OLk (prsF tp T n p L).2 := by
  intro n
  induction n with
  | zero => intro p L _ h _ _; exact h
  | succ n ih =>
    intro p L hp h _ hT
    unfold prsF
    split
    · rename_i h59
      have hpT : p < T := he_lt (tp := tp) (by omega)
      have hp60 := hT p hpT
      split
      · exact h
      · rename_i h1
        have hm : (ord1 tp T (p + 1)).1 = -1 ∨ 0 ≤ (ord1 tp T (p + 1)).1 := by
          have hn := numF_rng (T := T) (f := -1) (p := p + 1 + 1) ht (by omega) (by omega)
          unfold ord1
          by_cases g1 : ¬ (heF tp T (p + 1) = 97 ∨ heF tp T (p + 1) = 111 ∨ heF tp T (p + 1) = 116 ∨ heF tp T (p + 1) = 108 ∨ heF tp T (p + 1) = 120 ∨ heF tp T (p + 1) = 103)
          · rw [if_pos g1]; right; show 0 ≤ p + 1; omega
          · rw [if_neg g1]
            by_cases g2 : ¬ (heF tp T (p + 1) = 97 ∨ heF tp T (p + 1) = 111 ∨ heF tp T (p + 1) = 116)
            · rw [if_pos g2]; dsimp only; omega
            · rw [if_neg g2]
              by_cases g3 : 0 ≤ (numF tp T (-1) (p + 1 + 1)).2.2
              · rw [if_pos g3]; right; exact g3
              · rw [if_neg g3]
                by_cases g4 : ¬ heF tp T (numF tp T (-1) (p + 1 + 1)).2.1 = 44
                · rw [if_pos g4]; right; show 0 ≤ (numF tp T (-1) (p + 1 + 1)).2.1; omega
                · rw [if_neg g4]
                  have hn2 := numF_rng (T := T) (f := -1) (p := (numF tp T (-1) (p + 1 + 1)).2.1 + 1) ht (by omega) (by omega)
                  dsimp only; omega
        have hm1 : (ord1 tp T (p + 1)).1 = -1 := by rcases hm with q | q; exact q; exact absurd q h1
        have hk := ord1_ok (tp := tp) (T := T) (p := p + 1) ht (by omega) hm1
        refine ih _ _ (by omega) (fun i hi => ?_) (Or.inr trivial) hT
        rw [List.length_append, List.length_singleton] at hi
        by_cases e : i = L.length
        · subst e
          rw [show (L ++ [(ord1 tp T (p + 1)).2.2]).getD L.length (0, 0, 0) = (ord1 tp T (p + 1)).2.2 by simp]
          exact ⟨hk.2.1, hk.2.2.1, hk.2.2.2.1⟩
        · have hi' : i < L.length := by omega
          rw [show (L ++ [(ord1 tp T (p + 1)).2.2]).getD i (0, 0, 0) = L.getD i (0, 0, 0) by simp [List.getD, List.getElem?_append_left hi']]
          exact h i hi'
    · split <;> exact h
theorem prs0_ok (ht : ∀ i, 0 ≤ tp i ∧ tp i ≤ 127) (hT : T ≤ 60) (h : (prs0F tp T).1 = -1) : OLk (prs0F tp T).2 := by
  unfold prs0F at h ⊢
  by_cases h0 : 0 ≤ (ord1 tp T 0).1
  · rw [if_pos h0]; intro i hi; exact absurd hi (by simp)
  · rw [if_neg h0] at h ⊢
    have hm : (ord1 tp T 0).1 = -1 := by
      have hn := numF_rng (T := T) (f := -1) (p := 0 + 1) ht (by omega) (by omega)
      unfold ord1 at h0 ⊢
      by_cases g1 : ¬ (heF tp T 0 = 97 ∨ heF tp T 0 = 111 ∨ heF tp T 0 = 116 ∨ heF tp T 0 = 108 ∨ heF tp T 0 = 120 ∨ heF tp T 0 = 103)
      · rw [if_pos g1] at h0; exact absurd (Int.le_refl 0) h0
      · rw [if_neg g1] at h0 ⊢
        by_cases g2 : ¬ (heF tp T 0 = 97 ∨ heF tp T 0 = 111 ∨ heF tp T 0 = 116)
        · rw [if_pos g2] at h0 ⊢; dsimp only at h0 ⊢; omega
        · rw [if_neg g2] at h0 ⊢
          by_cases g3 : 0 ≤ (numF tp T (-1) (0 + 1)).2.2
          · rw [if_pos g3] at h0; exact absurd g3 h0
          · rw [if_neg g3] at h0 ⊢
            by_cases g4 : ¬ heF tp T (numF tp T (-1) (0 + 1)).2.1 = 44
            · rw [if_pos g4] at h0; dsimp only at h0; omega
            · rw [if_neg g4] at h0 ⊢
              have hn2 := numF_rng (T := T) (f := -1) (p := (numF tp T (-1) (0 + 1)).2.1 + 1) ht (by omega) (by omega)
              dsimp only at h0 ⊢; omega
    have hk := ord1_ok (tp := tp) (T := T) (p := 0) ht (by omega) hm
    refine prs_ok ht 100 _ _ (by omega) (fun i hi => ?_) (Or.inr trivial) (fun p' hp' => by omega)
    have : i = 0 := by rw [List.length_singleton] at hi; omega
    subst this
    exact ⟨hk.2.1, hk.2.2.1, hk.2.2.2.1⟩
theorem NX.st10 {i : Nat} {v : Int} (h : NX w C R s x t) (h1 : i ≠ 1) (h2 : i ≠ 20) : NX w C R s x (stC t 10 i v) := by
  obtain ⟨⟨a1, a2⟩, hW, hSh, hI, hT, xa, n, f, e, ⟨hA, hxa⟩, hr, hrr, ⟨hii, hno⟩, hmi, hti, hki, hxi⟩ := h
  have e' : ∀ y, y ≠ 10 → sg (stC t 10 i v) y = sg t y := fun y hy => sg_st' hy
  have hx100 : 100 ≤ x := by rcases a2 with q | q <;> omega
  have hxa10 : xa ≠ 10 := by
    rcases hA.2.2.1 with ⟨q, -⟩ | ⟨-, q2, -⟩
    · omega
    · intro q
      rw [q] at q2
      cases q2
  have hmx : ∀ m : Int, mxC (stC t 10 i v) x m = mxC t x m := fun m => by unfold mxC; rw [e' (x + 3) (by omega)]
  have htn : tnC (stC t 10 i v) = tnC t := by unfold tnC; rw [e' 18 (by decide)]
  obtain ⟨c1, c2, c3, c4, c5, c6⟩ := hW
  refine ⟨⟨by rw [sg_st, if_neg (Ne.symm h1)]; exact a1, ?_⟩, ⟨by rw [e' (x + 1) (by omega), e' (x + 2) (by omega)]; exact c1, fun m m0 m1 => ?_, by rw [e' (x + 5) (by omega)]; exact c3, by rw [e' x (by omega)]; exact c4, by rw [e' x (by omega)]; exact c5, by rw [e' x (by omega)]; exact c6⟩, hSh.fr2 (e' _ (by omega)) (fun y y1 _ => ⟨rfl, e' y (by omega)⟩), hI, hT.st10, xa, n, f, e, ⟨hA.st10 (by decide) hxa10, by rw [htn]; exact hxa⟩, fun r hr0 => ?_, hrr, ⟨hii.st10 h2, fun r y r1 r2 r3 => (hno r y r1 r2 r3).st10 hii h2⟩, fun m q m0 m1 => by rw [hmx]; exact (hmi m q m0 m1).st10 hii h2, fun q => by rw [htn] at q ⊢; exact (hti q).st10 hii h2, fun q => (hki q).st10 hii h2, ?_⟩
  · rcases a2 with q | ⟨q1, q2, q3, q4, q5⟩
    · exact Or.inl q
    · exact Or.inr ⟨q1, q2, q3, by rw [e' x (by omega)]; exact q4, q5⟩
  · rw [e' (x + 3) (by omega)]
    refine ⟨fun q => ?_, (c2 m m0 m1).2⟩
    obtain ⟨p1, p2⟩ := (c2 m m0 m1).1 q
    refine ⟨p1, ?_⟩
    rw [e' _ (by omega)]
    exact p2
  · obtain ⟨⟨g1, g2, g3, g4, g5⟩, g6⟩ := hr r hr0
    refine ⟨⟨by rw [e' xa hxa10]; exact g1, g2.st10 g4, g3, g4, g5⟩, fun y y1 y2 => ?_⟩
    obtain ⟨k1, k2, k3, k4⟩ := g6 y y1 y2
    exact ⟨k1, by rw [htn]; exact k2, fun m q m0 m1 => by rw [hmx]; exact k3 m q m0 m1, k4⟩
  · rcases hxi with q | q
    · exact Or.inl q
    · exact Or.inr (fun j hj => (q j hj).st10 hii h2)
theorem cc_execute_23 {o1 o2 o3 : Option AV} (hq : 110 ≤ q ∧ u.2.1 q = some wrK ∧ sg u q 6 = P) (hF : FrD (nvC t) t u) (hn : 1000 ≤ nvC t) (hP : -1 ≤ P ∧ P ≤ 1000) : Wc kapR d rX0_execute 23 [some (.inr 10), o1, o2, o3] [.inr q] u (nQ (fun v u' => some (.inl (-100 - P)) = v ∧ FltP t u' ∧ nvC u' = nvC u ∧ uC u' = uC u)) := by
  obtain ⟨q1, q2, q3⟩ := hq
  refine wc_astore_n dX0_execute_23 rfl ?_
  refine wc_bipush dX0_execute_24 (by decide) ?_
  refine wc_aload_n dX0_execute_26 rfl ?_
  refine wc_getI dX0_execute_27 (kF0_337 rfl) (kd_dyn q1 q2) rfl ?_
  rw [q3]
  refine wc_isub dX0_execute_30 ?_
  refine wc_istore_n dX0_execute_31 rfl ?_
  refine wc_aload_n dX0_execute_32 rfl ?_
  refine wc_iconst dX0_execute_33 ?_
  refine wc_putI dX0_execute_34 (kF0_322 rfl) rfl rfl rfl ⟨by decide, Or.inl (by decide)⟩ (Or.inl rfl) ?_
  refine wc_iload_n dX0_execute_37 rfl ?_
  refine wc_ireturn dX0_execute_38 rfl ?_
  refine ⟨rfl, ⟨hF.1, fun v hv => ⟨hF.2.1 v hv, fun v1 => ?_⟩, fun j => ?_⟩, rfl, rfl⟩
  · rw [sg_st' v1]; exact hF.2.2 v (by omega)
  · rw [sg_st, hF.2.2 10 (by omega)]
theorem prsF_r (ht : ∀ i, 0 ≤ tp i ∧ tp i ≤ 127) (hT : T ≤ 60) : ∀ (n : Nat) (p : Int) (L : OLs), 0 ≤ p → p ≤ 90 → 90 ≤ p + n → (prsF tp T n p L).1 ≤ 1000 := by
  intro n
  induction n with
  | zero => intro p L h1 h2 _; show p ≤ 1000; omega
  | succ n ih =>
    intro p L h1 h2 h3
    unfold prsF
    split
    · rename_i h59
      have hpT : p < T := he_lt (tp := tp) (by omega)
      have hn := numF_rng (T := T) (f := -1) (p := p + 1 + 1) ht (by omega) (by omega)
      have hb : (ord1 tp T (p + 1)).1 ≤ 1000 ∧ ((ord1 tp T (p + 1)).1 = -1 ∨ 0 ≤ (ord1 tp T (p + 1)).1) := by
        unfold ord1
        by_cases g1 : ¬ (heF tp T (p + 1) = 97 ∨ heF tp T (p + 1) = 111 ∨ heF tp T (p + 1) = 116 ∨ heF tp T (p + 1) = 108 ∨ heF tp T (p + 1) = 120 ∨ heF tp T (p + 1) = 103)
        · rw [if_pos g1]; dsimp only; omega
        · rw [if_neg g1]
          by_cases g2 : ¬ (heF tp T (p + 1) = 97 ∨ heF tp T (p + 1) = 111 ∨ heF tp T (p + 1) = 116)
          · rw [if_pos g2]; dsimp only; omega
          · rw [if_neg g2]
            by_cases g3 : 0 ≤ (numF tp T (-1) (p + 1 + 1)).2.2
            · rw [if_pos g3]; dsimp only; omega
            · rw [if_neg g3]
              by_cases g4 : ¬ heF tp T (numF tp T (-1) (p + 1 + 1)).2.1 = 44
              · rw [if_pos g4]; dsimp only; omega
              · rw [if_neg g4]
                have hn2 := numF_rng (T := T) (f := -1) (p := (numF tp T (-1) (p + 1 + 1)).2.1 + 1) ht (by omega) (by omega)
                dsimp only; omega
      split
      · exact hb.1
      · rename_i g
        have hm : (ord1 tp T (p + 1)).1 = -1 := by rcases hb.2 with q | q; exact q; exact absurd q g
        have hk := ord1_ok (tp := tp) (T := T) (p := p + 1) ht (by omega) hm
        exact ih _ _ (by omega) (by omega) (by omega)
    · split
      · show p ≤ 1000; omega
      · show (-1 : Int) ≤ 1000; omega
theorem prs0_r (ht : ∀ i, 0 ≤ tp i ∧ tp i ≤ 127) (hT : T ≤ 60) : (prs0F tp T).1 ≤ 1000 := by
  unfold prs0F
  have hn := numF_rng (T := T) (f := -1) (p := 0 + 1) ht (by omega) (by omega)
  have hb : (ord1 tp T 0).1 ≤ 1000 ∧ ((ord1 tp T 0).1 = -1 ∨ 0 ≤ (ord1 tp T 0).1) := by
    unfold ord1
    by_cases g1 : ¬ (heF tp T 0 = 97 ∨ heF tp T 0 = 111 ∨ heF tp T 0 = 116 ∨ heF tp T 0 = 108 ∨ heF tp T 0 = 120 ∨ heF tp T 0 = 103)
    · rw [if_pos g1]; dsimp only; omega
    · rw [if_neg g1]
      by_cases g2 : ¬ (heF tp T 0 = 97 ∨ heF tp T 0 = 111 ∨ heF tp T 0 = 116)
      · rw [if_pos g2]; dsimp only; omega
      · rw [if_neg g2]
        by_cases g3 : 0 ≤ (numF tp T (-1) (0 + 1)).2.2
        · rw [if_pos g3]; dsimp only; omega
        · rw [if_neg g3]
          by_cases g4 : ¬ heF tp T (numF tp T (-1) (0 + 1)).2.1 = 44
          · rw [if_pos g4]; dsimp only; omega
          · rw [if_neg g4]
            have hn2 := numF_rng (T := T) (f := -1) (p := (numF tp T (-1) (0 + 1)).2.1 + 1) ht (by omega) (by omega)
            dsimp only; omega
  split
  · exact hb.1
  · rename_i g
    have hm : (ord1 tp T 0).1 = -1 := by rcases hb.2 with q | q; exact q; exact absurd q g
    have hk := ord1_ok (tp := tp) (T := T) (p := 0) ht (by omega) hm
    exact prsF_r ht hT 100 _ _ (by omega) (by omega) (by omega)
theorem CaR.vl {v : Option AV} (h : CaR w C L R s t v u) : ∃ r, some (.inl r) = v := by
  rcases h.1 with ⟨-, q, -⟩ | ⟨-, q, -⟩
  · exact ⟨_, q⟩
  · exact ⟨_, q⟩
theorem cc_execute (h : SI w C t) (hA : w 11 = w 0) (hN : NFl w t) (hK : Kp R s t) (hs : s ≤ 8) (h1 : (sg t 10 1).toNat = 100) (hT : 0 ≤ sg t 10 14 ∧ sg t 10 14 ≤ 60) (ht : ∀ i, 0 ≤ sg t 21 i ∧ sg t 21 i ≤ 127) (hC : 300 ≤ C ∧ C + 300000 < 900000000) : Ct kapR 75 rX0_execute [.inr 10] t (ExC w C R s t) := by
  intro d hd
  refine Wc.rp (fun ⟨hnv, hltR⟩ => ?_)
  have hlt : ∀ v k, kd kap t v = some k → v < nvC t := fun v k hk => by
    by_cases e : v = 10
    · omega
    · refine hltR v k ?_
      unfold kd kapR at *
      by_cases e2 : v < 110
      · rw [if_pos e2] at *; rw [if_neg e]; exact hk
      · rw [if_neg e2] at *; exact hk
  have hF0 : FrE t (newC t rdK 6 (fun _ => 0)) := FrE.new
  have s10n : sg (newC t rdK 6 (fun _ => 0)) 10 = sg t 10 := sg_new (by omega)
  have hIk := (cc_rdInit (t := newC t rdK 6 (fun _ => 0)) (y := nvC t) (s := fun _ => 0) (if_pos rfl) ⟨by omega, hnv.2, rfl⟩ sg_nw).toR (by rw [s10n]; exact h1) (fun v u q => by rw [q.2.2.1.2.2 10 (by omega), s10n]; exact h1)
  have hEb := prs0_r (tp := sg t 21) (T := sg t 10 14) ht (by omega)
  refine wc_aload_n dX0_execute_0 rfl ?_
  refine wc_new dX0_execute_1 (kN0_329 rfl) rfl ?_
  refine wc_dup dX0_execute_4 ?_
  refine wc_aload_n dX0_execute_5 rfl ?_
  refine wc_call dX0_execute_6 rfl (hIk) (by omega) (hx_I (kI0_331 rfl) rfl (kd_nw (by omega)) rfl rfl) ?_
  rintro _ _ ⟨rfl, hD, g1, g2, g3⟩
  rename_i u1
  have gF : FrD (nvC t) t u1 := ⟨⟨g1.1.1, by omega⟩, fun v hv => (g1.2.1 v (Nat.lt_succ_of_lt hv)).trans (hF0.2.2 v hv).1, fun v hv => (g1.2.2 v hv).trans (hF0.2.2 v hv).2⟩
  have e10 : sg u1 10 = sg t 10 := gF.2.2 10 (by omega)
  have e21 : sg u1 21 = sg t 21 := gF.2.2 21 (by omega)
  have gu : uC u1 = uC t + 26 := g3
  have cR := (cc_commands (τ := u1) (y := nvC t) hD (by omega) (by rw [e10]; exact hT) (by rw [e21]; exact ht)).toR (by rw [e10]; exact h1) (fun v u q => by
    rcases q with ⟨q', -, -, q2⟩ | ⟨-, a, xa, -, -, -, q2, -⟩
    · rw [q2.2.1.2.2 10 (by omega), e10]; exact h1
    · rw [q2.2.2 10 (by omega), e10]; exact h1)
  unfold CoQ at cR
  rw [e21, e10] at cR
  refine wc_callX dX0_execute_9 rfl (cR) (by omega) (hx_V (kV0_360 rfl) rfl (kd_dyn (by omega) hD.1.2.1.1) rfl rfl) ?_ ?_
  rotate_left
  ·
    rintro q u (⟨q', hq, hP, hT2⟩ | ⟨-, la, lx, hq, -⟩)
    · cases hq
      refine Or.inr ⟨23, rfl, (cc_execute_23 (t := t) hT2.1 (gF.tr hT2.2.1) (by omega) ⟨by omega, by omega⟩).mn (fun v u' g => ?_)⟩
      have gb := hT2.2.2
      exact ⟨Or.inl ⟨hP, g.1, g.2.1⟩, by omega, by omega⟩
    · cases hq
  rintro _ _ q
  rename_i u2
  rcases q with ⟨q, hq, -⟩ | ⟨z1, la, lx, hq, z2, z3, z4, z5, z6⟩
  · cases hq
  cases hq
  have gF2 : FrD (nvC t) t u2 := gF.tr z4
  have hFs := gF2.frs rfl hnv
  have hI2 := h.frs hFs
  have hK2 := hK.frw hFs.toW hlt
  have f10 : sg u2 10 = sg t 10 := gF2.2.2 10 (by omega)
  have gn0 := gF2.1.1
  have hCa := cc_carriesOut (L := (prs0F (sg t 21) (sg t 10 14)).2) hI2 hA (hN.fr (fun v hv => gF2.2.2 v (by omega))) hK2 hs (by rw [f10]; exact h1) z2 ⟨by omega, by omega⟩ (prs0_ok ht (by omega) z1) z3 hC
  refine wc_call dX0_execute_12 rfl (hCa) (by omega) (hx_V (kV0_364 rfl) rfl rfl rfl rfl) ?_
  rintro _ _ g
  rename_i u3
  obtain ⟨rv, rfl⟩ := g.vl
  refine wc_istore_n dX0_execute_15 rfl ?_
  refine wc_aload_n dX0_execute_16 rfl ?_
  refine wc_iconst dX0_execute_17 ?_
  refine wc_putI dX0_execute_18 (kF0_322 rfl) rfl rfl rfl ⟨by decide, Or.inl (by decide)⟩ (Or.inl rfl) ?_
  refine wc_iload_n dX0_execute_21 rfl ?_
  refine wc_ireturn dX0_execute_22 rfl ?_
  obtain ⟨g1, ⟨g2, g3⟩, g4, g5⟩ := g
  have st : ∀ j, j ≠ 14 → sg (stC u3 10 14 0) 10 j = sg u3 10 j := fun j hj => by rw [sg_st, if_neg hj]
  refine ⟨Or.inr ⟨z1, ⟨fun j j1 j6 j7 j16 j17 => ?_, ?_⟩, ?_⟩, ?_, ?_⟩
  · rw [sg_st]
    by_cases e : j = 14
    · rw [if_pos e, if_pos e]
    · rw [if_neg e, if_neg e, g2 j j1 j6 j7 j16 j17, f10]
  · rw [sg_st' (by decide), g3]; exact gF2.2.2 21 (by omega)
  · rcases g1 with ⟨a1, a2, a3, a4, a5⟩ | ⟨a1, a2, a3, a4, a5, a6⟩
    · exact Or.inl ⟨a1, a2, ⟨_, a3.st10 (by decide) (by decide)⟩, by rw [st 16 (by decide)]; exact a4, by rw [st 17 (by decide)]; exact a5⟩
    · exact Or.inr ⟨a1, a2, a3.st10 (by decide) (by decide), a4, by rw [st 16 (by decide), a5, f10], by rw [st 17 (by decide), a6, f10]⟩
  · show nvC u3 ≤ _; omega
  · show uC u3 ≤ _; omega
end EXE
