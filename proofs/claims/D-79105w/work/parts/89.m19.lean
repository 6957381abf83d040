/-! THE MODEL'S METHODS, 19: all orders read -/
set_option maxRecDepth 100000
/-- one order from p on: fault (-1: none), next place, letter and numbers -/
def ord1 (tp : Nat → Int) (T p : Int) : Int × Int × (Int × Int × Int) :=
  if ¬ (heF tp T p = 97 ∨ heF tp T p = 111 ∨ heF tp T p = 116 ∨ heF tp T p = 108 ∨ heF tp T p = 120 ∨ heF tp T p = 103) then (p, p, (0, 0, 0)) else
  if ¬ (heF tp T p = 97 ∨ heF tp T p = 111 ∨ heF tp T p = 116) then ((numF tp T (-1) (p + 1)).2.2, (numF tp T (-1) (p + 1)).2.1, (heF tp T p, (numF tp T (-1) (p + 1)).1, 0)) else
  if 0 ≤ (numF tp T (-1) (p + 1)).2.2 then ((numF tp T (-1) (p + 1)).2.2, p, (0, 0, 0)) else
  if ¬ heF tp T (numF tp T (-1) (p + 1)).2.1 = 44 then ((numF tp T (-1) (p + 1)).2.1, p, (0, 0, 0)) else
  ((numF tp T (-1) ((numF tp T (-1) (p + 1)).2.1 + 1)).2.2, (numF tp T (-1) ((numF tp T (-1) (p + 1)).2.1 + 1)).2.1, (heF tp T p, (numF tp T (-1) (p + 1)).1, (numF tp T (-1) ((numF tp T (-1) (p + 1)).2.1 + 1)).1))
/-- orders in the array -/
def OA (q : Int × Int × Int) (k : Int) (o : Nat → Int) : Prop := o (3 * k).toNat = q.1 ∧ o (3 * k + 1).toNat = q.2.1 ∧ (ordT q.1 → o (3 * k + 2).toNat = q.2.2) ∧ ordL q.1 ∧ (0 ≤ q.2.1 ∧ q.2.1 ≤ 99) ∧ (0 ≤ q.2.2 ∧ q.2.2 ≤ 99)
theorem ordP_res {tp : Nat → Int} {T p k p' f' k' : Int} {o o' : Nat → Int} (ht : ∀ i, 0 ≤ tp i ∧ tp i ≤ 127) (hp : 0 ≤ p ∧ p < 800) (h : OrdP tp T (-1) p k o p' f' k' o') :
    (0 ≤ f' ∧ f' ≤ 1000 ∧ (ord1 tp T p).1 = f') ∨ (f' = -1 ∧ (ord1 tp T p).1 = -1 ∧ k' = k + 1 ∧ p' = (ord1 tp T p).2.1 ∧ (p + 2 ≤ p' ∧ p' ≤ p + 6) ∧ OA (ord1 tp T p).2.2 k o' ∧ (∀ i : Nat, (i : Int) < 3 * k → o' i = o i) ∧ (∀ i, (0 ≤ o i ∧ o i ≤ 1000) → (0 ≤ o' i ∧ o' i ≤ 1000))) := by
  have hn := numF_rng (T := T) (f := -1) (p := p + 1) ht (by omega) (by omega)
  rcases h with ⟨h1, h2, h3, h4, h5⟩ | ⟨h1, h2, hbd, h⟩
  · refine Or.inl ⟨by omega, by omega, ?_⟩
    unfold ordL at h1
    rw [ord1, if_pos h1]
    exact h2.symm
  · have hL := h1
    unfold ordL at h1
    rcases h with ⟨g1, g2, g3, g4, g5, g6⟩ | ⟨g1, g2, g3⟩ | ⟨g1, g2, g3, g4⟩ | ⟨g1, g2, g3, g4, g5, g6, g7, g8, g9⟩
    · have gT := g1
      unfold ordT at g1
      have e : ord1 tp T p = ((numF tp T (-1) (p + 1)).2.2, (numF tp T (-1) (p + 1)).2.1, (heF tp T p, (numF tp T (-1) (p + 1)).1, 0)) := by rw [ord1, if_neg (fun q => q h1), if_pos g1]
      rw [e]
      by_cases q : (numF tp T (-1) (p + 1)).2.2 = -1
      · exact Or.inr ⟨by omega, q, g2, g3, by omega, ⟨g5, g6, fun q2 => absurd q2 gT, hL, hn.1, by dsimp only; omega⟩, h2, hbd⟩
      · exact Or.inl ⟨by omega, by omega, g4.symm⟩
    · unfold ordT at g1
      have e : ord1 tp T p = ((numF tp T (-1) (p + 1)).2.2, p, (0, 0, 0)) := by rw [ord1, if_neg (fun q => q h1), if_neg (fun q => q g1), if_pos g2]
      rw [e]
      exact Or.inl ⟨by omega, by omega, g3.symm⟩
    · unfold ordT at g1
      have e : ord1 tp T p = ((numF tp T (-1) (p + 1)).2.1, p, (0, 0, 0)) := by rw [ord1, if_neg (fun q => q h1), if_neg (fun q => q g1), if_neg (by omega), if_pos g3]
      rw [e]
      exact Or.inl ⟨by omega, by omega, g4.symm⟩
    · unfold ordT at g1
      have hn2 := numF_rng (T := T) (f := -1) (p := (numF tp T (-1) (p + 1)).2.1 + 1) ht (by omega) (by omega)
      have e : ord1 tp T p = ((numF tp T (-1) ((numF tp T (-1) (p + 1)).2.1 + 1)).2.2, (numF tp T (-1) ((numF tp T (-1) (p + 1)).2.1 + 1)).2.1, (heF tp T p, (numF tp T (-1) (p + 1)).1, (numF tp T (-1) ((numF tp T (-1) (p + 1)).2.1 + 1)).1)) := by rw [ord1, if_neg (fun q => q h1), if_neg (fun q => q g1), if_neg (by omega), if_neg (fun q => q g3)]
      rw [e]
      by_cases q : (numF tp T (-1) ((numF tp T (-1) (p + 1)).2.1 + 1)).2.2 = -1
      · exact Or.inr ⟨by omega, q, g4, g5, by omega, ⟨g7, g8, fun _ => g9, hL, hn.1, hn2.1⟩, h2, hbd⟩
      · exact Or.inl ⟨by omega, by omega, g6.symm⟩
abbrev OLs : Type := List (Int × Int × Int)
/-- behind a good order at p: fault (-1: none) and all orders -/
def prsF (tp : Nat → Int) (T : Int) : Nat → Int → OLs → Int × OLs
  | 0, p, L => (p, L)
  | n + 1, p, L => if heF tp T p = 59 then (if 0 ≤ (ord1 tp T (p + 1)).1 then ((ord1 tp T (p + 1)).1, L) else prsF tp T n (ord1 tp T (p + 1)).2.1 (L ++ [(ord1 tp T (p + 1)).2.2])) else if p < T then (p, L) else (-1, L)
def prs0F (tp : Nat → Int) (T : Int) : Int × OLs := if 0 ≤ (ord1 tp T 0).1 then ((ord1 tp T 0).1, []) else prsF tp T 100 (ord1 tp T 0).2.1 [(ord1 tp T 0).2.2]
def OL (L : OLs) (o : Nat → Int) : Prop := ∀ i, i < L.length → OA (L.getD i (0, 0, 0)) i o
theorem OL.more {L : OLs} {q : Int × Int × Int} {o o' : Nat → Int} (h : OL L o) (hq : OA q L.length o') (he : ∀ i : Nat, (i : Int) < 3 * L.length → o' i = o i) : OL (L ++ [q]) o' := fun i hi => by
  rw [List.length_append, List.length_singleton] at hi
  rw [List.getD_eq_getElem?_getD]
  by_cases e : i < L.length
  · rw [List.getElem?_append_left e, ← List.getD_eq_getElem?_getD]
    obtain ⟨a1, a2, a3, a4, a5, a6⟩ := h i e
    exact ⟨by rw [he _ (by omega)]; exact a1, by rw [he _ (by omega)]; exact a2, fun q => by rw [he _ (by omega)]; exact a3 q, a4, a5, a6⟩
  · have e2 : i = L.length := by omega
    subst e2
    rw [List.getElem?_append_right (Nat.le_refl _), Nat.sub_self]
    exact hq
section M23
variable {τ : MT} {p f k : Int} {d : Nat} {Q : Option Int → MT → Prop}
theorem mc_execute_19 (hT : 0 ≤ τ.1 15 ∧ τ.1 15 ≤ 60) (ht : ∀ i, 0 ≤ τ.2 14 i ∧ τ.2 14 i ≤ 127) (hd : 3 ≤ d) : ∀ (n : Nat) (p : Int) (L : OLs) (o : Nat → Int), 100 ≤ p + n → 0 ≤ p → p < 90 → OL L o → (∀ i, 0 ≤ o i ∧ o i ≤ 1000) → 2 * (L.length : Int) ≤ p →
    (∀ (p' k' : Int) (o' : Nat → Int), (prsF (τ.2 14) (τ.1 15) n p L).1 ≤ 1000 → (-1 ≤ (prsF (τ.2 14) (τ.1 15) n p L).1) → ((prsF (τ.2 14) (τ.1 15) n p L).1 = -1 → OL (prsF (τ.2 14) (τ.1 15) n p L).2 o' ∧ (∀ i, 0 ≤ o' i ∧ o' i ≤ 1000) ∧ k' = (prsF (τ.2 14) (τ.1 15) n p L).2.length ∧ k' ≤ 45) → Wm d rX3_execute 78 [some (.inr 1), none, none] [] (setO τ p' (prsF (τ.2 14) (τ.1 15) n p L).1 k' o') Q) →
    Wm d rX3_execute 19 [some (.inr 1), none, none] [] (setO τ p (-1) L.length o) Q := by
  intro n
  induction n with
  | zero => intro p L o h1 h2 h3 _ _ _ _; omega
  | succ n ih =>
    intro p L o h1 h2 h3 hL ho hk K
    have hh := heF_rng (T := τ.1 15) (p := p) ht
    have he59 : heF (τ.2 14) (τ.1 15) p = 59 → p < τ.1 15 := fun h => by
      unfold heF at h
      split at h
      · assumption
      · omega
    refine wm_aload_n dX3_execute_19 rfl ?_
    refine wm_getI dX3_execute_20 (kF3_178 rfl) rfl rfl ?_
    refine wm_if dX3_execute_23 (cB_ge (show rng (-1) by decide) ⟨by omega, by omega⟩) 52 rfl (fun c23 => ?_) (fun c23 => ?_)
    ·
      exact absurd (show (0 : Int) ≤ -1 from c23) (by decide)
    ·
      refine wm_aload_n dX3_execute_26 rfl ?_
      refine wm_callv dX3_execute_27 (kV3_181 rfl) rfl (mc_hereO (by omega) hT) (by omega) rfl rfl ?_
      rintro _ _ ⟨rfl, rfl⟩
      refine wm_bipush dX3_execute_30 (by decide) ?_
      refine wm_icmp dX3_execute_32 (cB_ne ⟨by omega, by omega⟩ ⟨by omega, by omega⟩) 52 rfl (fun c32 => ?_) (fun c32 => ?_)
      ·
        refine wm_aload_n dX3_execute_52 rfl ?_
        refine wm_getI dX3_execute_53 (kF3_178 rfl) rfl rfl ?_
        refine wm_if dX3_execute_56 (cB_ge (show rng (-1) by decide) ⟨by omega, by omega⟩) 78 rfl (fun c56 => ?_) (fun c56 => ?_)
        ·
          exact absurd (show (0 : Int) ≤ -1 from c56) (by decide)
        ·
          refine wm_aload_n dX3_execute_59 rfl ?_
          refine wm_getI dX3_execute_60 (kF3_175 rfl) rfl rfl ?_
          refine wm_aload_n dX3_execute_63 rfl ?_
          refine wm_getI dX3_execute_64 (kF3_172 rfl) rfl rfl ?_
          refine wm_icmp dX3_execute_67 (cB_ge (show rng p by omega) (show rng (τ.1 15) by omega)) 78 rfl (fun c67 => ?_) (fun c67 => ?_)
          ·
            have c67 : ¬ p < τ.1 15 := by have c67 : τ.1 15 ≤ p := c67; omega
            have e : prsF (τ.2 14) (τ.1 15) (n + 1) p L = (-1, L) := by rw [prsF, if_neg c32, if_neg c67]
            rw [e] at K
            exact K p L.length o (show (-1 : Int) ≤ 1000 by decide) (Int.le_refl _) (fun _ => ⟨hL, ho, rfl, by omega⟩)
          ·
            refine wm_aload_n dX3_execute_70 rfl ?_
            refine wm_aload_n dX3_execute_71 rfl ?_
            refine wm_getI dX3_execute_72 (kF3_175 rfl) rfl rfl ?_
            rw [setO_16]
            refine wm_putI dX3_execute_75 (kF3_178 rfl) rfl rfl (Or.inl rfl) ?_
            rw [setO_f]
            have c67 : p < τ.1 15 := by have c67 : ¬ τ.1 15 ≤ p := c67; omega
            have e : prsF (τ.2 14) (τ.1 15) (n + 1) p L = (p, L) := by rw [prsF, if_neg c32, if_pos c67]
            rw [e] at K
            exact K p L.length o (by dsimp only; omega) (by dsimp only; omega) (fun q => by dsimp only at q; omega)
      ·
        refine wm_aload_n dX3_execute_35 rfl ?_
        refine wm_dup dX3_execute_36 ?_
        refine wm_getI dX3_execute_37 (kF3_175 rfl) rfl rfl ?_
        refine wm_iconst dX3_execute_40 ?_
        refine wm_iadd dX3_execute_41 ?_
        rw [setO_16]
        refine wm_putI dX3_execute_42 (kF3_175 rfl) rfl rfl (Or.inl rfl) ?_
        rw [setO_p]
        refine wm_aload_n dX3_execute_45 rfl ?_
        refine wm_callv dX3_execute_46 (kV3_193 rfl) rfl (mc_order hT ht (by omega) (by have := he59 (by omega); omega) (by omega)) (by omega) rfl rfl ?_
        rintro _ _ ⟨rfl, p2, f2, k2, o2, rfl, hP⟩
        refine wm_goto dX3_execute_49 19 rfl ?_
        have hp59 := he59 (by omega)
        rcases ordP_res ht (by omega) hP with ⟨q1, q2, q3⟩ | ⟨q1, q2, q3, q4, q5, q6, q7, q8⟩
        · have e : prsF (τ.2 14) (τ.1 15) (n + 1) p L = (f2, L) := by rw [prsF, if_pos (by omega), if_pos (by omega), q3]
          rw [e] at K
          refine wm_aload_n dX3_execute_19 rfl ?_
          refine wm_getI dX3_execute_20 (kF3_178 rfl) rfl rfl ?_
          refine wm_if dX3_execute_23 (cB_ge (show rng f2 by omega) ⟨by omega, by omega⟩) 52 rfl (fun c23 => ?_) (fun c23 => ?_)
          ·
            refine wm_aload_n dX3_execute_52 rfl ?_
            refine wm_getI dX3_execute_53 (kF3_178 rfl) rfl rfl ?_
            refine wm_if dX3_execute_56 (cB_ge (show rng f2 by omega) ⟨by omega, by omega⟩) 78 rfl (fun c56 => ?_) (fun c56 => ?_)
            ·
              exact K p2 k2 o2 q2 (by dsimp only; omega) (fun q => by dsimp only at q; omega)
            ·
              exact absurd (show (0 : Int) ≤ f2 from q1) c56
          ·
            exact absurd (show (0 : Int) ≤ f2 from q1) c23
        · have e : prsF (τ.2 14) (τ.1 15) (n + 1) p L = prsF (τ.2 14) (τ.1 15) n (ord1 (τ.2 14) (τ.1 15) (p + 1)).2.1 (L ++ [(ord1 (τ.2 14) (τ.1 15) (p + 1)).2.2]) := by rw [prsF, if_pos (by omega), if_neg (by omega)]
          rw [e] at K
          subst q1 q3
          rw [show ((L.length : Int) + 1) = (((L ++ [(ord1 (τ.2 14) (τ.1 15) (p + 1)).2.2]).length : Nat) : Int) by simp, q4]
          exact ih _ _ _ (by omega) (by omega) (by omega) (hL.more q6 q7) (fun i => q8 i (ho i)) (by simp; omega) K
end M23
