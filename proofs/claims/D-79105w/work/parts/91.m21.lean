/-! THE MODEL'S METHODS, 21: execute -/
set_option maxRecDepth 100000
def exS (τ : MT) (p f k : Int) (o : Nat → Int) : MT := stI (setO τ p f k o) 15 0
/-- what 'execute' answers and leaves -/
def ExQ (τ : MT) (C : Int) (v : Option Int) (t : MT) : Prop :=
  (0 ≤ (prs0F (τ.2 14) (τ.1 15)).1 ∧ some (-100 - (prs0F (τ.2 14) (τ.1 15)).1) = v ∧ ∃ p k o, t = exS τ p (prs0F (τ.2 14) (τ.1 15)).1 k o) ∨
  ((prs0F (τ.2 14) (τ.1 15)).1 = -1 ∧ ∃ (p k : Int) (o : Nat → Int) (X : MT), X = copyR (exS τ p (-1) k o) 0 10 0 ∧
    ((¬ (exF (prs0F (τ.2 14) (τ.1 15)).2 0 (X.2 0)).1 = 0 ∧ some (-200 - (exF (prs0F (τ.2 14) (τ.1 15)).2 0 (X.2 0)).1) = v ∧ t.2 0 = (copyR X 10 0 0).2 0 ∧ t.1 21 = (exF (prs0F (τ.2 14) (τ.1 15)).2 0 (X.2 0)).1 ∧ t.1 22 = (exF (prs0F (τ.2 14) (τ.1 15)).2 0 (X.2 0)).2.1 ∧ (∀ a, ¬ (a = 0 ∨ a = 3 ∨ a = 4 ∨ a = 5 ∨ a = 6 ∨ a = 7 ∨ a = 10 ∨ a = 11 ∨ a = 12 ∨ a = 13) → t.2 a = X.2 a) ∧ (∀ j, j ≠ 8 → j ≠ 9 → j ≠ 21 → j ≠ 22 → t.1 j = X.1 j) ∧ HF t) ∨
     ((exF (prs0F (τ.2 14) (τ.1 15)).2 0 (X.2 0)).1 = 0 ∧ some ((prs0F (τ.2 14) (τ.1 15)).2.length : Int) = v ∧ ∃ t', t'.2 0 = (exF (prs0F (τ.2 14) (τ.1 15)).2 0 (X.2 0)).2.2 ∧ FrM X t' ∧ HF t' ∧ HI (X.2 0) (t'.2 0) ∧ bdW (C + 200000) (t'.2 0) ∧ WS (t'.2 0) ∧ t = copyR (keepR t') 10 ((keepR t').1 1) 0)))
section M25
variable {τ : MT} {p f k : Int} {d : Nat} {Q : Option Int → MT → Prop}
theorem setO_0 (τ : MT) : stI (stI (stI τ 16 0) 17 (-1)) 20 0 = setO τ 0 (-1) 0 (τ.2 19) := by
  unfold stI setO
  refine Prod.ext (funext fun j => ?_) (funext fun a => funext fun i => ?_)
  · dsimp only
    by_cases h : j = 16
    · subst h; rfl
    · by_cases h2 : j = 17
      · subst h2; rfl
      · by_cases h3 : j = 20
        · subst h3; rfl
        · simp [h, h2, h3]
  · dsimp only
    split
    · rename_i e; rw [e]
    · rfl
theorem keepR_1 (τ : MT) (h : 0 ≤ τ.1 1 ∧ τ.1 1 ≤ 8) : 1 ≤ (keepR τ).1 1 ∧ (keepR τ).1 1 ≤ 8 := by
  unfold keepR
  split
  · simp [copyR, stI]
  · simp [copyR, stI]; omega
theorem mc_execute_98 {C : Int} {L : OLs} {o : Nat → Int} {p k : Int} (hd : 11 ≤ d) (hr : prs0F (τ.2 14) (τ.1 15) = (-1, L)) (hOL : OL L o) (hob : ∀ i, 0 ≤ o i ∧ o i ≤ 1000) (hk : k = L.length) (hlen : L.length ≤ 45) (hc8 : 0 ≤ τ.1 1 ∧ τ.1 1 ≤ 8) (hC : 300 ≤ C ∧ C + 300000 < 1999999000) (hb : bdW C (τ.2 0)) (hS : WS (τ.2 0)) (hf : HF τ) : Wm d rX3_execute 98 [some (.inr 1), none, none] [] (exS τ p (-1) k o) (ExQ τ C) := by
  have e0 : (exS τ p (-1) k o).2 0 = τ.2 0 := setO_a τ p (-1) k o (a := 0) (by decide)
  have e3 : (exS τ p (-1) k o).2 3 = τ.2 3 := setO_a τ p (-1) k o (a := 3) (by decide)
  have e19 : (exS τ p (-1) k o).2 19 = o := setO_19 τ p (-1) k o
  have hlo := copyR_lo (exS τ p (-1) k o) 0 10 (by omega)
  have hbX : bdW C ((copyR (exS τ p (-1) k o) 0 10 0).2 0) := copyR_bd (τ := exS τ p (-1) k o) (by rw [e0]; exact hb)
  have hSX : WS ((copyR (exS τ p (-1) k o) 0 10 0).2 0) := hlo.ws (by rw [e0]; exact hS)
  refine wm_aload_n dX3_execute_98 rfl ?_
  refine wm_iconst dX3_execute_99 ?_
  refine wm_bipush dX3_execute_100 (by decide) ?_
  refine wm_callv dX3_execute_102 (kV3_53 rfl) rfl (mc_copies (x := 0) (y := 10) (by omega) (by omega) (by omega)) (by omega) rfl rfl ?_
  rintro _ _ ⟨rfl, rfl⟩
  refine wm_iconst dX3_execute_105 ?_
  refine wm_istore_n dX3_execute_106 rfl ?_
  refine mc_execute_107 (X := copyR (exS τ p (-1) k o) 0 10 0) hOL hob (by rw [copyR_o _ _ _ _ (by decide)]; exact e19) (show k = _ from hk) hlen (by omega) L 0 _ _ _ C rfl (by omega) rfl FrM.rf (hf.other (by rw [copyR_o _ _ _ _ (by decide)]; exact e3)) HI.rf hbX hSX (by omega) (fun t' o2 b1 b2 b3 b4 b5 b6 b7 => ?_) (fun t' b1 b2 b3 b4 b5 b6 b7 => ?_)
  · have h1 : t'.1 1 = τ.1 1 := by rw [b3.2 1 (by decide) (by decide)]; rfl
    have h20 : (copyR (keepR t') 10 ((keepR t').1 1) 0).1 20 = L.length := by
      show (keepR t').1 20 = _
      rw [keepR_i t' 20 (by decide), b3.2 20 (by decide) (by decide)]
      exact hk
    have hk1 := keepR_1 t' (by omega)
    refine wm_aload_n dX3_execute_213 rfl ?_
    refine wm_callv dX3_execute_214 (kV3_151 rfl) rfl (mc_keeps (by omega)) (by omega) rfl rfl ?_
    rintro _ _ ⟨rfl, rfl⟩
    refine wm_aload_n dX3_execute_217 rfl ?_
    refine wm_bipush dX3_execute_218 (by decide) ?_
    refine wm_aload_n dX3_execute_220 rfl ?_
    refine wm_getI dX3_execute_221 (kF3_49 rfl) rfl rfl ?_
    refine wm_callv dX3_execute_224 (kV3_53 rfl) rfl (mc_copies (x := 10) (by omega) (by omega) (by omega)) (by omega) rfl rfl ?_
    rintro _ _ ⟨rfl, rfl⟩
    refine wm_aload_n dX3_execute_227 rfl ?_
    refine wm_getI dX3_execute_228 (kF3_187 rfl) rfl rfl ?_
    rw [h20]
    refine wm_ireturn dX3_execute_231 rfl ?_
    refine Or.inr ⟨by rw [hr], p, k, o, _, rfl, Or.inr ?_⟩
    rw [hr]
    exact ⟨b1, rfl, t', b2, b3, b4, b5, b6.mono (by omega), b7, rfl⟩
  · refine Or.inr ⟨by rw [hr], p, k, o, _, rfl, Or.inl ?_⟩
    rw [hr]
    exact ⟨b1, rfl, b2, b3, b4, b5, b6, b7⟩
theorem mc_execute {C : Int} (hT : 0 ≤ τ.1 15 ∧ τ.1 15 ≤ 60) (ht : ∀ i, 0 ≤ τ.2 14 i ∧ τ.2 14 i ≤ 127) (ho : ∀ i, 0 ≤ τ.2 19 i ∧ τ.2 19 i ≤ 1000) (hc8 : 0 ≤ τ.1 1 ∧ τ.1 1 ≤ 8) (hC : 300 ≤ C ∧ C + 300000 < 1999999000) (hb : bdW C (τ.2 0)) (hS : WS (τ.2 0)) (hf : HF τ) : Mt 11 rX3_execute [.inr 1] τ (ExQ τ C) := by
  intro d hd
  have hfault : ∀ (r p k : Int) (o : Nat → Int), r = (prs0F (τ.2 14) (τ.1 15)).1 → 0 ≤ r → r ≤ 1000 → Wm d rX3_execute 78 [some (.inr 1), none, none] [] (setO τ p r k o) (ExQ τ C) := fun r p k o hr h0 h1 => by
    subst hr
    refine wm_aload_n dX3_execute_78 rfl ?_
    refine wm_iconst dX3_execute_79 ?_
    refine wm_putI dX3_execute_80 (kF3_172 rfl) rfl rfl (Or.inl rfl) ?_
    refine wm_aload_n dX3_execute_83 rfl ?_
    refine wm_getI dX3_execute_84 (kF3_178 rfl) rfl rfl ?_
    refine wm_if dX3_execute_87 (cB_lt (show rng (prs0F (τ.2 14) (τ.1 15)).1 by omega) ⟨by omega, by omega⟩) 98 rfl (fun c87 => ?_) (fun c87 => ?_)
    ·
      exact absurd (show (prs0F (τ.2 14) (τ.1 15)).1 < 0 from c87) (by omega)
    ·
      refine wm_bipush dX3_execute_90 (by decide) ?_
      refine wm_aload_n dX3_execute_92 rfl ?_
      refine wm_getI dX3_execute_93 (kF3_178 rfl) rfl rfl ?_
      refine wm_isub dX3_execute_96 ?_
      refine wm_ireturn dX3_execute_97 rfl ?_
      exact Or.inl ⟨h0, rfl, p, k, o, rfl⟩
  have hgood : ∀ (p k : Int) (o : Nat → Int) (L : OLs), prs0F (τ.2 14) (τ.1 15) = (-1, L) → OL L o → (∀ i, 0 ≤ o i ∧ o i ≤ 1000) → k = L.length → k ≤ 45 → Wm d rX3_execute 78 [some (.inr 1), none, none] [] (setO τ p (-1) k o) (ExQ τ C) := fun p k o L hr hOL hob hk hl => by
    refine wm_aload_n dX3_execute_78 rfl ?_
    refine wm_iconst dX3_execute_79 ?_
    refine wm_putI dX3_execute_80 (kF3_172 rfl) rfl rfl (Or.inl rfl) ?_
    refine wm_aload_n dX3_execute_83 rfl ?_
    refine wm_getI dX3_execute_84 (kF3_178 rfl) rfl rfl ?_
    refine wm_if dX3_execute_87 (cB_lt (show rng (-1) by decide) ⟨by omega, by omega⟩) 98 rfl (fun c87 => ?_) (fun c87 => ?_)
    ·
      exact mc_execute_98 hd hr hOL hob hk (by omega) hc8 hC hb hS hf
    ·
      exact absurd (show (-1 : Int) < 0 by decide) c87
  refine wm_aload_n dX3_execute_0 rfl ?_
  refine wm_iconst dX3_execute_1 ?_
  refine wm_putI dX3_execute_2 (kF3_175 rfl) rfl rfl (Or.inl rfl) ?_
  refine wm_aload_n dX3_execute_5 rfl ?_
  refine wm_iconst dX3_execute_6 ?_
  refine wm_putI dX3_execute_7 (kF3_178 rfl) rfl rfl (Or.inl rfl) ?_
  refine wm_aload_n dX3_execute_10 rfl ?_
  refine wm_iconst dX3_execute_11 ?_
  refine wm_putI dX3_execute_12 (kF3_187 rfl) rfl rfl (Or.inl rfl) ?_
  rw [setO_0]
  refine wm_aload_n dX3_execute_15 rfl ?_
  refine wm_callv dX3_execute_16 (kV3_193 rfl) rfl (mc_order hT ht (by omega) (by omega) (by omega)) (by omega) rfl rfl ?_
  rintro _ _ ⟨rfl, p2, f2, k2, o2, rfl, hP⟩
  rcases ordP_res ht (by omega) hP with ⟨q1, q2, q3⟩ | ⟨q1, q2, q3, q4, q5, q6, q7, q8⟩
  · have e : (prs0F (τ.2 14) (τ.1 15)).1 = f2 := by rw [prs0F, if_pos (by omega)]; exact q3
    refine wm_aload_n dX3_execute_19 rfl ?_
    refine wm_getI dX3_execute_20 (kF3_178 rfl) rfl rfl ?_
    refine wm_if dX3_execute_23 (cB_ge (show rng f2 by omega) ⟨by omega, by omega⟩) 52 rfl (fun c23 => ?_) (fun c23 => ?_)
    ·
      refine wm_aload_n dX3_execute_52 rfl ?_
      refine wm_getI dX3_execute_53 (kF3_178 rfl) rfl rfl ?_
      refine wm_if dX3_execute_56 (cB_ge (show rng f2 by omega) ⟨by omega, by omega⟩) 78 rfl (fun c56 => ?_) (fun c56 => ?_)
      ·
        exact hfault f2 p2 k2 o2 e.symm q1 q2
      ·
        exact absurd (show (0 : Int) ≤ f2 from q1) c56
    ·
      exact absurd (show (0 : Int) ≤ f2 from q1) c23
  · have e : prs0F (τ.2 14) (τ.1 15) = prsF (τ.2 14) (τ.1 15) 100 (ord1 (τ.2 14) (τ.1 15) 0).2.1 [(ord1 (τ.2 14) (τ.1 15) 0).2.2] := by rw [prs0F, if_neg (by omega)]
    subst q1 q3
    rw [show ((0 : Int) + 1) = ((([(ord1 (τ.2 14) (τ.1 15) 0).2.2] : OLs).length : Nat) : Int) by rfl, q4]
    refine mc_execute_19 hT ht (by omega) 100 _ _ _ (by omega) (by omega) (by omega) ?_ (fun i => q8 i (ho i)) (by show 2 * (1 : Int) ≤ _; omega) (fun p' k' o' b1 b2 b3 => ?_)
    · have := OL.more (L := []) (o := τ.2 19) (o' := o2) (fun i hi => absurd hi (Nat.not_lt_zero _)) q6 (fun i hi => q7 i hi)
      exact this
    · rw [← e] at b1 b2 b3 ⊢
      by_cases q : (prs0F (τ.2 14) (τ.1 15)).1 = -1
      · obtain ⟨c1, c2, c3, c4⟩ := b3 q
        rw [q]
        exact hgood _ _ _ (prs0F (τ.2 14) (τ.1 15)).2 (Prod.ext q rfl) c1 c2 c3 c4
      · exact hfault _ _ _ _ rfl (by omega) b1
end M25
