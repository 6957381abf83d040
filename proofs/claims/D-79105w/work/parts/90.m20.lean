/-! THE MODEL'S METHODS, 20: orders carried out -/
set_option maxRecDepth 100000
def exF : OLs → Int → (Nat → Int) → Int × Int × (Nat → Int)
  | [], i, w => (0, i, w)
  | q :: r, i, w => if refF w q.1 q.2.1 q.2.2 = 0 then exF r (i + 1) (carF w q.1 q.2.1 q.2.2) else (refF w q.1 q.2.1 q.2.2, i, w)
theorem refF_b {w : Nat → Int} {l a b b' : Int} (hL : ordL l) (h : ordT l → b = b') : refF w l a b = refF w l a b' := by
  by_cases q : ordT l
  · rw [h q]
  · unfold ordL at hL
    unfold ordT at q
    unfold refF
    by_cases e : l = 103
    · rw [if_pos e, if_pos e]
    · rw [if_neg e, if_neg e, if_pos (show l = 108 ∨ l = 120 by omega), if_pos (show l = 108 ∨ l = 120 by omega)]
theorem carF_b {w : Nat → Int} {l a b b' : Int} (hL : ordL l) (h : ordT l → b = b') : carF w l a b = carF w l a b' := by
  by_cases q : ordT l
  · rw [h q]
  · unfold ordL at hL
    unfold ordT at q
    have e : car1F w l a b = car1F w l a b' := by
      unfold car1F
      rw [if_neg (by omega), if_neg (by omega), if_neg (show ¬ l = 97 by omega), if_neg (show ¬ l = 111 by omega)]
    unfold carF
    have q6 : ¬ l = 116 := by omega
    rw [e]
    simp only [if_neg q6]
section M24
variable {τ : MT} {p f k : Int} {d : Nat} {Q : Option Int → MT → Prop}
theorem mc_execute_107 {X : MT} {L : OLs} {o : Nat → Int} (hOL : OL L o) (hob : ∀ i, 0 ≤ o i ∧ o i ≤ 1000) (h19 : X.2 19 = o) (h20 : X.1 20 = L.length) (hlen : L.length ≤ 45) (hd : 10 ≤ d) : ∀ (R : OLs) (i : Nat) (w : Nat → Int) (t : MT) (o2 : Option AV) (C : Int), L.drop i = R → i ≤ L.length → t.2 0 = w → FrM X t → HF t → HI (X.2 0) w → bdW C w → WS w → (300 ≤ C ∧ C + 4100 * (R.length : Int) + 4100 < 1999999000) →
    (∀ t' o2, (exF R i w).1 = 0 → t'.2 0 = (exF R i w).2.2 → FrM X t' → HF t' → HI (X.2 0) (t'.2 0) → bdW (C + 4100 * (R.length : Int)) (t'.2 0) → WS (t'.2 0) → Wm d rX3_execute 213 [some (.inr 1), some (.inl L.length), o2] [] t' Q) →
    (∀ t', ¬ (exF R i w).1 = 0 → t'.2 0 = (copyR X 10 0 0).2 0 → t'.1 21 = (exF R i w).1 → t'.1 22 = (exF R i w).2.1 → (∀ a, ¬ (a = 0 ∨ a = 3 ∨ a = 4 ∨ a = 5 ∨ a = 6 ∨ a = 7 ∨ a = 10 ∨ a = 11 ∨ a = 12 ∨ a = 13) → t'.2 a = X.2 a) → (∀ j, j ≠ 8 → j ≠ 9 → j ≠ 21 → j ≠ 22 → t'.1 j = X.1 j) → HF t' → Q (some (-200 - (exF R i w).1)) t') →
    Wm d rX3_execute 107 [some (.inr 1), some (.inl i), o2] [] t Q := by
  intro R
  induction R with
  | nil =>
    intro i w t o2 C hR hi hw hF hf hH hb hS hC K1 K2
    have e : i = L.length := by
      have := congrArg List.length hR
      rw [List.length_drop, List.length_nil] at this
      omega
    subst e
    have e20 : t.1 20 = L.length := by rw [hF.2 20 (by decide) (by decide)]; exact h20
    refine wm_iload_n dX3_execute_107 rfl ?_
    refine wm_aload_n dX3_execute_108 rfl ?_
    refine wm_getI dX3_execute_109 (kF3_187 rfl) rfl rfl ?_
    refine wm_icmp dX3_execute_112 (cB_ge ⟨by omega, by omega⟩ (by rw [e20]; omega)) 213 rfl (fun c112 => ?_) (fun c112 => ?_)
    ·
      exact K1 t o2 rfl hw hF hf (by rw [hw]; exact hH) (by rw [hw]; exact hb.mono (by omega)) (by rw [hw]; exact hS)
    ·
      exact absurd (show t.1 20 ≤ (L.length : Int) by omega) c112
  | cons q R ih =>
    intro i w t o2 C hR hi hw hF hf hH hb hS hC K1 K2
    have e20 : t.1 20 = L.length := by rw [hF.2 20 (by decide) (by decide)]; exact h20
    have e19 : t.2 19 = o := by rw [hF.1 19 (by decide)]; exact h19
    have hlt : i < L.length := by
      have := congrArg List.length hR
      rw [List.length_drop, List.length_cons] at this
      omega
    have hq : L.getD i (0, 0, 0) = q := by
      have h1 := List.drop_eq_getElem_cons hlt
      rw [hR] at h1
      rw [List.getD_eq_getElem?_getD, List.getElem?_eq_getElem hlt]
      exact (List.cons.inj h1).1.symm
    have hR2 : L.drop (i + 1) = R := by
      have h1 := List.drop_eq_getElem_cons hlt
      rw [hR] at h1
      exact (List.cons.inj h1).2.symm
    have hoa := hOL i hlt
    rw [hq] at hoa
    obtain ⟨a1, a2, a3, a4, a5, a6⟩ := hoa
    have hbb := hob (3 * (i : Int) + 2).toNat
    have hlr : 97 ≤ q.1 ∧ q.1 ≤ 120 := by rcases a4 with e | e | e | e | e | e <;> omega
    have hrb : refF w q.1 q.2.1 (o (3 * (i : Int) + 2).toNat) = refF w q.1 q.2.1 q.2.2 := refF_b a4 a3
    have hcb : carF w q.1 q.2.1 (o (3 * (i : Int) + 2).toNat) = carF w q.1 q.2.1 q.2.2 := carF_b a4 a3
    have hrr : rng (refF w q.1 q.2.1 q.2.2) := by
      unfold refF
      repeat' split
      all_goals omega
    have h21 : ∀ (u : MT) (a b : Int), (stI (stI u 21 a) 22 b).1 21 = a ∧ (stI (stI u 21 a) 22 b).1 22 = b := fun u a b => by simp [stI]
    refine wm_iload_n dX3_execute_107 rfl ?_
    refine wm_aload_n dX3_execute_108 rfl ?_
    refine wm_getI dX3_execute_109 (kF3_187 rfl) rfl rfl ?_
    refine wm_icmp dX3_execute_112 (cB_ge ⟨by omega, by omega⟩ (by rw [e20]; omega)) 213 rfl (fun c112 => ?_) (fun c112 => ?_)
    ·
      exact absurd c112 (show ¬ t.1 20 ≤ (i : Int) by omega)
    ·
      refine wm_aload_n dX3_execute_115 rfl ?_
      refine wm_aload_n dX3_execute_116 rfl ?_
      refine wm_getA dX3_execute_117 (kF3_46 rfl) rfl ?_
      refine wm_iconst dX3_execute_120 ?_
      refine wm_iload_n dX3_execute_121 rfl ?_
      refine wm_imul dX3_execute_122 ?_
      refine wm_iaload dX3_execute_123 rfl ⟨by omega, by omega⟩ _ rfl ?_
      refine wm_aload_n dX3_execute_124 rfl ?_
      refine wm_getA dX3_execute_125 (kF3_46 rfl) rfl ?_
      refine wm_iconst dX3_execute_128 ?_
      refine wm_iload_n dX3_execute_129 rfl ?_
      refine wm_imul dX3_execute_130 ?_
      refine wm_iconst dX3_execute_131 ?_
      refine wm_iadd dX3_execute_132 ?_
      refine wm_iaload dX3_execute_133 rfl ⟨by omega, by omega⟩ _ rfl ?_
      refine wm_aload_n dX3_execute_134 rfl ?_
      refine wm_getA dX3_execute_135 (kF3_46 rfl) rfl ?_
      refine wm_iconst dX3_execute_138 ?_
      refine wm_iload_n dX3_execute_139 rfl ?_
      refine wm_imul dX3_execute_140 ?_
      refine wm_iconst dX3_execute_141 ?_
      refine wm_iadd dX3_execute_142 ?_
      refine wm_iaload dX3_execute_143 rfl ⟨by omega, by omega⟩ _ rfl ?_
      rw [e19, a1, a2]
      refine wm_callv dX3_execute_144 (kV3_196 rfl) rfl (mc_refusal (C := C) (by omega) (by omega) (by omega) (by omega) (by rw [hw]; exact hb) (by rw [hw]; exact hS)) (by omega) rfl rfl ?_
      rintro _ _ ⟨rfl, rfl⟩
      rw [hw, hrb]
      refine wm_istore_n dX3_execute_147 rfl ?_
      refine wm_iload_n dX3_execute_148 rfl ?_
      refine wm_if dX3_execute_149 (cB_eq hrr ⟨by omega, by omega⟩) 175 rfl (fun c149 => ?_) (fun c149 => ?_)
      ·
        refine wm_aload_n dX3_execute_175 rfl ?_
        refine wm_aload_n dX3_execute_176 rfl ?_
        refine wm_getA dX3_execute_177 (kF3_46 rfl) rfl ?_
        refine wm_iconst dX3_execute_180 ?_
        refine wm_iload_n dX3_execute_181 rfl ?_
        refine wm_imul dX3_execute_182 ?_
        refine wm_iaload dX3_execute_183 rfl ⟨by omega, by omega⟩ _ rfl ?_
        refine wm_aload_n dX3_execute_184 rfl ?_
        refine wm_getA dX3_execute_185 (kF3_46 rfl) rfl ?_
        refine wm_iconst dX3_execute_188 ?_
        refine wm_iload_n dX3_execute_189 rfl ?_
        refine wm_imul dX3_execute_190 ?_
        refine wm_iconst dX3_execute_191 ?_
        refine wm_iadd dX3_execute_192 ?_
        refine wm_iaload dX3_execute_193 rfl ⟨by omega, by omega⟩ _ rfl ?_
        refine wm_aload_n dX3_execute_194 rfl ?_
        refine wm_getA dX3_execute_195 (kF3_46 rfl) rfl ?_
        refine wm_iconst dX3_execute_198 ?_
        refine wm_iload_n dX3_execute_199 rfl ?_
        refine wm_imul dX3_execute_200 ?_
        refine wm_iconst dX3_execute_201 ?_
        refine wm_iadd dX3_execute_202 ?_
        refine wm_iaload dX3_execute_203 rfl ⟨by omega, by omega⟩ _ rfl ?_
        rw [e19, a1, a2]
        refine wm_callv dX3_execute_204 (kV3_206 rfl) rfl (mc_carries (C := C) (by omega) (by omega) (by rw [List.length_cons] at hC; omega) (by rw [hw]; exact hb) (by rw [hw]; exact hS) hf (by unfold ordL at a4; omega) hbb (by omega) (by rw [hw, hrb]; omega)) (by omega) rfl rfl ?_
        rintro _ _ ⟨rfl, r1, r2, r3, r4, r5, r6⟩
        refine wm_iinc dX3_execute_207 rfl ?_
        refine wm_goto dX3_execute_210 107 rfl ?_
        rename_i t2
        rw [hw, hcb] at r1
        have e : exF (q :: R) i w = exF R (i + 1) (carF w q.1 q.2.1 q.2.2) := by rw [exF, if_pos (by omega)]
        rw [e] at K1 K2
        rw [List.length_cons] at hC
        rw [List.length_cons] at K1
        rw [hw] at r6
        exact ih (i + 1) (carF w q.1 q.2.1 q.2.2) t2 _ (C + 4100) hR2 (by omega) r1 (hF.tr r2) r3 (by rw [← r1]; exact hH.tr r6) (by rw [← r1]; exact r4) (by rw [← r1]; exact r5) (by omega) (fun t' o2 b1 b2 b3 b4 b5 b6 b7 => K1 t' o2 b1 b2 b3 b4 b5 (b6.mono (by omega)) b7) K2
      ·
        refine wm_aload_n dX3_execute_152 rfl ?_
        refine wm_bipush dX3_execute_153 (by decide) ?_
        refine wm_iconst dX3_execute_155 ?_
        refine wm_callv dX3_execute_156 (kV3_53 rfl) rfl (mc_copies (x := 10) (y := 0) (by omega) (by omega) (by omega)) (by omega) rfl rfl ?_
        rintro _ _ ⟨rfl, rfl⟩
        refine wm_aload_n dX3_execute_159 rfl ?_
        refine wm_iload_n dX3_execute_160 rfl ?_
        refine wm_putI dX3_execute_161 (kF3_200 rfl) rfl rfl (Or.inl rfl) ?_
        refine wm_aload_n dX3_execute_164 rfl ?_
        refine wm_iload_n dX3_execute_165 rfl ?_
        refine wm_putI dX3_execute_166 (kF3_203 rfl) rfl rfl (Or.inl rfl) ?_
        refine wm_sipush dX3_execute_169 (by decide) ?_
        refine wm_iload_n dX3_execute_172 rfl ?_
        refine wm_isub dX3_execute_173 ?_
        refine wm_ireturn dX3_execute_174 rfl ?_
        have e : exF (q :: R) i w = (refF w q.1 q.2.1 q.2.2, (i : Int), w) := by rw [exF, if_neg c149]
        rw [e] at K2
        refine K2 _ c149 ?_ (h21 _ _ _).1 (h21 _ _ _).2 (fun a ha => ?_) (fun j j8 j9 j1 j2 => ?_) (hf.other (copyR_o t 10 0 0 (a := 3) (by decide)))
        · show (copyR t 10 0 0).2 0 = _
          funext n
          unfold copyR
          dsimp only
          rw [hw]
          split
          · exact hH _ (by omega)
          · exact hH _ (by omega)
        · show (copyR t 10 0 0).2 a = _
          rw [copyR_o t 10 0 0 (by omega)]
          exact hF.1 a ha
        · rw [← hF.2 j j8 j9]
          simp [stI, copyR, j1, j2]
end M24
