/-! THE MODEL'S METHODS, 22: a shape read -/
set_option maxRecDepth 100000
def setRd (τ : MT) (p f : Int) (r : Nat → Int) : MT := (fun j => if j = 16 then p else if j = 17 then f else τ.1 j, fun a i => if a = 18 then r i else τ.2 a i)
theorem setRd_p (τ : MT) (p f q : Int) (r : Nat → Int) : stI (setRd τ p f r) 16 q = setRd τ q f r := by
  unfold stI setRd
  refine Prod.ext (funext fun j => ?_) rfl
  dsimp only
  by_cases h : j = 16
  · simp [h]
  · simp [h]
theorem setRd_f (τ : MT) (p f q : Int) (r : Nat → Int) : stI (setRd τ p f r) 17 q = setRd τ p q r := by
  unfold stI setRd
  refine Prod.ext (funext fun j => ?_) rfl
  dsimp only
  by_cases h : j = 17
  · subst h; rfl
  · simp [h]
theorem setRd_r (τ : MT) (p f v : Int) (r : Nat → Int) (i : Nat) : stA (setRd τ p f r) 18 i v = setRd τ p f (updW r i v) := by
  unfold stA setRd updW
  refine Prod.ext rfl (funext fun a => funext fun j => ?_)
  dsimp only
  by_cases h : a = 18
  · subst h
    by_cases h2 : j = i
    · simp [h2]
    · simp [h2]
  · simp [h]
theorem setRd_18 (τ : MT) (p f : Int) (r : Nat → Int) : (setRd τ p f r).2 18 = r := by
  funext i
  simp [setRd]
theorem setRd_a (τ : MT) (p f : Int) (r : Nat → Int) {a : Nat} (ha : a ≠ 18) : (setRd τ p f r).2 a = τ.2 a := by
  funext i
  simp [setRd, ha]
/-- one slot noted -/
def slotR (r : Nat → Int) (c x y : Int) : Nat → Int :=
  updW (updW (updW (updW r 1 (if c = 42 then r 0 else r 1)) (2 + 2 * r 0).toNat x) (3 + 2 * r 0).toNat y) 0 (r 0 + 1)
/-- the reader from p on, in row y at column x: fault (-1: none), what is read -/
def rdF (tp : Nat → Int) (T : Int) : Nat → Int → Int → Int → (Nat → Int) → Int × (Nat → Int)
  | 0, _, _, p, r => (p, r)
  | n + 1, y, x, p, r =>
    if ¬ (p < T ∨ x = 0) then (if r 1 < 0 then T else -1, r) else
    if heF tp T p = 47 then (if x = 0 ∨ y = 5 then (p, r) else rdF tp T n (y + 1) 0 (p + 1) r) else
    if (¬ (heF tp T p = 35 ∨ heF tp T p = 42) ∧ ¬ heF tp T p = 46) ∨ x = 6 ∨ ((heF tp T p = 35 ∨ heF tp T p = 42) ∧ r 0 = 10) ∨ (heF tp T p = 42 ∧ 0 ≤ r 1) then (p, r) else
    rdF tp T n y (x + 1) (p + 1) (if heF tp T p = 35 ∨ heF tp T p = 42 then slotR r (heF tp T p) x y else r)
section M26
variable {τ : MT} {p f k x y c : Int} {d : Nat} {Q : Option Int → MT → Prop} {r : Nat → Int}
theorem setRd_16 : (setRd τ p f r).1 16 = p := rfl
theorem setRd_17 : (setRd τ p f r).1 17 = f := rfl
theorem mc_hereR (hp : 0 ≤ p ∧ p < 100000) (hT : 0 ≤ τ.1 15 ∧ τ.1 15 ≤ 60) : Mf 0 rX3_here [.inr 1] (setRd τ p f r) (some (heF (τ.2 14) (τ.1 15) p)) (setRd τ p f r) := by
  have := mc_here (τ := setRd τ p f r) hp hT
  rw [setRd_a τ p f r (by decide)] at this
  exact this
/-- what stands in the reader's array -/
def RI (r : Nat → Int) : Prop := (0 ≤ r 0 ∧ r 0 ≤ 10) ∧ (-1 ≤ r 1 ∧ r 1 < 10)
theorem mc_readsShape_266 (hT : 0 ≤ τ.1 15 ∧ τ.1 15 ≤ 60) {o1 o2 o3 o4 : Option AV} (hr : rng (r 1)) : Wm d rX3_readsShape 266 [some (.inr 1), o1, o2, o3, o4] [] (setRd τ p (-1) r) (fun v t => none = v ∧ setRd τ p (if r 1 < 0 then τ.1 15 else -1) r = t) := by
  refine wm_aload_n dX3_readsShape_266 rfl ?_
  refine wm_getI dX3_readsShape_267 (kF3_178 rfl) rfl rfl ?_
  refine wm_if dX3_readsShape_270 (cB_ge (show rng (-1) by decide) ⟨by omega, by omega⟩) 290 rfl (fun c270 => ?_) (fun c270 => ?_)
  ·
    exact absurd (show (0 : Int) ≤ -1 from c270) (by decide)
  ·
    refine wm_aload_n dX3_readsShape_273 rfl ?_
    refine wm_getA dX3_readsShape_274 (kF3_43 rfl) rfl ?_
    refine wm_iconst dX3_readsShape_277 ?_
    refine wm_iaload dX3_readsShape_278 rfl ⟨by omega, by omega⟩ 1 rfl ?_
    refine wm_if dX3_readsShape_279 (cB_ge (by rw [setRd_18]; exact hr) ⟨by omega, by omega⟩) 290 rfl (fun c279 => ?_) (fun c279 => ?_)
    ·
      refine wm_vreturn dX3_readsShape_290 rfl ?_
      exact ⟨rfl, by rw [if_neg (by rw [setRd_18] at c279; omega)]⟩
    ·
      refine wm_aload_n dX3_readsShape_282 rfl ?_
      refine wm_aload_n dX3_readsShape_283 rfl ?_
      refine wm_getI dX3_readsShape_284 (kF3_172 rfl) rfl rfl ?_
      refine wm_putI dX3_readsShape_287 (kF3_178 rfl) rfl rfl (Or.inl rfl) ?_
      refine wm_vreturn dX3_readsShape_290 rfl ?_
      rw [setRd_f]
      exact ⟨rfl, by rw [if_pos (by rw [setRd_18] at c279; omega)]; rfl⟩
theorem mc_readsShape_28 (hT : 0 ≤ τ.1 15 ∧ τ.1 15 ≤ 60) (ht : ∀ i, 0 ≤ τ.2 14 i ∧ τ.2 14 i ≤ 127) (hd : 1 ≤ d) : ∀ (n : Nat) (y x p : Int) (r : Nat → Int) (o3 o4 : Option AV), 100 ≤ p + n → 0 ≤ p ∧ p ≤ 61 → 0 ≤ y ∧ y ≤ 5 → 0 ≤ x ∧ x ≤ 6 → RI r → Wm d rX3_readsShape 28 [some (.inr 1), some (.inl y), some (.inl x), o3, o4] [] (setRd τ p (-1) r) (fun v t => none = v ∧ ∃ q, t = setRd τ q (rdF (τ.2 14) (τ.1 15) n y x p r).1 (rdF (τ.2 14) (τ.1 15) n y x p r).2) := by
  intro n
  induction n with
  | zero => intro y x p r o3 o4 h1 h2; omega
  | succ n ih =>
    intro y x p r o3 o4 h1 h2 hy hx hR
    have hh := heF_rng (T := τ.1 15) (p := p) ht
    obtain ⟨hR0, hR1⟩ := hR
    have hh2 : ¬ heF (τ.2 14) (τ.1 15) p = -1 → p < τ.1 15 := fun h => by
      unfold heF at h
      split at h
      · assumption
      · exact absurd rfl h
    have h50 : p < τ.1 15 ∨ x = 0 → Wm d rX3_readsShape 50 [some (.inr 1), some (.inl y), some (.inl x), o3, o4] [] (setRd τ p (-1) r) (fun v t => none = v ∧ ∃ q, t = setRd τ q (rdF (τ.2 14) (τ.1 15) (n + 1) y x p r).1 (rdF (τ.2 14) (τ.1 15) (n + 1) y x p r).2) := fun hg => by
      rw [rdF, if_neg (fun q => q hg)]
      refine wm_aload_n dX3_readsShape_50 rfl ?_
      refine wm_callv dX3_readsShape_51 (kV3_181 rfl) rfl (mc_hereR (by omega) hT) (by omega) rfl rfl ?_
      rintro _ _ ⟨rfl, rfl⟩
      refine wm_istore_n dX3_readsShape_54 rfl ?_
      refine wm_iload_n dX3_readsShape_55 rfl ?_
      refine wm_bipush dX3_readsShape_56 (by decide) ?_
      refine wm_icmp dX3_readsShape_58 (cB_eq ⟨by omega, by omega⟩ ⟨by omega, by omega⟩) 67 rfl (fun c58 => ?_) (fun c58 => ?_)
      ·
        refine wm_iconst dX3_readsShape_67 ?_
        refine wm_goto dX3_readsShape_68 72 rfl ?_
        refine wm_istore dX3_readsShape_72 rfl ?_
        refine wm_iload_n dX3_readsShape_74 rfl ?_
        refine wm_bipush dX3_readsShape_75 (by decide) ?_
        refine wm_icmp dX3_readsShape_77 (cB_ne ⟨by omega, by omega⟩ ⟨by omega, by omega⟩) 119 rfl (fun c77 => ?_) (fun c77 => ?_)
        ·
          refine wm_iload dX3_readsShape_119 rfl ?_
          refine wm_if dX3_readsShape_121 (cB_ne ⟨by omega, by omega⟩ ⟨by omega, by omega⟩) 130 rfl (fun c121 => ?_) (fun c121 => ?_)
          ·
            refine wm_iload_n dX3_readsShape_130 rfl ?_
            refine wm_bipush dX3_readsShape_131 (by decide) ?_
            refine wm_icmp dX3_readsShape_133 (cB_eq ⟨by omega, by omega⟩ ⟨by omega, by omega⟩) 167 rfl (fun c133 => ?_) (fun c133 => ?_)
            ·
              refine wm_aload_n dX3_readsShape_167 rfl ?_
              refine wm_aload_n dX3_readsShape_168 rfl ?_
              refine wm_getI dX3_readsShape_169 (kF3_175 rfl) rfl rfl ?_
              rw [setRd_16]
              refine wm_putI dX3_readsShape_172 (kF3_178 rfl) rfl rfl (Or.inl rfl) ?_
              rw [setRd_f]
              refine wm_vreturn dX3_readsShape_175 rfl ?_
              rw [if_neg (by omega), if_pos (by omega)]
              exact ⟨rfl, p, rfl⟩
            ·
              refine wm_iload dX3_readsShape_136 rfl ?_
              refine wm_if dX3_readsShape_138 (cB_eq ⟨by omega, by omega⟩ ⟨by omega, by omega⟩) 152 rfl (fun c138 => ?_) (fun c138 => ?_)
              ·
                omega
              ·
                refine wm_aload_n dX3_readsShape_141 rfl ?_
                refine wm_getA dX3_readsShape_142 (kF3_43 rfl) rfl ?_
                refine wm_iconst dX3_readsShape_145 ?_
                refine wm_iaload dX3_readsShape_146 rfl ⟨by omega, by omega⟩ 0 rfl ?_
                rw [setRd_18]
                refine wm_bipush dX3_readsShape_147 (by decide) ?_
                refine wm_icmp dX3_readsShape_149 (cB_eq ⟨by omega, by omega⟩ ⟨by omega, by omega⟩) 167 rfl (fun c149 => ?_) (fun c149 => ?_)
                ·
                  refine wm_aload_n dX3_readsShape_167 rfl ?_
                  refine wm_aload_n dX3_readsShape_168 rfl ?_
                  refine wm_getI dX3_readsShape_169 (kF3_175 rfl) rfl rfl ?_
                  rw [setRd_16]
                  refine wm_putI dX3_readsShape_172 (kF3_178 rfl) rfl rfl (Or.inl rfl) ?_
                  rw [setRd_f]
                  refine wm_vreturn dX3_readsShape_175 rfl ?_
                  rw [if_neg (by omega), if_pos (by omega)]
                  exact ⟨rfl, p, rfl⟩
                ·
                  refine wm_iload_n dX3_readsShape_152 rfl ?_
                  refine wm_bipush dX3_readsShape_153 (by decide) ?_
                  refine wm_icmp dX3_readsShape_155 (cB_ne ⟨by omega, by omega⟩ ⟨by omega, by omega⟩) 176 rfl (fun c155 => ?_) (fun c155 => ?_)
                  ·
                    refine wm_iload dX3_readsShape_176 rfl ?_
                    refine wm_if dX3_readsShape_178 (cB_eq ⟨by omega, by omega⟩ ⟨by omega, by omega⟩) 250 rfl (fun c178 => ?_) (fun c178 => ?_)
                    ·
                      omega
                    ·
                      refine wm_aload_n dX3_readsShape_181 rfl ?_
                      refine wm_getA dX3_readsShape_182 (kF3_43 rfl) rfl ?_
                      refine wm_iconst dX3_readsShape_185 ?_
                      refine wm_iload_n dX3_readsShape_186 rfl ?_
                      refine wm_bipush dX3_readsShape_187 (by decide) ?_
                      refine wm_icmp dX3_readsShape_189 (cB_ne ⟨by omega, by omega⟩ ⟨by omega, by omega⟩) 201 rfl (fun c189 => ?_) (fun c189 => ?_)
                      ·
                        refine wm_aload_n dX3_readsShape_201 rfl ?_
                        refine wm_getA dX3_readsShape_202 (kF3_43 rfl) rfl ?_
                        refine wm_iconst dX3_readsShape_205 ?_
                        refine wm_iaload dX3_readsShape_206 rfl ⟨by omega, by omega⟩ 1 rfl ?_
                        rw [setRd_18]
                        refine wm_iastore dX3_readsShape_207 rfl ⟨by omega, by omega⟩ _ rfl ?_
                        refine wm_aload_n dX3_readsShape_208 rfl ?_
                        rw [setRd_r]
                        refine wm_getA dX3_readsShape_209 (kF3_43 rfl) rfl ?_
                        refine wm_iconst dX3_readsShape_212 ?_
                        refine wm_iconst dX3_readsShape_213 ?_
                        refine wm_aload_n dX3_readsShape_214 rfl ?_
                        refine wm_getA dX3_readsShape_215 (kF3_43 rfl) rfl ?_
                        refine wm_iconst dX3_readsShape_218 ?_
                        refine wm_iaload dX3_readsShape_219 rfl ⟨by omega, by omega⟩ 0 rfl ?_
                        rw [setRd_18, upd_ne (by decide)]
                        refine wm_imul dX3_readsShape_220 ?_
                        refine wm_iadd dX3_readsShape_221 ?_
                        refine wm_iload_n dX3_readsShape_222 rfl ?_
                        refine wm_iastore dX3_readsShape_223 rfl ⟨by omega, by omega⟩ _ rfl ?_
                        refine wm_aload_n dX3_readsShape_224 rfl ?_
                        rw [setRd_r]
                        refine wm_getA dX3_readsShape_225 (kF3_43 rfl) rfl ?_
                        refine wm_iconst dX3_readsShape_228 ?_
                        refine wm_iconst dX3_readsShape_229 ?_
                        refine wm_aload_n dX3_readsShape_230 rfl ?_
                        refine wm_getA dX3_readsShape_231 (kF3_43 rfl) rfl ?_
                        refine wm_iconst dX3_readsShape_234 ?_
                        refine wm_iaload dX3_readsShape_235 rfl ⟨by omega, by omega⟩ 0 rfl ?_
                        rw [setRd_18, upd_ne (by omega), upd_ne (by decide)]
                        refine wm_imul dX3_readsShape_236 ?_
                        refine wm_iadd dX3_readsShape_237 ?_
                        refine wm_iload_n dX3_readsShape_238 rfl ?_
                        refine wm_iastore dX3_readsShape_239 rfl ⟨by omega, by omega⟩ _ rfl ?_
                        refine wm_aload_n dX3_readsShape_240 rfl ?_
                        rw [setRd_r]
                        refine wm_getA dX3_readsShape_241 (kF3_43 rfl) rfl ?_
                        refine wm_iconst dX3_readsShape_244 ?_
                        refine wm_dup2 dX3_readsShape_245 ?_
                        refine wm_iaload dX3_readsShape_246 rfl ⟨by omega, by omega⟩ _ rfl ?_
                        rw [setRd_18, upd_ne (by omega), upd_ne (by omega), upd_ne (by decide)]
                        refine wm_iconst dX3_readsShape_247 ?_
                        refine wm_iadd dX3_readsShape_248 ?_
                        refine wm_iastore dX3_readsShape_249 rfl ⟨by omega, by omega⟩ _ rfl ?_
                        rw [setRd_r]
                        refine wm_iinc dX3_readsShape_250 rfl ?_
                        refine wm_aload_n dX3_readsShape_253 rfl ?_
                        refine wm_dup dX3_readsShape_254 ?_
                        refine wm_getI dX3_readsShape_255 (kF3_175 rfl) rfl rfl ?_
                        refine wm_iconst dX3_readsShape_258 ?_
                        refine wm_iadd dX3_readsShape_259 ?_
                        rw [setRd_16]
                        refine wm_putI dX3_readsShape_260 (kF3_175 rfl) rfl rfl (Or.inl rfl) ?_
                        rw [setRd_p]
                        refine wm_goto dX3_readsShape_263 28 rfl ?_
                        rw [if_neg (by omega), if_neg (by omega), if_pos (by omega)]
                        have hs : RI (slotR r (heF (τ.2 14) (τ.1 15) p) x y) := by
                          unfold RI slotR
                          refine ⟨by rw [show ∀ (w : Nat → Int) v, updW w 0 v 0 = v from fun w v => if_pos rfl]; omega, ?_⟩
                          rw [upd_ne (by decide), upd_ne (by omega), upd_ne (by omega), show ∀ (w : Nat → Int) v, updW w 1 v 1 = v from fun w v => if_pos rfl]
                          split <;> omega
                        have K := ih y (x + 1) (p + 1) _ (some (.inl (heF (τ.2 14) (τ.1 15) p))) (some (.inl 1)) (by omega) (by have := hh2 (by omega); omega) (by omega) (by omega) hs
                        have e42 : ¬ heF (τ.2 14) (τ.1 15) p = 42 := by omega
                        unfold slotR at K ⊢
                        rw [if_neg e42] at K ⊢
                        exact K
                      ·
                        omega
                  ·
                    omega
          ·
            omega
        ·
          omega
      ·
        refine wm_iload_n dX3_readsShape_61 rfl ?_
        refine wm_bipush dX3_readsShape_62 (by decide) ?_
        refine wm_icmp dX3_readsShape_64 (cB_ne ⟨by omega, by omega⟩ ⟨by omega, by omega⟩) 71 rfl (fun c64 => ?_) (fun c64 => ?_)
        ·
          refine wm_iconst dX3_readsShape_71 ?_
          refine wm_istore dX3_readsShape_72 rfl ?_
          refine wm_iload_n dX3_readsShape_74 rfl ?_
          refine wm_bipush dX3_readsShape_75 (by decide) ?_
          refine wm_icmp dX3_readsShape_77 (cB_ne ⟨by omega, by omega⟩ ⟨by omega, by omega⟩) 119 rfl (fun c77 => ?_) (fun c77 => ?_)
          ·
            refine wm_iload dX3_readsShape_119 rfl ?_
            refine wm_if dX3_readsShape_121 (cB_ne ⟨by omega, by omega⟩ ⟨by omega, by omega⟩) 130 rfl (fun c121 => ?_) (fun c121 => ?_)
            ·
              omega
            ·
              refine wm_iload_n dX3_readsShape_124 rfl ?_
              refine wm_bipush dX3_readsShape_125 (by decide) ?_
              refine wm_icmp dX3_readsShape_127 (cB_ne ⟨by omega, by omega⟩ ⟨by omega, by omega⟩) 167 rfl (fun c127 => ?_) (fun c127 => ?_)
              ·
                refine wm_aload_n dX3_readsShape_167 rfl ?_
                refine wm_aload_n dX3_readsShape_168 rfl ?_
                refine wm_getI dX3_readsShape_169 (kF3_175 rfl) rfl rfl ?_
                rw [setRd_16]
                refine wm_putI dX3_readsShape_172 (kF3_178 rfl) rfl rfl (Or.inl rfl) ?_
                rw [setRd_f]
                refine wm_vreturn dX3_readsShape_175 rfl ?_
                rw [if_neg (by omega), if_pos (by omega)]
                exact ⟨rfl, p, rfl⟩
              ·
                refine wm_iload_n dX3_readsShape_130 rfl ?_
                refine wm_bipush dX3_readsShape_131 (by decide) ?_
                refine wm_icmp dX3_readsShape_133 (cB_eq ⟨by omega, by omega⟩ ⟨by omega, by omega⟩) 167 rfl (fun c133 => ?_) (fun c133 => ?_)
                ·
                  refine wm_aload_n dX3_readsShape_167 rfl ?_
                  refine wm_aload_n dX3_readsShape_168 rfl ?_
                  refine wm_getI dX3_readsShape_169 (kF3_175 rfl) rfl rfl ?_
                  rw [setRd_16]
                  refine wm_putI dX3_readsShape_172 (kF3_178 rfl) rfl rfl (Or.inl rfl) ?_
                  rw [setRd_f]
                  refine wm_vreturn dX3_readsShape_175 rfl ?_
                  rw [if_neg (by omega), if_pos (by omega)]
                  exact ⟨rfl, p, rfl⟩
                ·
                  refine wm_iload dX3_readsShape_136 rfl ?_
                  refine wm_if dX3_readsShape_138 (cB_eq ⟨by omega, by omega⟩ ⟨by omega, by omega⟩) 152 rfl (fun c138 => ?_) (fun c138 => ?_)
                  ·
                    refine wm_iload_n dX3_readsShape_152 rfl ?_
                    refine wm_bipush dX3_readsShape_153 (by decide) ?_
                    refine wm_icmp dX3_readsShape_155 (cB_ne ⟨by omega, by omega⟩ ⟨by omega, by omega⟩) 176 rfl (fun c155 => ?_) (fun c155 => ?_)
                    ·
                      refine wm_iload dX3_readsShape_176 rfl ?_
                      refine wm_if dX3_readsShape_178 (cB_eq ⟨by omega, by omega⟩ ⟨by omega, by omega⟩) 250 rfl (fun c178 => ?_) (fun c178 => ?_)
                      ·
                        refine wm_iinc dX3_readsShape_250 rfl ?_
                        refine wm_aload_n dX3_readsShape_253 rfl ?_
                        refine wm_dup dX3_readsShape_254 ?_
                        refine wm_getI dX3_readsShape_255 (kF3_175 rfl) rfl rfl ?_
                        refine wm_iconst dX3_readsShape_258 ?_
                        refine wm_iadd dX3_readsShape_259 ?_
                        rw [setRd_16]
                        refine wm_putI dX3_readsShape_260 (kF3_175 rfl) rfl rfl (Or.inl rfl) ?_
                        rw [setRd_p]
                        refine wm_goto dX3_readsShape_263 28 rfl ?_
                        rw [if_neg (by omega), if_neg (by omega), if_neg (by omega)]
                        exact ih y (x + 1) (p + 1) r _ _ (by omega) (by have := hh2 (by omega); omega) (by omega) (by omega) ⟨hR0, hR1⟩
                      ·
                        omega
                    ·
                      omega
                  ·
                    omega
          ·
            refine wm_aload_n dX3_readsShape_80 rfl ?_
            refine wm_iload_n dX3_readsShape_81 rfl ?_
            refine wm_if dX3_readsShape_82 (cB_eq ⟨by omega, by omega⟩ ⟨by omega, by omega⟩) 90 rfl (fun c82 => ?_) (fun c82 => ?_)
            ·
              refine wm_aload_n dX3_readsShape_90 rfl ?_
              refine wm_getI dX3_readsShape_91 (kF3_175 rfl) rfl rfl ?_
              rw [setRd_16]
              refine wm_goto dX3_readsShape_94 98 rfl ?_
              refine wm_putI dX3_readsShape_98 (kF3_178 rfl) rfl rfl (Or.inl rfl) ?_
              rw [setRd_f]
              refine wm_iinc dX3_readsShape_101 rfl ?_
              refine wm_iconst dX3_readsShape_104 ?_
              refine wm_istore_n dX3_readsShape_105 rfl ?_
              refine wm_aload_n dX3_readsShape_106 rfl ?_
              refine wm_dup dX3_readsShape_107 ?_
              refine wm_getI dX3_readsShape_108 (kF3_175 rfl) rfl rfl ?_
              refine wm_iconst dX3_readsShape_111 ?_
              refine wm_iadd dX3_readsShape_112 ?_
              rw [setRd_16]
              refine wm_putI dX3_readsShape_113 (kF3_175 rfl) rfl rfl (Or.inl rfl) ?_
              rw [setRd_p]
              refine wm_goto dX3_readsShape_116 28 rfl ?_
              rw [if_pos (by omega), if_pos (by omega)]
              refine wm_aload_n dX3_readsShape_28 rfl ?_
              refine wm_getI dX3_readsShape_29 (kF3_178 rfl) rfl rfl ?_
              refine wm_if dX3_readsShape_32 (cB_ge (show rng p by omega) ⟨by omega, by omega⟩) 266 rfl (fun c32 => ?_) (fun c32 => ?_)
              ·
                refine wm_aload_n dX3_readsShape_266 rfl ?_
                refine wm_getI dX3_readsShape_267 (kF3_178 rfl) rfl rfl ?_
                refine wm_if dX3_readsShape_270 (cB_ge (show rng p by omega) ⟨by omega, by omega⟩) 290 rfl (fun c270 => ?_) (fun c270 => ?_)
                ·
                  refine wm_vreturn dX3_readsShape_290 rfl ?_
                  exact ⟨rfl, p + 1, rfl⟩
                ·
                  exact absurd (show (0 : Int) ≤ p from h2.1) c270
              ·
                exact absurd (show (0 : Int) ≤ p from h2.1) c32
            ·
              refine wm_iload_n dX3_readsShape_85 rfl ?_
              refine wm_iconst dX3_readsShape_86 ?_
              refine wm_icmp dX3_readsShape_87 (cB_ne ⟨by omega, by omega⟩ ⟨by omega, by omega⟩) 97 rfl (fun c87 => ?_) (fun c87 => ?_)
              ·
                refine wm_iconst dX3_readsShape_97 ?_
                refine wm_putI dX3_readsShape_98 (kF3_178 rfl) rfl rfl (Or.inl rfl) ?_
                rw [setRd_f]
                refine wm_iinc dX3_readsShape_101 rfl ?_
                refine wm_iconst dX3_readsShape_104 ?_
                refine wm_istore_n dX3_readsShape_105 rfl ?_
                refine wm_aload_n dX3_readsShape_106 rfl ?_
                refine wm_dup dX3_readsShape_107 ?_
                refine wm_getI dX3_readsShape_108 (kF3_175 rfl) rfl rfl ?_
                refine wm_iconst dX3_readsShape_111 ?_
                refine wm_iadd dX3_readsShape_112 ?_
                rw [setRd_16]
                refine wm_putI dX3_readsShape_113 (kF3_175 rfl) rfl rfl (Or.inl rfl) ?_
                rw [setRd_p]
                refine wm_goto dX3_readsShape_116 28 rfl ?_
                rw [if_pos (by omega), if_neg (by omega)]
                exact ih (y + 1) 0 (p + 1) r _ _ (by omega) (by have := hh2 (by omega); omega) (by omega) (by omega) ⟨hR0, hR1⟩
              ·
                refine wm_aload_n dX3_readsShape_90 rfl ?_
                refine wm_getI dX3_readsShape_91 (kF3_175 rfl) rfl rfl ?_
                rw [setRd_16]
                refine wm_goto dX3_readsShape_94 98 rfl ?_
                refine wm_putI dX3_readsShape_98 (kF3_178 rfl) rfl rfl (Or.inl rfl) ?_
                rw [setRd_f]
                refine wm_iinc dX3_readsShape_101 rfl ?_
                refine wm_iconst dX3_readsShape_104 ?_
                refine wm_istore_n dX3_readsShape_105 rfl ?_
                refine wm_aload_n dX3_readsShape_106 rfl ?_
                refine wm_dup dX3_readsShape_107 ?_
                refine wm_getI dX3_readsShape_108 (kF3_175 rfl) rfl rfl ?_
                refine wm_iconst dX3_readsShape_111 ?_
                refine wm_iadd dX3_readsShape_112 ?_
                rw [setRd_16]
                refine wm_putI dX3_readsShape_113 (kF3_175 rfl) rfl rfl (Or.inl rfl) ?_
                rw [setRd_p]
                refine wm_goto dX3_readsShape_116 28 rfl ?_
                rw [if_pos (by omega), if_pos (by omega)]
                refine wm_aload_n dX3_readsShape_28 rfl ?_
                refine wm_getI dX3_readsShape_29 (kF3_178 rfl) rfl rfl ?_
                refine wm_if dX3_readsShape_32 (cB_ge (show rng p by omega) ⟨by omega, by omega⟩) 266 rfl (fun c32 => ?_) (fun c32 => ?_)
                ·
                  refine wm_aload_n dX3_readsShape_266 rfl ?_
                  refine wm_getI dX3_readsShape_267 (kF3_178 rfl) rfl rfl ?_
                  refine wm_if dX3_readsShape_270 (cB_ge (show rng p by omega) ⟨by omega, by omega⟩) 290 rfl (fun c270 => ?_) (fun c270 => ?_)
                  ·
                    refine wm_vreturn dX3_readsShape_290 rfl ?_
                    exact ⟨rfl, p + 1, rfl⟩
                  ·
                    exact absurd (show (0 : Int) ≤ p from h2.1) c270
                ·
                  exact absurd (show (0 : Int) ≤ p from h2.1) c32
        ·
          refine wm_iconst dX3_readsShape_67 ?_
          refine wm_goto dX3_readsShape_68 72 rfl ?_
          refine wm_istore dX3_readsShape_72 rfl ?_
          refine wm_iload_n dX3_readsShape_74 rfl ?_
          refine wm_bipush dX3_readsShape_75 (by decide) ?_
          refine wm_icmp dX3_readsShape_77 (cB_ne ⟨by omega, by omega⟩ ⟨by omega, by omega⟩) 119 rfl (fun c77 => ?_) (fun c77 => ?_)
          ·
            refine wm_iload dX3_readsShape_119 rfl ?_
            refine wm_if dX3_readsShape_121 (cB_ne ⟨by omega, by omega⟩ ⟨by omega, by omega⟩) 130 rfl (fun c121 => ?_) (fun c121 => ?_)
            ·
              refine wm_iload_n dX3_readsShape_130 rfl ?_
              refine wm_bipush dX3_readsShape_131 (by decide) ?_
              refine wm_icmp dX3_readsShape_133 (cB_eq ⟨by omega, by omega⟩ ⟨by omega, by omega⟩) 167 rfl (fun c133 => ?_) (fun c133 => ?_)
              ·
                refine wm_aload_n dX3_readsShape_167 rfl ?_
                refine wm_aload_n dX3_readsShape_168 rfl ?_
                refine wm_getI dX3_readsShape_169 (kF3_175 rfl) rfl rfl ?_
                rw [setRd_16]
                refine wm_putI dX3_readsShape_172 (kF3_178 rfl) rfl rfl (Or.inl rfl) ?_
                rw [setRd_f]
                refine wm_vreturn dX3_readsShape_175 rfl ?_
                rw [if_neg (by omega), if_pos (by omega)]
                exact ⟨rfl, p, rfl⟩
              ·
                refine wm_iload dX3_readsShape_136 rfl ?_
                refine wm_if dX3_readsShape_138 (cB_eq ⟨by omega, by omega⟩ ⟨by omega, by omega⟩) 152 rfl (fun c138 => ?_) (fun c138 => ?_)
                ·
                  omega
                ·
                  refine wm_aload_n dX3_readsShape_141 rfl ?_
                  refine wm_getA dX3_readsShape_142 (kF3_43 rfl) rfl ?_
                  refine wm_iconst dX3_readsShape_145 ?_
                  refine wm_iaload dX3_readsShape_146 rfl ⟨by omega, by omega⟩ 0 rfl ?_
                  rw [setRd_18]
                  refine wm_bipush dX3_readsShape_147 (by decide) ?_
                  refine wm_icmp dX3_readsShape_149 (cB_eq ⟨by omega, by omega⟩ ⟨by omega, by omega⟩) 167 rfl (fun c149 => ?_) (fun c149 => ?_)
                  ·
                    refine wm_aload_n dX3_readsShape_167 rfl ?_
                    refine wm_aload_n dX3_readsShape_168 rfl ?_
                    refine wm_getI dX3_readsShape_169 (kF3_175 rfl) rfl rfl ?_
                    rw [setRd_16]
                    refine wm_putI dX3_readsShape_172 (kF3_178 rfl) rfl rfl (Or.inl rfl) ?_
                    rw [setRd_f]
                    refine wm_vreturn dX3_readsShape_175 rfl ?_
                    rw [if_neg (by omega), if_pos (by omega)]
                    exact ⟨rfl, p, rfl⟩
                  ·
                    refine wm_iload_n dX3_readsShape_152 rfl ?_
                    refine wm_bipush dX3_readsShape_153 (by decide) ?_
                    refine wm_icmp dX3_readsShape_155 (cB_ne ⟨by omega, by omega⟩ ⟨by omega, by omega⟩) 176 rfl (fun c155 => ?_) (fun c155 => ?_)
                    ·
                      omega
                    ·
                      refine wm_aload_n dX3_readsShape_158 rfl ?_
                      refine wm_getA dX3_readsShape_159 (kF3_43 rfl) rfl ?_
                      refine wm_iconst dX3_readsShape_162 ?_
                      refine wm_iaload dX3_readsShape_163 rfl ⟨by omega, by omega⟩ 1 rfl ?_
                      rw [setRd_18]
                      refine wm_if dX3_readsShape_164 (cB_lt ⟨by omega, by omega⟩ ⟨by omega, by omega⟩) 176 rfl (fun c164 => ?_) (fun c164 => ?_)
                      ·
                        refine wm_iload dX3_readsShape_176 rfl ?_
                        refine wm_if dX3_readsShape_178 (cB_eq ⟨by omega, by omega⟩ ⟨by omega, by omega⟩) 250 rfl (fun c178 => ?_) (fun c178 => ?_)
                        ·
                          omega
                        ·
                          refine wm_aload_n dX3_readsShape_181 rfl ?_
                          refine wm_getA dX3_readsShape_182 (kF3_43 rfl) rfl ?_
                          refine wm_iconst dX3_readsShape_185 ?_
                          refine wm_iload_n dX3_readsShape_186 rfl ?_
                          refine wm_bipush dX3_readsShape_187 (by decide) ?_
                          refine wm_icmp dX3_readsShape_189 (cB_ne ⟨by omega, by omega⟩ ⟨by omega, by omega⟩) 201 rfl (fun c189 => ?_) (fun c189 => ?_)
                          ·
                            omega
                          ·
                            refine wm_aload_n dX3_readsShape_192 rfl ?_
                            refine wm_getA dX3_readsShape_193 (kF3_43 rfl) rfl ?_
                            refine wm_iconst dX3_readsShape_196 ?_
                            refine wm_iaload dX3_readsShape_197 rfl ⟨by omega, by omega⟩ 0 rfl ?_
                            refine wm_goto dX3_readsShape_198 207 rfl ?_
                            rw [setRd_18]
                            refine wm_iastore dX3_readsShape_207 rfl ⟨by omega, by omega⟩ _ rfl ?_
                            refine wm_aload_n dX3_readsShape_208 rfl ?_
                            rw [setRd_r]
                            refine wm_getA dX3_readsShape_209 (kF3_43 rfl) rfl ?_
                            refine wm_iconst dX3_readsShape_212 ?_
                            refine wm_iconst dX3_readsShape_213 ?_
                            refine wm_aload_n dX3_readsShape_214 rfl ?_
                            refine wm_getA dX3_readsShape_215 (kF3_43 rfl) rfl ?_
                            refine wm_iconst dX3_readsShape_218 ?_
                            refine wm_iaload dX3_readsShape_219 rfl ⟨by omega, by omega⟩ 0 rfl ?_
                            rw [setRd_18, upd_ne (by decide)]
                            refine wm_imul dX3_readsShape_220 ?_
                            refine wm_iadd dX3_readsShape_221 ?_
                            refine wm_iload_n dX3_readsShape_222 rfl ?_
                            refine wm_iastore dX3_readsShape_223 rfl ⟨by omega, by omega⟩ _ rfl ?_
                            refine wm_aload_n dX3_readsShape_224 rfl ?_
                            rw [setRd_r]
                            refine wm_getA dX3_readsShape_225 (kF3_43 rfl) rfl ?_
                            refine wm_iconst dX3_readsShape_228 ?_
                            refine wm_iconst dX3_readsShape_229 ?_
                            refine wm_aload_n dX3_readsShape_230 rfl ?_
                            refine wm_getA dX3_readsShape_231 (kF3_43 rfl) rfl ?_
                            refine wm_iconst dX3_readsShape_234 ?_
                            refine wm_iaload dX3_readsShape_235 rfl ⟨by omega, by omega⟩ 0 rfl ?_
                            rw [setRd_18, upd_ne (by omega), upd_ne (by decide)]
                            refine wm_imul dX3_readsShape_236 ?_
                            refine wm_iadd dX3_readsShape_237 ?_
                            refine wm_iload_n dX3_readsShape_238 rfl ?_
                            refine wm_iastore dX3_readsShape_239 rfl ⟨by omega, by omega⟩ _ rfl ?_
                            refine wm_aload_n dX3_readsShape_240 rfl ?_
                            rw [setRd_r]
                            refine wm_getA dX3_readsShape_241 (kF3_43 rfl) rfl ?_
                            refine wm_iconst dX3_readsShape_244 ?_
                            refine wm_dup2 dX3_readsShape_245 ?_
                            refine wm_iaload dX3_readsShape_246 rfl ⟨by omega, by omega⟩ _ rfl ?_
                            rw [setRd_18, upd_ne (by omega), upd_ne (by omega), upd_ne (by decide)]
                            refine wm_iconst dX3_readsShape_247 ?_
                            refine wm_iadd dX3_readsShape_248 ?_
                            refine wm_iastore dX3_readsShape_249 rfl ⟨by omega, by omega⟩ _ rfl ?_
                            rw [setRd_r]
                            refine wm_iinc dX3_readsShape_250 rfl ?_
                            refine wm_aload_n dX3_readsShape_253 rfl ?_
                            refine wm_dup dX3_readsShape_254 ?_
                            refine wm_getI dX3_readsShape_255 (kF3_175 rfl) rfl rfl ?_
                            refine wm_iconst dX3_readsShape_258 ?_
                            refine wm_iadd dX3_readsShape_259 ?_
                            rw [setRd_16]
                            refine wm_putI dX3_readsShape_260 (kF3_175 rfl) rfl rfl (Or.inl rfl) ?_
                            rw [setRd_p]
                            refine wm_goto dX3_readsShape_263 28 rfl ?_
                            rw [if_neg (by omega), if_neg (by omega), if_pos (by omega)]
                            have hs : RI (slotR r (heF (τ.2 14) (τ.1 15) p) x y) := by
                              unfold RI slotR
                              refine ⟨by rw [show ∀ (w : Nat → Int) v, updW w 0 v 0 = v from fun w v => if_pos rfl]; omega, ?_⟩
                              rw [upd_ne (by decide), upd_ne (by omega), upd_ne (by omega), show ∀ (w : Nat → Int) v, updW w 1 v 1 = v from fun w v => if_pos rfl]
                              split <;> omega
                            have K := ih y (x + 1) (p + 1) _ (some (.inl (heF (τ.2 14) (τ.1 15) p))) (some (.inl 1)) (by omega) (by have := hh2 (by omega); omega) (by omega) (by omega) hs
                            have e42 : heF (τ.2 14) (τ.1 15) p = 42 := by omega
                            unfold slotR at K ⊢
                            rw [if_pos e42] at K ⊢
                            exact K
                      ·
                        refine wm_aload_n dX3_readsShape_167 rfl ?_
                        refine wm_aload_n dX3_readsShape_168 rfl ?_
                        refine wm_getI dX3_readsShape_169 (kF3_175 rfl) rfl rfl ?_
                        rw [setRd_16]
                        refine wm_putI dX3_readsShape_172 (kF3_178 rfl) rfl rfl (Or.inl rfl) ?_
                        rw [setRd_f]
                        refine wm_vreturn dX3_readsShape_175 rfl ?_
                        rw [if_neg (by omega), if_pos (by omega)]
                        exact ⟨rfl, p, rfl⟩
            ·
              omega
          ·
            omega
    refine wm_aload_n dX3_readsShape_28 rfl ?_
    refine wm_getI dX3_readsShape_29 (kF3_178 rfl) rfl rfl ?_
    refine wm_if dX3_readsShape_32 (cB_ge (show rng (-1) by decide) ⟨by omega, by omega⟩) 266 rfl (fun c32 => ?_) (fun c32 => ?_)
    ·
      exact absurd (show (0 : Int) ≤ -1 from c32) (by decide)
    ·
      refine wm_aload_n dX3_readsShape_35 rfl ?_
      refine wm_getI dX3_readsShape_36 (kF3_175 rfl) rfl rfl ?_
      refine wm_aload_n dX3_readsShape_39 rfl ?_
      refine wm_getI dX3_readsShape_40 (kF3_172 rfl) rfl rfl ?_
      refine wm_icmp dX3_readsShape_43 (cB_lt (show rng p by omega) (show rng (τ.1 15) by omega)) 50 rfl (fun c43 => ?_) (fun c43 => ?_)
      ·
        exact h50 (Or.inl c43)
      ·
        refine wm_iload_n dX3_readsShape_46 rfl ?_
        refine wm_if dX3_readsShape_47 (cB_ne ⟨by omega, by omega⟩ ⟨by omega, by omega⟩) 266 rfl (fun c47 => ?_) (fun c47 => ?_)
        ·
          refine (mc_readsShape_266 hT (by omega)).mono (fun v t h => ⟨h.1, p, ?_⟩)
          rw [rdF, if_pos (fun q => by rcases q with q | q; exact c43 q; omega)]
          exact h.2.symm
        ·
          exact h50 (Or.inr (by omega))
end M26
