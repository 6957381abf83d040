/-! THE MODEL'S 'gives', 3: the table and the greedy end -/
set_option maxRecDepth 100000
section M7
variable {τ : MT} {m c v x y z b n : Int} {d : Nat} {Q : Option Int → MT → Prop}
/-- one cell of the table: the loop over the slots -/
theorem mc_gives_196 {o1 o3 : Option AV} {V : Int → Int → Int} (hV : ∀ m s, 0 ≤ V m s ∧ V m s ≤ 10000) (hn : 0 ≤ n ∧ n ≤ 10) {k : Nat} (hk : k < 10) {A : Int} (hA : 0 ≤ A ∧ A < 2 ^ n.toNat) {t : MT} (hg : GO V n t) (ht : GT V n.toNat k t) : ∀ (j : Nat) (s most : Int) (o8 : Option AV), s + j = n → 0 ≤ s → 0 ≤ most ∧ most ≤ 10000 * (k : Int) + 10000 →
    (∀ o, Wm d rX3_gives 292 [some (.inr 1), o1, some (.inl n), o3, some (.inl (9 - (k : Int))), some (.inl A), some (.inl (bstF (V (9 - (k : Int))) (wthF V n.toNat k) A j s most)), some (.inl n), o] [] t Q) →
    Wm d rX3_gives 196 [some (.inr 1), o1, some (.inl n), o3, some (.inl (9 - (k : Int))), some (.inl A), some (.inl most), some (.inl s), o8] [] t Q := by
  have hp := b_pow (s := n) (by omega)
  intro j
  induction j with
  | zero =>
    intro s most o8 hs h0 hm K
    have e : s = n := by omega
    subst e
    refine wm_iload dX3_gives_196 rfl ?_
    refine wm_iload_n dX3_gives_198 rfl ?_
    refine wm_icmp dX3_gives_199 (cB_ge ⟨by omega, by omega⟩ ⟨by omega, by omega⟩) 292 rfl (fun c199 => ?_) (fun c199 => ?_)
    ·
      exact K o8
    ·
      omega
  | succ j ih =>
    intro s most o8 hs h0 hm K
    have hb := b_rng (a := A) (s := s) (by omega) (by omega)
    have hgo := hg (9 - (k : Int)) s (by omega) (by omega) h0 (by omega)
    have hgt := ht k (clrF A s) (Nat.le_refl _) hb.1.1 (by omega)
    have hv := hV (9 - (k : Int)) s
    have hw := wthF_rng (n := n.toNat) hV k (clrF A s)
    have hbd : A / 2 ^ s.toNat % 2 = bitF A s := rfl
    have e1 : (1024 * (9 - (k : Int) + 1) + clrF A s).toNat = (1024 * (10 - (k : Int)) + clrF A s).toNat := by omega
    refine wm_iload dX3_gives_196 rfl ?_
    refine wm_iload_n dX3_gives_198 rfl ?_
    refine wm_icmp dX3_gives_199 (cB_ge ⟨by omega, by omega⟩ ⟨by omega, by omega⟩) 292 rfl (fun c199 => ?_) (fun c199 => ?_)
    ·
      omega
    ·
      refine wm_iload dX3_gives_202 rfl ?_
      refine wm_iload dX3_gives_204 rfl ?_
      refine wm_shr dX3_gives_206 ⟨by omega, by omega⟩ ⟨by omega, by omega⟩ ?_
      refine wm_iconst dX3_gives_207 ?_
      refine wm_and1 dX3_gives_208 ⟨by omega, by omega⟩ ?_
      refine wm_if dX3_gives_209 (cB_eq ⟨by omega, by omega⟩ ⟨by omega, by omega⟩) 286 rfl (fun c209 => ?_) (fun c209 => ?_)
      ·
        refine wm_iinc dX3_gives_286 rfl ?_
        refine wm_goto dX3_gives_289 196 rfl ?_
        refine ih (s + 1) most _ (by omega) (by omega) hm (fun o => ?_)
        have := K o
        rw [bstF, if_pos (Or.inl (by omega))] at this
        exact this
      ·
        refine wm_aload_n dX3_gives_212 rfl ?_
        refine wm_getA dX3_gives_213 (kF3_28 rfl) rfl ?_
        refine wm_bipush dX3_gives_216 (by decide) ?_
        refine wm_iload dX3_gives_218 rfl ?_
        refine wm_imul dX3_gives_220 ?_
        refine wm_iload dX3_gives_221 rfl ?_
        refine wm_iadd dX3_gives_223 ?_
        refine wm_iaload dX3_gives_224 rfl ⟨by omega, by omega⟩ _ rfl ?_
        rw [hgo]
        refine wm_if dX3_gives_225 (cB_ne ⟨by omega, by omega⟩ ⟨by omega, by omega⟩) 231 rfl (fun c225 => ?_) (fun c225 => ?_)
        ·
          refine wm_aload_n dX3_gives_231 rfl ?_
          refine wm_getA dX3_gives_232 (kF3_28 rfl) rfl ?_
          refine wm_bipush dX3_gives_235 (by decide) ?_
          refine wm_iload dX3_gives_237 rfl ?_
          refine wm_imul dX3_gives_239 ?_
          refine wm_iload dX3_gives_240 rfl ?_
          refine wm_iadd dX3_gives_242 ?_
          refine wm_iaload dX3_gives_243 rfl ⟨by omega, by omega⟩ _ rfl ?_
          rw [hgo]
          refine wm_aload_n dX3_gives_244 rfl ?_
          refine wm_getA dX3_gives_245 (kF3_22 rfl) rfl ?_
          refine wm_sipush dX3_gives_248 (by decide) ?_
          refine wm_iload dX3_gives_251 rfl ?_
          refine wm_iconst dX3_gives_253 ?_
          refine wm_iadd dX3_gives_254 ?_
          refine wm_imul dX3_gives_255 ?_
          refine wm_iload dX3_gives_256 rfl ?_
          refine wm_iconst dX3_gives_258 ?_
          refine wm_iload dX3_gives_259 rfl ?_
          refine wm_shl1 dX3_gives_261 ⟨by omega, by omega⟩ ?_
          refine wm_iconst dX3_gives_262 ?_
          refine wm_not dX3_gives_263 ⟨by omega, by omega⟩ ?_
          refine wm_clr dX3_gives_264 ⟨by omega, by omega⟩ ⟨by omega, by omega⟩ ?_
          refine wm_iadd dX3_gives_265 ?_
          refine wm_iaload dX3_gives_266 rfl ⟨by omega, by omega⟩ _ rfl ?_
          rw [e1, hgt]
          refine wm_iadd dX3_gives_267 ?_
          refine wm_istore dX3_gives_268 rfl ?_
          refine wm_iload dX3_gives_270 rfl ?_
          refine wm_iload dX3_gives_272 rfl ?_
          refine wm_icmp dX3_gives_274 (cB_le ⟨by omega, by omega⟩ ⟨by omega, by omega⟩) 282 rfl (fun c274 => ?_) (fun c274 => ?_)
          ·
            refine wm_iload dX3_gives_282 rfl ?_
            refine wm_istore dX3_gives_284 rfl ?_
            refine wm_iinc dX3_gives_286 rfl ?_
            refine wm_goto dX3_gives_289 196 rfl ?_
            refine ih (s + 1) most _ (by omega) (by omega) hm (fun o => ?_)
            have := K o
            rw [bstF, if_neg (by omega), if_pos c274] at this
            exact this
          ·
            refine wm_iload dX3_gives_277 rfl ?_
            refine wm_goto dX3_gives_279 284 rfl ?_
            refine wm_istore dX3_gives_284 rfl ?_
            refine wm_iinc dX3_gives_286 rfl ?_
            refine wm_goto dX3_gives_289 196 rfl ?_
            refine ih (s + 1) _ _ (by omega) (by omega) (by omega) (fun o => ?_)
            have := K o
            rw [bstF, if_neg (by omega), if_neg c274] at this
            exact this
        ·
          refine wm_goto dX3_gives_228 286 rfl ?_
          refine wm_iinc dX3_gives_286 rfl ?_
          refine wm_goto dX3_gives_289 196 rfl ?_
          refine ih (s + 1) most _ (by omega) (by omega) hm (fun o => ?_)
          have := K o
          rw [bstF, if_pos (Or.inr (by omega))] at this
          exact this
/-- one row of the table: the loop over the sets -/
theorem mc_gives_167 {o1 o3 : Option AV} {V : Int → Int → Int} (hV : ∀ m s, 0 ≤ V m s ∧ V m s ≤ 10000) (hn : 0 ≤ n ∧ n ≤ 10) {k : Nat} (hk : k < 10) : ∀ (j : Nat) (A : Int) (t : MT) (o6 o7 o8 : Option AV), A + j = 2 ^ n.toNat → 0 ≤ A → GO V n t → GT V n.toNat k t → (∀ A', 0 ≤ A' → A' < A → t.2 6 (1024 * (9 - (k : Int)) + A').toNat = wthF V n.toNat (k + 1) A') →
    (∀ t' o6 o7 o8, t'.1 = t.1 → (∀ a, a ≠ 6 → t'.2 a = t.2 a) → GO V n t' → GT V n.toNat (k + 1) t' → Wm d rX3_gives 314 [some (.inr 1), o1, some (.inl n), o3, some (.inl (9 - (k : Int))), some (.inl (2 ^ n.toNat)), o6, o7, o8] [] t' Q) →
    Wm d rX3_gives 167 [some (.inr 1), o1, some (.inl n), o3, some (.inl (9 - (k : Int))), some (.inl A), o6, o7, o8] [] t Q := by
  have hp := b_pow (s := n) (by omega)
  intro j
  induction j with
  | zero =>
    intro A t o6 o7 o8 hj h0 hg ht h1 K
    have e : A = 2 ^ n.toNat := by omega
    subst e
    refine wm_iload dX3_gives_167 rfl ?_
    refine wm_iconst dX3_gives_169 ?_
    refine wm_iload_n dX3_gives_170 rfl ?_
    refine wm_shl1 dX3_gives_171 ⟨by omega, by omega⟩ ?_
    refine wm_icmp dX3_gives_172 (cB_ge ⟨by omega, by omega⟩ ⟨by omega, by omega⟩) 314 rfl (fun c172 => ?_) (fun c172 => ?_)
    ·
      refine K t _ _ _ rfl (fun _ _ => rfl) hg (fun k' A' a1 a2 a3 => ?_)
      by_cases e : k' = k + 1
      · subst e
        rw [← h1 A' a2 a3]
        exact congrArg (t.2 6) (by omega)
      · exact ht k' A' (by omega) a2 a3
    ·
      omega
  | succ j ih =>
    intro A t o6 o7 o8 hj h0 hg ht h1 K
    have hw := wthF_rng (n := n.toNat) hV k A
    have hgt := ht k A (Nat.le_refl _) h0 (by omega)
    have e1 : (1024 * (9 - (k : Int) + 1) + A).toNat = (1024 * (10 - (k : Int)) + A).toNat := by omega
    have r1 : ∀ u, (stA t 6 (1024 * (9 - (k : Int)) + A).toNat u).2 6 (1024 * (9 - (k : Int)) + A).toNat = u := fun u => by simp [stA]
    have r2 : ∀ u i, i ≠ (1024 * (9 - (k : Int)) + A).toNat → (stA t 6 (1024 * (9 - (k : Int)) + A).toNat u).2 6 i = t.2 6 i := fun u i hi => by simp [stA, hi]
    have r3 : ∀ u a, a ≠ 6 → (stA t 6 (1024 * (9 - (k : Int)) + A).toNat u).2 a = t.2 a := fun u a ha => by funext i; simp [stA, ha]
    refine wm_iload dX3_gives_167 rfl ?_
    refine wm_iconst dX3_gives_169 ?_
    refine wm_iload_n dX3_gives_170 rfl ?_
    refine wm_shl1 dX3_gives_171 ⟨by omega, by omega⟩ ?_
    refine wm_icmp dX3_gives_172 (cB_ge ⟨by omega, by omega⟩ ⟨by omega, by omega⟩) 314 rfl (fun c172 => ?_) (fun c172 => ?_)
    ·
      omega
    ·
      refine wm_aload_n dX3_gives_175 rfl ?_
      refine wm_getA dX3_gives_176 (kF3_22 rfl) rfl ?_
      refine wm_sipush dX3_gives_179 (by decide) ?_
      refine wm_iload dX3_gives_182 rfl ?_
      refine wm_iconst dX3_gives_184 ?_
      refine wm_iadd dX3_gives_185 ?_
      refine wm_imul dX3_gives_186 ?_
      refine wm_iload dX3_gives_187 rfl ?_
      refine wm_iadd dX3_gives_189 ?_
      refine wm_iaload dX3_gives_190 rfl ⟨by omega, by omega⟩ _ rfl ?_
      rw [e1, hgt]
      refine wm_istore dX3_gives_191 rfl ?_
      refine wm_iconst dX3_gives_193 ?_
      refine wm_istore dX3_gives_194 rfl ?_
      refine mc_gives_196 hV hn hk ⟨h0, by omega⟩ hg ht n.toNat 0 _ _ (by omega) (by omega) (by omega) (fun o => ?_)
      refine wm_aload_n dX3_gives_292 rfl ?_
      refine wm_getA dX3_gives_293 (kF3_22 rfl) rfl ?_
      refine wm_sipush dX3_gives_296 (by decide) ?_
      refine wm_iload dX3_gives_299 rfl ?_
      refine wm_imul dX3_gives_301 ?_
      refine wm_iload dX3_gives_302 rfl ?_
      refine wm_iadd dX3_gives_304 ?_
      refine wm_iload dX3_gives_305 rfl ?_
      refine wm_iastore dX3_gives_307 rfl ⟨by omega, by omega⟩ _ rfl ?_
      refine wm_iinc dX3_gives_308 rfl ?_
      refine wm_goto dX3_gives_311 167 rfl ?_
      refine ih (A + 1) _ _ _ _ (by omega) (by omega) (fun m s a1 a2 a3 a4 => by rw [r3 _ 10 (by decide)]; exact hg m s a1 a2 a3 a4) (fun k' A' a1 a2 a3 => by rw [r2 _ _ (by omega)]; exact ht k' A' a1 a2 a3) (fun A' a1 a2 => ?_) (fun t' o6 o7 o8 f1 f2 f3 f4 => K t' o6 o7 o8 f1 (fun a ha => by rw [f2 a ha, r3 _ a ha]) f3 f4)
      by_cases e : A' = A
      · subst e
        rw [r1]
        rfl
      · rw [r2 _ _ (by omega)]
        exact h1 A' a1 (by omega)
theorem mc_gives_159 {o1 o3 : Option AV} {V : Int → Int → Int} (hV : ∀ m s, 0 ≤ V m s ∧ V m s ≤ 10000) (hn : 0 ≤ n ∧ n ≤ 10) : ∀ (j k : Nat) (t : MT) (o5 o6 o7 o8 : Option AV), k + j = 10 → GO V n t → GT V n.toNat k t →
    (∀ t' o5 o6 o7 o8, t'.1 = t.1 → (∀ a, a ≠ 6 → t'.2 a = t.2 a) → GO V n t' → GT V n.toNat 10 t' → Wm d rX3_gives 320 [some (.inr 1), o1, some (.inl n), o3, some (.inl (-1)), o5, o6, o7, o8] [] t' Q) →
    Wm d rX3_gives 159 [some (.inr 1), o1, some (.inl n), o3, some (.inl (9 - (k : Int))), o5, o6, o7, o8] [] t Q := by
  intro j
  induction j with
  | zero =>
    intro k t o5 o6 o7 o8 hj hg ht K
    have e : k = 10 := by omega
    subst e
    refine wm_iload dX3_gives_159 rfl ?_
    refine wm_if dX3_gives_161 (cB_lt ⟨by omega, by omega⟩ ⟨by omega, by omega⟩) 320 rfl (fun c161 => ?_) (fun c161 => ?_)
    ·
      exact K t _ _ _ _ rfl (fun _ _ => rfl) hg ht
    ·
      omega
  | succ j ih =>
    intro k t o5 o6 o7 o8 hj hg ht K
    refine wm_iload dX3_gives_159 rfl ?_
    refine wm_if dX3_gives_161 (cB_lt ⟨by omega, by omega⟩ ⟨by omega, by omega⟩) 320 rfl (fun c161 => ?_) (fun c161 => ?_)
    ·
      omega
    ·
      refine wm_iconst dX3_gives_164 ?_
      refine wm_istore dX3_gives_165 rfl ?_
      refine mc_gives_167 hV hn (by omega) (2 ^ n.toNat) 0 t _ _ _ (by simp) (by omega) hg ht (fun A' a1 a2 => by omega) (fun t' o6 o7 o8 e1 e2 e3 e4 => ?_)
      refine wm_iinc dX3_gives_314 rfl ?_
      refine wm_goto dX3_gives_317 159 rfl ?_
      show Wm d rX3_gives 159 [some (.inr 1), o1, some (.inl n), o3, some (.inl (9 - (k : Int) + -1)), _, o6, o7, o8] [] t' Q
      rw [show 9 - (k : Int) + -1 = 9 - ((k + 1 : Nat) : Int) by omega]
      exact ih (k + 1) t' _ _ _ _ (by omega) e3 e4 (fun t2 a5 a6 a7 a8 f1 f2 f3 f4 => K t2 a5 a6 a7 a8 (by rw [f1, e1]) (fun a ha => by rw [f2 a ha, e2 a ha]) f3 f4)
end M7
