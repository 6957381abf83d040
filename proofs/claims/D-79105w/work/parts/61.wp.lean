/-! ENDS OF RUNS OF THE MINI MACHINE: 'Wp' (the run ends, in Q), more fuel and depth do no harm, one step, one call -/
set_option maxRecDepth 100000
theorem run_more {B : Nat} {sv : Nat → Option Nat} : ∀ (n d : Nat) (M : MRec) (f : MF) (x : (Option MV ⊕ Nat) × MH), mRun B sv n d M f = some x → ∀ (n' d' : Nat), n ≤ n' → d ≤ d' → mRun B sv n' d' M f = some x := by
  intro n
  induction n with
  | zero => intro d M f x h; cases h
  | succ n ih =>
    intro d M f x h n' d' hn hd
    obtain ⟨n'', rfl⟩ : ∃ k, n' = k + 1 := ⟨n' - 1, by omega⟩
    have hn2 : n ≤ n'' := by omega
    obtain ⟨pc, ls, st, h0⟩ := f
    unfold mRun at h ⊢
    split at h
    · cases h
    · rename_i i len hdec
      generalize hX : (if mLen i len = true then ex B sv M pc ls st h0 i else none) = X at h ⊢
      rcases X with _ | (f1 | (⟨M', as, pc', r, h'⟩ | (⟨v, h'⟩ | ⟨q, h'⟩)))
      · cases h
      · dsimp only at h ⊢
        exact ih d M f1 x h n'' d' hn2 hd
      · dsimp only at h ⊢
        cases d with
        | zero => cases h
        | succ d =>
          obtain ⟨d'', rfl⟩ : ∃ k, d' = k + 1 := ⟨d' - 1, by omega⟩
          dsimp only at h ⊢
          generalize hY : mRun B sv n d M' (0, mEntry M' as, [], h') = Y at h
          rcases Y with _ | ⟨v | q, h2⟩
          · cases h
          · rw [ih d M' _ _ hY n'' d'' hn2 (by omega)]
            dsimp only at h ⊢
            exact ih _ M _ x h n'' _ hn2 hd
          · rw [ih d M' _ _ hY n'' d'' hn2 (by omega)]
            dsimp only at h ⊢
            rcases hF : hFind (rH M) pc with _ | (_ | t)
            · rw [hF] at h; cases h
            · rw [hF] at h
              exact h
            · rw [hF] at h
              dsimp only at h ⊢
              exact ih _ M _ x h n'' _ hn2 hd
      · exact h
      · dsimp only at h ⊢
        rcases hF : hFind (rH M) pc with _ | (_ | t)
        · rw [hF] at h; cases h
        · rw [hF] at h
          exact h
        · rw [hF] at h
          dsimp only at h ⊢
          exact ih _ M _ x h n'' _ hn2 hd
/-- the run ends, in Q -/
def Wp (B : Nat) (sv : Nat → Option Nat) (d : Nat) (M : MRec) (pc : Nat) (ls : ML) (st : List MV) (h : MH) (Q : (Option MV ⊕ Nat) → MH → Prop) : Prop := ∃ (n : Nat) (r : Option MV ⊕ Nat) (h' : MH), mRun B sv n d M (pc, ls, st, h) = some (r, h') ∧ Q r h'
section WPR
variable {B : Nat} {sv : Nat → Option Nat} {d : Nat} {M : MRec} {pc : Nat} {ls : ML} {st : List MV} {h : MH} {Q Q' : (Option MV ⊕ Nat) → MH → Prop}
theorem Wp.mono (k : Wp B sv d M pc ls st h Q') (w : ∀ r h', Q' r h' → Q r h') : Wp B sv d M pc ls st h Q := by
  obtain ⟨n, r, h', e, q⟩ := k
  exact ⟨n, r, h', e, w r h' q⟩
theorem Wp.deeper {d' : Nat} (k : Wp B sv d M pc ls st h Q) (hd : d ≤ d') : Wp B sv d' M pc ls st h Q := by
  obtain ⟨n, r, h', e, q⟩ := k
  exact ⟨n, r, h', run_more n d M _ _ e n d' (Nat.le_refl _) hd, q⟩
theorem wp_next {i : Instr} {len pc' : Nat} {ls' : ML} {st' : List MV} {h' : MH} (hd : decode (rC M) pc = .ok (i, len)) (hl : mLen i len = true) (hx : ex B sv M pc ls st h i = some (.inl (pc', ls', st', h'))) (k : Wp B sv d M pc' ls' st' h' Q) : Wp B sv d M pc ls st h Q := by
  obtain ⟨n, r, h2, e, q⟩ := k
  refine ⟨n + 1, r, h2, ?_, q⟩
  unfold mRun
  rw [hd]
  dsimp only
  rw [if_pos hl, hx]
  exact e
theorem wp_ret {i : Instr} {len : Nat} {v : Option MV} {h' : MH} (hd : decode (rC M) pc = .ok (i, len)) (hl : mLen i len = true) (hx : ex B sv M pc ls st h i = some (.inr (.inr (.inl (v, h'))))) (k : Q (.inl v) h') : Wp B sv d M pc ls st h Q := by
  refine ⟨1, .inl v, h', ?_, k⟩
  unfold mRun
  rw [hd]
  dsimp only
  rw [if_pos hl, hx]
theorem wp_throw {i : Instr} {len q : Nat} {h' : MH} (hd : decode (rC M) pc = .ok (i, len)) (hl : mLen i len = true) (hx : ex B sv M pc ls st h i = some (.inr (.inr (.inr (q, h'))))) (hf : hFind (rH M) pc = some none) (k : Q (.inr q) h') : Wp B sv d M pc ls st h Q := by
  refine ⟨1, .inr q, h', ?_, k⟩
  unfold mRun
  rw [hd]
  dsimp only
  rw [if_pos hl, hx]
  dsimp only
  rw [hf]
/-- a call: what the callee's run ends in, then the caller goes on (or the throw goes through, or is caught) -/
theorem wp_call {i : Instr} {len pc' : Nat} {M' : MRec} {as r : List MV} {h' : MH} {Q1 : (Option MV ⊕ Nat) → MH → Prop} (hd : decode (rC M) pc = .ok (i, len)) (hl : mLen i len = true) (hx : ex B sv M pc ls st h i = some (.inr (.inl (M', as, pc', r, h')))) {d0 : Nat} (hd0 : d0 < d) (hc : Wp B sv d0 M' 0 (mEntry M' as) [] h' Q1)
    (kv : ∀ v h2, Q1 (.inl v) h2 → Wp B sv d M pc' ls (v.toList ++ r) h2 Q) (kt : ∀ q h2, Q1 (.inr q) h2 → (hFind (rH M) pc = some none ∧ Q (.inr q) h2) ∨ ∃ t, hFind (rH M) pc = some (some t) ∧ Wp B sv d M t ls [.inr (some q)] h2 Q) : Wp B sv d M pc ls st h Q := by
  obtain ⟨d1, rfl⟩ : ∃ k, d = k + 1 := ⟨d - 1, by omega⟩
  obtain ⟨n, rr, h2, e, q⟩ := hc.deeper (show d0 ≤ d1 by omega)
  rcases rr with v | a
  · obtain ⟨n2, r3, h3, e3, q3⟩ := kv v h2 q
    refine ⟨max n n2 + 1, r3, h3, ?_, q3⟩
    unfold mRun
    rw [hd]
    dsimp only
    rw [if_pos hl, hx]
    dsimp only
    rw [run_more _ _ _ _ _ e (max n n2) d1 (by omega) (Nat.le_refl _)]
    exact run_more _ _ _ _ _ e3 (max n n2) _ (by omega) (Nat.le_refl _)
  · rcases kt a h2 q with ⟨hf, q3⟩ | ⟨t, hf, n2, r3, h3, e3, q3⟩
    · refine ⟨n + 1, .inr a, h2, ?_, q3⟩
      unfold mRun
      rw [hd]
      dsimp only
      rw [if_pos hl, hx]
      dsimp only
      rw [e]
      dsimp only
      rw [hf]
    · refine ⟨max n n2 + 1, r3, h3, ?_, q3⟩
      unfold mRun
      rw [hd]
      dsimp only
      rw [if_pos hl, hx]
      dsimp only
      rw [run_more _ _ _ _ _ e (max n n2) d1 (by omega) (Nat.le_refl _)]
      dsimp only
      rw [hf]
      exact run_more _ _ _ _ _ e3 (max n n2) _ (by omega) (Nat.le_refl _)
end WPR
