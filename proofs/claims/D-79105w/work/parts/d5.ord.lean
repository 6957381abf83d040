/-! THE ORDER OF THE TURNS: the model's list and any list in the queue's order are the same -/
set_option maxRecDepth 100000
/-- in order: farther first, then the lower number -/
def Srt (D : Int → Int) (L : TL) : Prop := ∀ i j, i < j → j < L.length → keyF D (tg L i).1 < keyF D (tg L j).1
/-- the model's list: members below m, with their distances -/
def LOk (D : Int → Int) (m : Int) (L : TL) : Prop := ∀ i, i < L.length → (0 ≤ (tg L i).1 ∧ (tg L i).1 < m) ∧ (tg L i).2 = D (tg L i).1
theorem pos_sp (L : TL) (dd : Int) : ∀ p, p ≤ L.length → (∀ i, posF L dd p ≤ i → i < p → (tg L i).2 < dd) ∧ (0 < posF L dd p → dd ≤ (tg L (posF L dd p - 1)).2) := by
  intro p
  induction p with
  | zero => intro _; exact ⟨fun i h1 h2 => by omega, fun h => by unfold posF at h; omega⟩
  | succ p ih =>
    intro hp
    unfold posF
    by_cases h : (tg L p).2 < dd
    · rw [if_pos h]
      obtain ⟨a1, a2⟩ := ih (by omega)
      refine ⟨fun i h1 h2 => ?_, a2⟩
      by_cases e : i = p
      · rw [e]; exact h
      · exact a1 i h1 (by omega)
    · rw [if_neg h]
      exact ⟨fun i h1 h2 => by omega, fun _ => by rw [Nat.add_sub_cancel]; omega⟩
theorem ins_srt {D : Int → Int} {m : Int} {L : TL} (hm : 0 ≤ m ∧ m ≤ 9) (hS : Srt D L) (hL : LOk D m L) : Srt D (insF L (m, D m)) ∧ LOk D (m + 1) (insF L (m, D m)) := by
  have hp := posF_le L (D m) L.length
  obtain ⟨p1, p2⟩ := pos_sp L (D m) L.length (Nat.le_refl _)
  have hlen := insF_len L (m, D m)
  have ht := tg_ins L (m, D m)
  dsimp only at ht
  have hlow : ∀ i, i < posF L (D m) L.length → keyF D (tg L i).1 < keyF D m := fun i hi => by
    have a := hL i (by omega)
    have b := p2 (by omega)
    have c := hL (posF L (D m) L.length - 1) (by omega)
    have e : keyF D (tg L i).1 ≤ keyF D (tg L (posF L (D m) L.length - 1)).1 := by
      by_cases q : i = posF L (D m) L.length - 1
      · rw [q]; exact Int.le_refl _
      · exact Int.le_of_lt (hS i _ (by omega) (by omega))
    unfold keyF at *
    omega
  have hhigh : ∀ i, posF L (D m) L.length ≤ i → i < L.length → keyF D m < keyF D (tg L i).1 := fun i h1 h2 => by
    have a := hL i h2
    have b := p1 i h1 h2
    unfold keyF
    omega
  refine ⟨fun i j hij hj => ?_, fun i hi => ?_⟩
  · rw [hlen] at hj
    rw [ht i, ht j]
    by_cases c1 : j < posF L (D m) L.length
    · rw [if_pos c1, if_pos (by omega)]; exact hS i j hij (by omega)
    · rw [if_neg c1]
      by_cases c2 : j = posF L (D m) L.length
      · rw [if_pos c2, if_pos (by omega)]
        exact hlow i (by omega)
      · rw [if_neg c2]
        by_cases c3 : i < posF L (D m) L.length
        · rw [if_pos c3]
          exact Int.lt_trans (hlow i c3) (hhigh (j - 1) (by omega) (by omega))
        · rw [if_neg c3]
          by_cases c4 : i = posF L (D m) L.length
          · rw [if_pos c4]
            exact hhigh (j - 1) (by omega) (by omega)
          · rw [if_neg c4]
            exact hS (i - 1) (j - 1) (by omega) (by omega)
  · rw [hlen] at hi
    rw [ht i]
    split
    · have := hL i (by omega); omega
    · split
      · exact ⟨⟨hm.1, by dsimp only; omega⟩, rfl⟩
      · have := hL (i - 1) (by omega); omega
theorem ins_mem {D : Int → Int} {m m' : Int} {L : TL} : (∃ i, i < (insF L (m, D m)).length ∧ (tg (insF L (m, D m)) i).1 = m') ↔ (∃ i, i < L.length ∧ (tg L i).1 = m') ∨ m' = m := by
  have hp := posF_le L (D m) L.length
  have hlen := insF_len L (m, D m)
  have ht := tg_ins L (m, D m)
  dsimp only at ht
  constructor
  · rintro ⟨i, hi, rfl⟩
    rw [hlen] at hi
    rw [ht i]
    split
    · exact Or.inl ⟨i, by omega, rfl⟩
    · split
      · exact Or.inr rfl
      · exact Or.inl ⟨i - 1, by omega, rfl⟩
  · rintro (⟨i, hi, rfl⟩ | rfl)
    · by_cases c : i < posF L (D m) L.length
      · exact ⟨i, by omega, by rw [ht i, if_pos c]⟩
      · exact ⟨i + 1, by omega, by rw [ht (i + 1), if_neg (by omega), if_neg (by omega), Nat.add_sub_cancel]⟩
    · exact ⟨posF L (D m') L.length, by omega, by rw [ht, if_neg (by omega), if_pos rfl]⟩
/-- two sequences in order with the same members are the same -/
theorem seq_eq {D : Int → Int} {f g : Nat → Int} {a b : Nat} (hf : ∀ i j, i < j → j < a → keyF D (f i) < keyF D (f j)) (hg : ∀ i j, i < j → j < b → keyF D (g i) < keyF D (g j)) (h9f : ∀ i, i < a → 0 ≤ f i ∧ f i ≤ 9) (h9g : ∀ i, i < b → 0 ≤ g i ∧ g i ≤ 9) (hfg : ∀ i, i < a → ∃ j, j < b ∧ g j = f i) (hgf : ∀ j, j < b → ∃ i, i < a ∧ f i = g j) : a = b ∧ ∀ i, i < a → f i = g i := by
  have key : ∀ n, ∀ i, i < n → i < a → i < b → f i = g i := by
    intro n
    induction n with
    | zero => intro i h; omega
    | succ n ih =>
      intro i hi ha hb
      obtain ⟨j, hj, e⟩ := hfg i ha
      obtain ⟨k, hk, e2⟩ := hgf i hb
      have hji : ¬ j < i := fun q => by
        have := ih j (by omega) (by omega) hj
        have := hf j i q ha
        have e3 : f j = f i := by omega
        rw [e3] at this; omega
      have hki : ¬ k < i := fun q => by
        have := ih k (by omega) hk (by omega)
        have := hg k i q hb
        have e3 : g k = g i := by omega
        rw [e3] at this; omega
      have l1 : keyF D (g i) ≤ keyF D (f i) := by
        rw [← e]
        by_cases q : i = j
        · rw [q]; exact Int.le_refl _
        · exact Int.le_of_lt (hg i j (by omega) hj)
      have l2 : keyF D (f i) ≤ keyF D (g i) := by
        rw [← e2]
        by_cases q : i = k
        · rw [q]; exact Int.le_refl _
        · exact Int.le_of_lt (hf i k (by omega) hk)
      exact key_inj (D := D) (h9f i ha) (h9g i hb) (by omega)
  have hle : a ≤ b := by
    rcases Nat.lt_or_ge b a with q | q
    · obtain ⟨j, hj, e⟩ := hfg b q
      have := key (j + 1) j (by omega) (by omega) hj
      have := hf j b hj q
      have e3 : f j = f b := by omega
      rw [e3] at this; omega
    · exact q
  have hge : b ≤ a := by
    rcases Nat.lt_or_ge a b with q | q
    · obtain ⟨j, hj, e⟩ := hgf a q
      have := key (j + 1) j (by omega) hj (by omega)
      have := hg j a hj q
      have e3 : g j = g a := by omega
      rw [e3] at this; omega
    · exact q
  exact ⟨by omega, fun i hi => key (i + 1) i (by omega) hi (by omega)⟩
