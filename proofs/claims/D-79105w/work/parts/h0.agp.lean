/-! PLAIN LAW: the best worth over matchings -/
/-- the worth of a matching over n members from i on -/
def vsV (f : Int → Int) (V : Int → Int → Int) : Nat → Int → Int
  | 0, _ => 0
  | n + 1, i => (if 0 ≤ f i then V i (f i) else 0) + vsV f V n (i + 1)
section AGP
variable {v : Int → Int} {W : Int → Int} {V : Int → Int → Int} {A L : Int} {n : Nat} {f h : Int → Int}
theorem bst_ge : ∀ (j : Nat) (s most : Int), most ≤ bstF v W A j s most := by
  intro j
  induction j with
  | zero => intro s most; exact Int.le_refl _
  | succ j ih =>
    intro s most
    unfold bstF
    refine Int.le_trans ?_ (ih (s + 1) _)
    split
    · exact Int.le_refl _
    · split <;> omega
theorem bst_gs {e : Int} (hb : ¬ bitF A e = 0) (hv : ¬ v e = 0) : ∀ (j : Nat) (s most : Int), s ≤ e → e < s + j → v e + W (clrF A e) ≤ bstF v W A j s most := by
  intro j
  induction j with
  | zero => intro s most h1 h2; omega
  | succ j ih =>
    intro s most h1 h2
    unfold bstF
    by_cases q : e = s
    · subst q
      refine Int.le_trans ?_ (bst_ge j (e + 1) _)
      rw [if_neg (fun r => r.elim hb hv)]
      split <;> omega
    · exact ih (s + 1) _ (by omega) (by omega)
theorem bst_at : ∀ (j : Nat) (s most : Int), bstF v W A j s most = most ∨ ∃ e, (s ≤ e ∧ e < s + j) ∧ ¬ bitF A e = 0 ∧ ¬ v e = 0 ∧ v e + W (clrF A e) = bstF v W A j s most := by
  intro j
  induction j with
  | zero => intro s most; exact Or.inl rfl
  | succ j ih =>
    intro s most
    unfold bstF
    by_cases q : bitF A s = 0 ∨ v s = 0
    · rw [if_pos q]
      rcases ih (s + 1) most with r | ⟨e, h1, h2⟩
      · exact Or.inl r
      · exact Or.inr ⟨e, by omega, h2⟩
    · rw [if_neg q]
      by_cases q2 : v s + W (clrF A s) ≤ most
      · rw [if_pos q2]
        rcases ih (s + 1) most with r | ⟨e, h1, h2⟩
        · exact Or.inl r
        · exact Or.inr ⟨e, by omega, h2⟩
      · rw [if_neg q2]
        rcases ih (s + 1) (v s + W (clrF A s)) with r | ⟨e, h1, h2⟩
        · exact Or.inr ⟨s, by omega, fun r => q (Or.inl r), fun r => q (Or.inr r), r.symm⟩
        · exact Or.inr ⟨e, by omega, h2⟩
/-- no matching is worth more than the table says -/
theorem wth_max (hi : ∀ m m', 0 ≤ m → m < 10 → 0 ≤ m' → m' < 10 → 0 ≤ h m → h m = h m' → m = m') : ∀ (k : Nat) (A : Int), k ≤ 10 → (∀ m : Int, 10 - k ≤ m → m < 10 → 0 ≤ h m → h m < n ∧ ¬ bitF A (h m) = 0 ∧ ¬ V m (h m) = 0) → vsV h V k (10 - k) ≤ wthF V n k A := by
  intro k
  induction k with
  | zero => intro A _ _; exact Int.le_refl _
  | succ k ih =>
    intro A hk hh
    have e1 : (10 - ((k + 1 : Nat) : Int)) = 9 - k := by omega
    have e2 : (9 - (k : Int)) + 1 = 10 - k := by omega
    rw [e1]
    unfold vsV wthF
    rw [e2]
    by_cases q : 0 ≤ h (9 - k)
    · rw [if_pos q]
      obtain ⟨a1, a2, a3⟩ := hh (9 - k) (by omega) (by omega) q
      refine Int.le_trans ?_ (bst_gs (W := wthF V n k) (e := h (9 - k)) a2 a3 n 0 _ q (by omega))
      have := ih (clrF A (h (9 - k))) (by omega) (fun m m0 m1 hm => by
        obtain ⟨b1, b2, b3⟩ := hh m (by omega) m1 hm
        refine ⟨b1, ?_, b3⟩
        rw [bit_clr q hm, if_neg (fun r => by have := hi m (9 - k) (by omega) m1 (by omega) (by omega) hm r; omega)]
        exact b2)
      omega
    · rw [if_neg q]
      have := ih A (by omega) (fun m m0 m1 hm => hh m (by omega) m1 hm)
      have := bst_ge (v := V (9 - k)) (W := wthF V n k) (A := A) n 0 (wthF V n k A)
      omega
/-- the greedy giving is worth what the table says -/
theorem gr_wth : ∀ (k : Nat) (g : GS), 10000 * ((grF V n k g).2.1 - g.2.1) - ((grF V n k g).2.2.1 - g.2.2.1) = wthF V n k g.1 := by
  intro k
  induction k with
  | zero => intro g; show 10000 * (g.2.1 - g.2.1) - (g.2.2.1 - g.2.2.1) = 0; omega
  | succ k ih =>
    intro g
    have h1 := ih (gr1F V n k g)
    show 10000 * ((grF V n k (gr1F V n k g)).2.1 - g.2.1) - ((grF V n k (gr1F V n k g)).2.2.1 - g.2.2.1) = wthF V n (k + 1) g.1
    by_cases q : fstI (pickF (V (9 - k)) (wthF V n k) g.1 (wthF V n (k + 1) g.1)) n 0 < 0
    · have e : gr1F V n k g = g := by unfold gr1F; rw [if_pos q]
      rw [e] at h1 ⊢
      rw [h1]
      rcases bst_at (v := V (9 - k)) (W := wthF V n k) (A := g.1) n 0 (wthF V n k g.1) with r | ⟨e, h1, h2, h3, h4⟩
      · exact r.symm
      · have := fstI_no n 0 (by omega) q e (by omega) (by omega)
        exact absurd (decide_eq_true (show ¬ bitF g.1 e = 0 ∧ ¬ V (9 - k) e = 0 ∧ V (9 - k) e + wthF V n k (clrF g.1 e) = wthF V n (k + 1) g.1 from ⟨h2, h3, h4⟩)) (by unfold pickF at this; rw [this]; decide)
    · have hp : ∀ (p : Int → Bool) (j : Nat) (i : Int), 0 ≤ i → ¬ fstI p j i < 0 → p (fstI p j i) = true := by
        intro p j
        induction j with
        | zero => intro i _ h; exact absurd (show fstI p 0 i < 0 by unfold fstI; omega) h
        | succ j ih2 =>
          intro i hi h
          unfold fstI at h ⊢
          by_cases r : p i = true
          · rw [if_pos r]; exact r
          · rw [if_neg r] at h ⊢; exact ih2 (i + 1) (by omega) h
      have h2 := of_decide_eq_true (hp _ n 0 (by omega) q)
      unfold gr1F at h1 ⊢
      rw [if_neg q] at h1 ⊢
      dsimp only at h1 ⊢
      omega
theorem vs_cnt : ∀ (k : Nat) (i : Int), vsV f V k i = 10000 * gvN f k i - dsV f V k i := by
  intro k
  induction k with
  | zero => intro i; rfl
  | succ k ih =>
    intro i
    unfold vsV gvN dsV
    rw [ih]
    split <;> omega
theorem vs_upd {a s : Int} (ha : f a < 0) (hs : 0 ≤ s) : ∀ (k : Nat) (i : Int), vsV (fun m => if m = a then s else f m) V k i = vsV f V k i + if i ≤ a ∧ a < i + k then V a s else 0 := by
  intro k
  induction k with
  | zero => intro i; rw [if_neg (by omega)]; rfl
  | succ k ih =>
    intro i
    unfold vsV
    rw [ih]
    by_cases e : i = a
    · rw [if_pos e, if_pos hs, if_neg (show ¬ 0 ≤ f i by rw [e]; omega), if_neg (by omega), if_pos (by omega), e]; omega
    · rw [if_neg e]
      by_cases e2 : i + 1 ≤ a ∧ a < i + 1 + k
      · rw [if_pos e2, if_pos (show i ≤ a ∧ a < i + ((k + 1 : Nat) : Int) by omega)]; omega
      · rw [if_neg e2, if_neg (show ¬ (i ≤ a ∧ a < i + ((k + 1 : Nat) : Int)) by omega)]; omega
theorem vs_congr {g : Int → Int} : ∀ (k : Nat) (i : Int), (∀ m, i ≤ m → m < i + k → f m = g m) → vsV f V k i = vsV g V k i := by
  intro k
  induction k with
  | zero => intro i _; rfl
  | succ k ih =>
    intro i hf
    unfold vsV
    rw [hf i (Int.le_refl _) (by omega), ih (i + 1) (fun m h1 h2 => hf m (by omega) (by omega))]
end AGP
/-! PLAIN LAW: slots given to members, slot by slot -/
def MtS (V : Int → Int → Int) (s : Int) (h : Int → Int) : Prop := ∀ m, 0 ≤ m → m < 10 → h m = -1 ∨ (0 ≤ h m ∧ h m < s ∧ ¬ V m (h m) = 0)
def MtI (h : Int → Int) : Prop := ∀ m m', 0 ≤ m → m < 10 → 0 ≤ m' → m' < 10 → 0 ≤ h m → h m = h m' → m = m'
/-- the value x of the set A of members stands for a matching -/
def Snd1 (V : Int → Int → Int) (s P A x : Int) : Prop := (0 ≤ x ∧ x ≤ 10000 * P) ∧ ∃ h, MtS V s h ∧ MtI h ∧ (∀ m, 0 ≤ m → m < 10 → (bitF A m = 1 ↔ 0 ≤ h m)) ∧ x = 10000 * P - vsV h V 10 0
def SndA (V : Int → Int → Int) (s P : Int) (f : Int → Int) : Prop := ∀ A, 0 ≤ A → A < 1024 → f A = 16777216 ∨ Snd1 V s P A (f A)
def cutS (f : Int → Int) (s m : Int) : Int := if f m < s then f m else -1
/-- some set's value is as good as the given matching's -/
def CmpA (V : Int → Int → Int) (s P : Int) (sl f : Int → Int) : Prop := ∃ A, (0 ≤ A ∧ A < 1024) ∧ (∀ m, 0 ≤ m → m < 10 → (bitF A m = 1 ↔ 0 ≤ sl m ∧ sl m < s)) ∧ f A ≤ 10000 * P - vsV (cutS sl s) V 10 0
section AGQ
variable {V : Int → Int → Int} {A L s P x m a : Int} {n : Nat} {f h sl g : Int → Int}
theorem MtS.up (q : MtS V s h) : MtS V (s + 1) h := fun m m0 m1 => by
  rcases q m m0 m1 with r | ⟨r1, r2, r3⟩
  · exact Or.inl r
  · exact Or.inr ⟨r1, by omega, r3⟩
theorem Snd1.skip (q : Snd1 V s P A x) : Snd1 V (s + 1) P A x := by
  obtain ⟨q0, h, q1, q2, q3, q4⟩ := q
  exact ⟨q0, h, q1.up, q2, q3, q4⟩
theorem Snd1.no (q : Snd1 V s P A x) : Snd1 V (s + 1) (P + 1) A (x + 10000) := by
  obtain ⟨q0, h, q1, q2, q3, q4⟩ := q
  exact ⟨by omega, h, q1.up, q2, q3, by omega⟩
theorem Snd1.yes (q : Snd1 V s P A x) (hm : 0 ≤ m ∧ m < 10) (hb : ¬ bitF A m = 1) (hs : 0 ≤ s) (hv : ¬ V m s = 0) (hr : 0 ≤ V m s ∧ V m s ≤ 10000) : Snd1 V (s + 1) (P + 1) (setF A m) (x + (10000 - V m s)) := by
  obtain ⟨q0, h, q1, q2, q3, q4⟩ := q
  have hn : h m = -1 := by
    rcases q1 m hm.1 hm.2 with r | r
    · exact r
    · exact absurd ((q3 m hm.1 hm.2).mpr r.1) hb
  refine ⟨by omega, fun a => if a = m then s else h a, fun a a0 a1 => ?_, fun a b a0 a1 b0 b1 => ?_, fun a a0 a1 => ?_, ?_⟩
  · dsimp only
    by_cases e : a = m
    · rw [if_pos e, e]; exact Or.inr ⟨hs, by omega, hv⟩
    · rw [if_neg e]; exact q1.up a a0 a1
  · dsimp only
    have hlt : ∀ c, 0 ≤ c → c < 10 → h c < s := fun c c0 c1 => by rcases q1 c c0 c1 with r | r <;> omega
    by_cases e : a = m
    · by_cases e2 : b = m
      · intro _ _; omega
      · rw [if_pos e, if_neg e2]; intro _ r; have := hlt b b0 b1; omega
    · by_cases e2 : b = m
      · rw [if_neg e, if_pos e2]; intro _ r; have := hlt a a0 a1; omega
      · rw [if_neg e, if_neg e2]; exact q2 a b a0 a1 b0 b1
  · rw [bit_set hm.1 a0]
    dsimp only
    by_cases e : a = m
    · rw [if_pos e, if_pos e]; exact ⟨fun _ => hs, fun _ => rfl⟩
    · rw [if_neg e, if_neg e]; exact q3 a a0 a1
  · rw [vs_upd (by omega) hs, if_pos (by omega)]; omega
theorem cutS_0 (hc : ∀ m, 0 ≤ m → m < 10 → ¬ sl m = s) : ∀ m, 0 ≤ m → m < 10 → cutS sl (s + 1) m = cutS sl s m := fun m m0 m1 => by
  have := hc m m0 m1
  unfold cutS
  by_cases e : sl m < s
  · rw [if_pos e, if_pos (by omega)]
  · rw [if_neg e, if_neg (by omega)]
theorem CmpA.skip (q : CmpA V s P sl f) (hc : ∀ m, 0 ≤ m → m < 10 → ¬ sl m = s) : CmpA V (s + 1) P sl f := by
  obtain ⟨A, a0, a1, a2⟩ := q
  refine ⟨A, a0, fun m m0 m1 => ?_, ?_⟩
  · rw [a1 m m0 m1]; have := hc m m0 m1; omega
  · rw [vs_congr 10 0 (fun m m0 m1 => cutS_0 hc m m0 (by omega))]; exact a2
/-- one slot more -/
theorem CmpA.step (q : CmpA V s P sl f) (hs : 0 ≤ s) (hi : MtI sl) (hv : ∀ m, 0 ≤ m → m < 10 → sl m = s → ¬ V m s = 0) (hP : 10000 * P < 16777216) (hV : ∀ m s, 0 ≤ V m s)
    (g3 : ∀ A, 0 ≤ A → A < 1024 → f A < 16777216 → g A ≤ f A + 10000) (g4 : ∀ A m, 0 ≤ A → A < 1024 → f A < 16777216 → 0 ≤ m → m < 10 → ¬ bitF A m = 1 → ¬ V m s = 0 → g (setF A m) ≤ f A + (10000 - V m s))
    (hst : ∀ A m, 0 ≤ A → A < 1024 → 0 ≤ m → m < 10 → 0 ≤ setF A m ∧ setF A m < 1024) : CmpA V (s + 1) (P + 1) sl g := by
  obtain ⟨A, a0, a1, a2⟩ := q
  have hvs : ∀ (k : Nat) (i : Int), 0 ≤ vsV (cutS sl s) V k i := by
    intro k
    induction k with
    | zero => intro i; exact Int.le_refl _
    | succ k ih =>
      intro i
      unfold vsV
      have := ih (i + 1)
      split
      · have := hV i (cutS sl s i); omega
      · omega
  have hf : f A < 16777216 := by have := hvs 10 0; omega
  by_cases hc : ∃ m, 0 ≤ m ∧ m < 10 ∧ sl m = s
  · obtain ⟨m, m0, m1, e⟩ := hc
    have hb : ¬ bitF A m = 1 := fun r => by have := (a1 m m0 m1).mp r; omega
    refine ⟨setF A m, hst A m a0.1 a0.2 m0 m1, fun c c0 c1 => ?_, ?_⟩
    · rw [bit_set m0 c0]
      by_cases e2 : c = m
      · rw [if_pos e2, e2, e]; omega
      · rw [if_neg e2, a1 c c0 c1]
        have : ¬ sl c = s := fun r => e2 (hi c m c0 c1 m0 m1 (by omega) (by omega))
        omega
    · have h1 := g4 A m a0.1 a0.2 hf m0 m1 hb (hv m m0 m1 e)
      have h2 : vsV (cutS sl (s + 1)) V 10 0 = vsV (fun c => if c = m then s else cutS sl s c) V 10 0 := vs_congr 10 0 (fun c c0 c1 => by
        show (if sl c < s + 1 then sl c else -1) = if c = m then s else (if sl c < s then sl c else -1)
        by_cases e2 : c = m
        · rw [if_pos e2, e2, e, if_pos (by omega)]
        · have : ¬ sl c = s := fun r => e2 (hi c m c0 (by omega) m0 m1 (by omega) (by omega))
          rw [if_neg e2]
          by_cases e3 : sl c < s
          · rw [if_pos e3, if_pos (by omega)]
          · rw [if_neg e3, if_neg (by omega)])
      rw [h2, vs_upd (by unfold cutS; rw [if_neg (by omega)]; omega) hs, if_pos (by omega)]
      omega
  · have hc' : ∀ m, 0 ≤ m → m < 10 → ¬ sl m = s := fun m m0 m1 r => hc ⟨m, m0, m1, r⟩
    refine ⟨A, a0, fun m m0 m1 => ?_, ?_⟩
    · rw [a1 m m0 m1]; have := hc' m m0 m1; omega
    · rw [vs_congr 10 0 (fun m m0 m1 => cutS_0 hc' m m0 (by omega))]
      have := g3 A a0.1 a0.2 hf
      omega
/-- what greedy giving keeps -/
def GJ (V : Int → Int → Int) (n : Nat) (g : GS) : Prop := (∀ m, 0 ≤ m → m < 10 → g.2.2.2 m = -1 ∨ (0 ≤ g.2.2.2 m ∧ g.2.2.2 m < n ∧ ¬ V m (g.2.2.2 m) = 0 ∧ bitF g.1 (g.2.2.2 m) = 0)) ∧ MtI g.2.2.2
theorem fst_some {p : Int → Bool} : ∀ (j : Nat) (i : Int), 0 ≤ i → ¬ fstI p j i < 0 → p (fstI p j i) = true ∧ i ≤ fstI p j i ∧ fstI p j i < i + j := by
  intro j
  induction j with
  | zero => intro i _ h; exact absurd (show fstI p 0 i < 0 by unfold fstI; omega) h
  | succ j ih2 =>
    intro i hi h
    unfold fstI at h ⊢
    by_cases r : p i = true
    · rw [if_pos r]; exact ⟨r, by omega, by omega⟩
    · rw [if_neg r] at h ⊢
      have := ih2 (i + 1) (by omega) h
      exact ⟨this.1, by omega, by omega⟩
theorem gr_inv : ∀ (k : Nat) (g : GS), k ≤ 10 → GJ V n g → (∀ m : Int, 10 - k ≤ m → m < 10 → g.2.2.2 m = -1) → GJ V n (grF V n k g) := by
  intro k
  induction k with
  | zero => intro g _ h _; exact h
  | succ k ih =>
    intro g hk h hu
    show GJ V n (grF V n k (gr1F V n k g))
    by_cases q : fstI (pickF (V (9 - k)) (wthF V n k) g.1 (wthF V n (k + 1) g.1)) n 0 < 0
    · have e : gr1F V n k g = g := by unfold gr1F; rw [if_pos q]
      rw [e]
      exact ih g (by omega) h (fun m m0 m1 => hu m (by omega) m1)
    · have h2 := fst_some n 0 (by omega) q
      have h3 := of_decide_eq_true h2.1
      refine ih _ (by omega) ?_ (fun m m0 m1 => ?_)
      · unfold gr1F
        rw [if_neg q]
        generalize fstI (pickF (V (9 - k)) (wthF V n k) g.1 (wthF V n (k + 1) g.1)) n 0 = e at h2 h3 q
        refine ⟨fun m m0 m1 => ?_, fun a b a0 a1 b0 b1 => ?_⟩
        · dsimp only
          by_cases c : m = 9 - k
          · rw [if_pos c, c]; exact Or.inr ⟨by omega, by omega, h3.2.1, by rw [bit_clr (by omega) (by omega), if_pos rfl]⟩
          · rw [if_neg c]
            rcases h.1 m m0 m1 with r | ⟨r1, r2, r3, r4⟩
            · exact Or.inl r
            · exact Or.inr ⟨r1, r2, r3, by rw [bit_clr (by omega) r1]; split <;> (try rfl); exact r4⟩
        · dsimp only
          have hne : ∀ c, 0 ≤ c → c < 10 → ¬ g.2.2.2 c = e := fun c c0 c1 r => by
            rcases h.1 c c0 c1 with r1 | ⟨-, -, -, r4⟩
            · omega
            · rw [r] at r4; exact h3.1 r4
          by_cases c : a = 9 - k
          · by_cases c2 : b = 9 - k
            · intro _ _; omega
            · rw [if_pos c, if_neg c2]; intro _ r; exact absurd r.symm (hne b b0 b1)
          · by_cases c2 : b = 9 - k
            · rw [if_neg c, if_pos c2]; intro _ r; exact absurd r (hne a a0 a1)
            · rw [if_neg c, if_neg c2]; exact h.2 a b a0 a1 b0 b1
      · unfold gr1F
        rw [if_neg q]
        dsimp only
        rw [if_neg (by omega)]
        exact hu m (by omega) m1
/-- the end: the least value is the best matching's -/
theorem again_end (hL : ∀ m s : Int, 0 ≤ m → m < 10 → 0 ≤ s → s < n → ¬ V m s = 0 → ¬ bitF L s = 0) (hsl : sl = (grF V n 10 (L, 0, 0, fun _ => -1)).2.2.2) (hcn : gvN sl 10 0 = (grF V n 10 (L, 0, 0, fun _ => -1)).2.1 ∧ dsV sl V 10 0 = (grF V n 10 (L, 0, 0, fun _ => -1)).2.2.1)
    (hS : SndA V n P f) (hC : CmpA V n P sl f) (hP : 10000 * P < 16777216) (hr : 0 ≤ (grF V n 10 (L, 0, 0, fun _ => -1)).2.2.1 ∧ (grF V n 10 (L, 0, 0, fun _ => -1)).2.2.1 < 10000) (hV : ∀ m s, 0 ≤ V m s) (hx1 : ∀ A, 0 ≤ A → A < 1024 → x ≤ f A) (hx2 : x = 16777216 ∨ ∃ A, (0 ≤ A ∧ A < 1024) ∧ x = f A) : 0 ≤ x ∧ x % 10000 = (grF V n 10 (L, 0, 0, fun _ => -1)).2.2.1 := by
  have hJ : GJ V n (grF V n 10 (L, 0, 0, fun _ => -1)) := gr_inv 10 _ (by omega) ⟨fun m _ _ => Or.inl rfl, fun m m' _ _ _ _ h _ => absurd h (by show ¬ (0 : Int) ≤ -1; omega)⟩ (fun m _ _ => rfl)
  have hw := gr_wth (V := V) (n := n) 10 (L, 0, 0, fun _ => -1)
  dsimp only at hw
  have hvs : ∀ (k : Nat) (i : Int), 0 ≤ vsV (cutS sl n) V k i := by
    intro k
    induction k with
    | zero => intro i; exact Int.le_refl _
    | succ k ih =>
      intro i
      unfold vsV
      have := ih (i + 1)
      split
      · have := hV i (cutS sl n i); omega
      · omega
  have h0 := hvs 10 0
  obtain ⟨A, a0, a1, a2⟩ := hC
  have hcut : vsV (cutS sl n) V 10 0 = vsV sl V 10 0 := vs_congr 10 0 (fun m m0 m1 => by
    unfold cutS
    rw [if_pos]
    rw [hsl]
    rcases hJ.1 m m0 (by omega) with r | r <;> omega)
  have hcnt := vs_cnt (V := V) (f := sl) 10 0
  have hxA := hx1 A a0.1 a0.2
  have hge : 10000 * P - wthF V n 10 L ≤ x := by
    rcases hx2 with r | ⟨B, b0, r⟩
    · omega
    · rcases hS B b0.1 b0.2 with r2 | ⟨r2, h, q1, q2, q3, q4⟩
      · omega
      · have := wth_max (V := V) (n := n) (h := h) q2 10 L (by omega) (fun m m0 m1 hm => by
          rcases q1 m (by omega) m1 with r3 | ⟨r3, r4, r5⟩
          · omega
          · exact ⟨r4, hL m _ (by omega) m1 hm r4 r5, r5⟩)
        have e : (10 - ((10 : Nat) : Int)) = 0 := rfl
        rw [e] at this
        omega
  have hx0 : 0 ≤ x := by
    rcases hx2 with r | ⟨B, b0, r⟩
    · omega
    · rcases hS B b0.1 b0.2 with r2 | ⟨r2, -⟩ <;> omega
  refine ⟨hx0, ?_⟩
  omega
end AGQ
