/-! THE CLASS'S WORLD AND THE MODEL'S ROW -/
set_option maxRecDepth 100000
theorem fstI_no {p : Int → Bool} : ∀ (n : Nat) (i : Int), 0 ≤ i → fstI p n i < 0 → ∀ j, i ≤ j → j < i + n → p j = false := by
  intro n
  induction n with
  | zero => intro i hi h j h1 h2; omega
  | succ n ih =>
    intro i hi h j h1 h2
    unfold fstI at h
    by_cases hp : p i = true
    · rw [if_pos hp] at h; omega
    · rw [if_neg hp] at h
      by_cases e : j = i
      · subst e; exact Bool.eq_false_iff.mpr hp
      · exact ih (i + 1) (by omega) h j (by omega) (by omega)
theorem isM_le {w : Nat → Int} {m : Int} (h : isM w m) (h0 : w 0 ≤ 10) : 0 ≤ m ∧ m ≤ 9 := by
  have := h.1
  omega
/-- members stand on different cells -/
def InjM (w : Nat → Int) : Prop := ∀ m m', isM w m → isM w m' → celF w m = celF w m' → m = m'
/-- obstacles are 0 or 1 -/
def BitO (w : Nat → Int) : Prop := ∀ c : Int, 0 ≤ c → c < 120 → w (72 + c).toNat = 0 ∨ w (72 + c).toNat = 1
theorem onF_eq {w : Nat → Int} {m c : Int} (hi : InjM w) (h0 : w 0 ≤ 10) (hm : isM w m) (hc : celF w m = c) : onF w c = m := by
  have hr := onF_rng w c
  have hm2 := isM_le hm h0
  by_cases h : 0 ≤ onF w c
  · exact hi _ _ (hr.2.2 h).1 hm ((hr.2.2 h).2.trans hc.symm)
  · have := fstI_no 10 0 (by omega) (show onF w c < 0 by omega) m (by omega) (by omega)
    exact absurd (decide_eq_true (show isM w m ∧ w (12 + 6 * m + 0).toNat = c from ⟨hm, hc⟩)) (by rw [this]; decide)
theorem onF_none {w : Nat → Int} {c : Int} (h : ∀ m, isM w m → celF w m ≠ c) : onF w c = -1 := by
  have hr := onF_rng w c
  by_cases h2 : 0 ≤ onF w c
  · exact absurd (hr.2.2 h2).2 (h _ (hr.2.2 h2).1)
  · omega
theorem onF_no {w : Nat → Int} {c m : Int} (h0 : w 0 ≤ 10) (h : onF w c < 0) (hm : isM w m) : celF w m ≠ c := fun e => by
  have hm2 := isM_le hm h0
  have := fstI_no 10 0 (by omega) h m (by omega) (by omega)
  exact absurd (decide_eq_true (show isM w m ∧ w (12 + 6 * m + 0).toNat = c from ⟨hm, e⟩)) (by rw [this]; decide)
theorem onF_congr {w w' : Nat → Int} (h0 : w' 0 = w 0) (h : w 0 ≤ 10) (hc : ∀ m, 0 ≤ m → m ≤ 9 → celF w' m = celF w m) (c : Int) : onF w' c = onF w c := by
  unfold onF
  refine fstI_congr 10 0 (fun j j0 j1 => ?_)
  rw [decide_eq_decide, isM_congr h0 h (fun m m0 m1 => by rw [hc m m0 m1]) j]
  have := hc j j0 (by omega)
  unfold celF at this
  rw [this]
theorem oF_congr {w w' : Nat → Int} : ∀ (n : Nat) (i : Int), 0 ≤ i → (∀ j : Int, i ≤ j → j < i + n → w' (72 + j).toNat = w (72 + j).toNat) → oF w' n i = oF w n i := by
  intro n
  induction n with
  | zero => intro i _ _; rfl
  | succ n ih =>
    intro i hi h
    unfold oF
    rw [h i (Int.le_refl _) (by omega), ih (i + 1) (by omega) (fun j h1 h2 => h j (by omega) (by omega))]
def accF (w : Nat → Int) (k : Int) : Int := if k = 6 then oF w 120 0 else w (4 + k).toNat
def ldC (w : Nat → Int) : Int := if w 1 < 0 then -5 else w 1
def tgC (w : Nat → Int) : Int := if w 2 < 0 then -5 else w 2
def ldO (w : Nat → Int) : Int := if ledF w < 0 then -5 else ledF w
/-- a member's cell -/
def MemC (τ : CT) (w : Nat → Int) (m : Int) (y : Nat) : Prop := (110 ≤ y ∧ y < nvC τ ∧ τ.2.1 y = some memK) ∧ sg τ y 0 = m ∧ sg τ y 1 = celF w m ∧ sg τ y 2 = w (12 + 6 * m + 5).toNat ∧ sg τ y 3 = w (12 + 6 * m + 1).toNat ∧ sg τ y 4 = w (12 + 6 * m + 2).toNat ∧ sg τ y 5 = w (12 + 6 * m + 3).toNat ∧ sg τ y 6 = w (12 + 6 * m + 4).toNat
abbrev mnC (τ : CT) (m : Int) : Nat := (sg τ 103 m.toNat).toNat
/-- contents of the cells of a world: obstacles a0, who stands where a1, members a2, accounts a4, the world itself x -/
def WC (τ : CT) (x a0 a1 a2 a4 : Nat) (w : Nat → Int) : Prop :=
  (∀ c : Int, 0 ≤ c → c < 120 → sg τ a0 c.toNat = w (72 + c).toNat ∧ sg τ a1 c.toNat = onF w c) ∧
  (∀ m : Int, 0 ≤ m → m < 10 → (isM w m → MemC τ w m (sg τ a2 m.toNat).toNat) ∧ (¬ isM w m → sg τ a2 m.toNat = 0)) ∧
  (∀ k : Int, 0 ≤ k → k < 8 → sg τ a4 k.toNat = accF w k) ∧
  sg τ x 5 = ldC w ∧ sg τ x 6 = tgC w ∧ sg τ x 7 = w 3
/-- the present world -/
def Wd (w : Nat → Int) (τ : CT) : Prop := WC τ 100 101 102 103 105 w ∧ ∀ m : Int, isM w m → 0 ≤ m → m < 10 → wrC τ (mnC τ m)
section WD
variable {w : Nat → Int} {τ t : CT} {m c k : Int} {T : Nat → Option CK}
theorem Wd.obs (h : Wd w τ) (hc : 0 ≤ c ∧ c < 120) : sg τ 101 c.toNat = w (72 + c).toNat := (h.1.1 c hc.1 hc.2).1
theorem Wd.at (h : Wd w τ) (hc : 0 ≤ c ∧ c < 120) : sg τ 102 c.toNat = onF w c := (h.1.1 c hc.1 hc.2).2
theorem Wd.mem (h : Wd w τ) (h0 : w 0 ≤ 10) (hm : isM w m) : MemC τ w m (mnC τ m) := by
  have := isM_le hm h0
  exact (h.1.2.1 m this.1 (by omega)).1 hm
theorem Wd.non (h : Wd w τ) (hm : ¬ isM w m) (h1 : 0 ≤ m ∧ m < 10) : sg τ 103 m.toNat = 0 := (h.1.2.1 m h1.1 h1.2).2 hm
theorem Wd.wr (h : Wd w τ) (h0 : w 0 ≤ 10) (hm : isM w m) : wrC τ (mnC τ m) := by
  have := isM_le hm h0
  exact h.2 m hm this.1 (by omega)
theorem MemC.kd {y : Nat} (h : MemC τ w m y) : kd T τ y = some memK := kd_dyn h.1.1 h.1.2.2
theorem Wd.nn (h : Wd w τ) (h0 : w 0 ≤ 10) (h1 : 0 ≤ m ∧ m < 10) : mnC τ m = 0 ∨ (kd T τ (mnC τ m)).isSome = true := by
  by_cases hm : isM w m
  · exact Or.inr (by rw [(h.mem h0 hm).kd]; rfl)
  · exact Or.inl (by show (sg τ 103 m.toNat).toNat = 0; rw [h.non hm h1]; rfl)
theorem Wd.isIn (h : Wd w τ) (h0 : w 0 ≤ 10) (h1 : 0 ≤ m ∧ m < 10) (hn : mnC τ m ≠ 0) : isM w m := Classical.byContradiction (fun hm => hn (by show (sg τ 103 m.toNat).toNat = 0; rw [h.non hm h1]; rfl))
theorem Wd.notM (h : Wd w τ) (h0 : w 0 ≤ 10) (hn : mnC τ m = 0) : ¬ isM w m := fun hm => by
  have := (h.mem h0 hm).1.1
  omega
theorem Wd.acc (h : Wd w τ) (hk : 0 ≤ k ∧ k < 8) : sg τ 105 k.toNat = accF w k := h.1.2.2.1 k hk.1 hk.2
/-- different members have different cells -/
theorem Wd.inj {m' : Int} (h : Wd w τ) (h0 : w 0 ≤ 10) (hm : isM w m) (hm' : isM w m') (he : m ≠ m') : mnC τ m' ≠ mnC τ m := fun q => by
  have a1 := (h.mem h0 hm).2.1
  have a2 := (h.mem h0 hm').2.1
  rw [q] at a2
  omega
/-- a list, whatever it holds: object a, array x of n places, s elements -/
def ALw (T : Nat → Option CK) (t : CT) (a x n s : Nat) : Prop := (kd T t a = some alK ∧ wrC t a) ∧ (sg t a 1 = (x : Int) ∧ sg t a 2 = (s : Int) ∧ s ≤ n ∧ n ≤ 10 + 2 * s ∧ s ≤ 200) ∧ ((x = 3 ∧ n = 0 ∧ ∃ g, kd T t 3 = some (ckRc 4 0 g)) ∨ (0 < n ∧ kd T t x = some (ckR 0 n) ∧ wrC t x ∧ x ≠ a))
/-- the turns' array -/
abbrev tnC (τ : CT) : Nat := (sg τ 18 1).toNat
def TnK (τ : CT) : Prop := ∃ n s, ALw kap τ 18 (tnC τ) n s ∧ (n = 0 ∨ n = 10) ∧ (n = 10 → 110 ≤ tnC τ ∧ tnC τ < nvC τ)
theorem wrC_wk {y : Nat} (hw : wrC τ y) (h0 : n0C t = n0C τ) : wrC t y := by
  unfold wrC at *
  rw [h0]
  exact hw
theorem TnK.of (hT : TnK τ) (h0 : n0C t = n0C τ) (hv : nvC τ ≤ nvC t) (h18 : sg t 18 = sg τ 18) (hD : ∀ y, 110 ≤ y → y < nvC τ → t.2.1 y = τ.2.1 y) : TnK t := by
  obtain ⟨n, s, ⟨⟨h1, h2⟩, h3, h4⟩, h5, h6⟩ := hT
  have et : tnC t = tnC τ := by unfold tnC; rw [h18]
  refine ⟨n, s, ⟨⟨rfl, wrC_wk h2 h0⟩, by rw [et, h18]; exact h3, ?_⟩, h5, fun q => by rw [et]; have := h6 q; omega⟩
  rw [et]
  rcases h4 with ⟨q1, q2, -⟩ | ⟨q1, q2, q3, q4⟩
  · exact Or.inl ⟨q1, q2, _, rfl⟩
  · have hr := h6 (by omega)
    refine Or.inr ⟨q1, ?_, wrC_wk q3 h0, q4⟩
    unfold kd at q2 ⊢
    rw [if_neg (by omega)] at q2 ⊢
    rw [hD _ hr.1 hr.2]
    exact q2
/-- what scratch work leaves alone -/
def FrS (τ t : CT) : Prop := (n0C t = n0C τ ∧ nvC τ ≤ nvC t) ∧ (∀ v, (100 ≤ v ∧ v < 106) ∨ v = 17 ∨ v = 19 ∨ v = 20 ∨ v = 21 ∨ v = 22 → sg t v = sg τ v) ∧ (∀ j, j ≠ 6 → j ≠ 7 → sg t 10 j = sg τ 10 j) ∧ (∀ y, 110 ≤ y → y < nvC τ → t.2.1 y = τ.2.1 y ∧ (y ≠ tnC τ → sg t y = sg τ y)) ∧ sg t 18 = sg τ 18 ∧ (∀ y, 1000 ≤ y → y < n0C τ → t.2.1 y = τ.2.1 y ∧ sg t y = sg τ y)
theorem FrS.rf : FrS τ τ := ⟨⟨rfl, Nat.le_refl _⟩, fun _ _ => rfl, fun _ _ _ => rfl, fun _ _ _ => ⟨rfl, fun _ => rfl⟩, rfl, fun _ _ _ => ⟨rfl, rfl⟩⟩
theorem FrS.tn (g : FrS τ t) (hT : TnK τ) : TnK t := hT.of g.1.1 g.1.2 g.2.2.2.2.1 (fun y y1 y2 => (g.2.2.2.1 y y1 y2).1)
theorem FrS.tr {u : CT} (h : FrS τ t) (g : FrS t u) : FrS τ u := by
  obtain ⟨⟨h1, h2⟩, h3, h4, h5, h6, h7⟩ := h
  obtain ⟨⟨g1, g2⟩, g3, g4, g5, g6, g7⟩ := g
  have et : tnC t = tnC τ := by unfold tnC; rw [h6]
  refine ⟨⟨g1.trans h1, by omega⟩, fun v hv => (g3 v hv).trans (h3 v hv), fun j j1 j2 => (g4 j j1 j2).trans (h4 j j1 j2), fun y y1 y2 => ⟨(g5 y y1 (by omega)).1.trans (h5 y y1 y2).1, fun yn => ((g5 y y1 (by omega)).2 (by rw [et]; exact yn)).trans ((h5 y y1 y2).2 yn)⟩, g6.trans h6, fun y y1 y2 => ?_⟩
  have a := h7 y y1 y2
  have b := g7 y y1 (by rw [h1]; exact y2)
  exact ⟨b.1.trans a.1, b.2.trans a.2⟩
theorem MemC.tn {y : Nat} (h : MemC τ w m y) (hT : TnK τ) : y ≠ tnC τ := fun q => by
  have a := h.1
  obtain ⟨n, s, ⟨-, -, h4⟩, h5, h6⟩ := hT
  rcases h4 with ⟨q1, -⟩ | ⟨q1, q2, -⟩
  · omega
  · rw [← q, kd_dyn a.1 a.2.2] at q2
    cases q2
theorem FrS.mem {y : Nat} (g : FrS τ t) (hT : TnK τ) (h : MemC τ w m y) : MemC t w m y := by
  have hy := h.tn hT
  obtain ⟨⟨a1, a2, a3⟩, b⟩ := h
  obtain ⟨c1, c2⟩ := g.2.2.2.1 y a1 a2
  refine ⟨⟨a1, by have := g.1.2; omega, c1.trans a3⟩, ?_⟩
  rw [c2 hy]
  exact b
theorem FrS.wd (g : FrS τ t) (hT : TnK τ) (h : Wd w τ) : Wd w t := by
  obtain ⟨⟨h1, h2, h3, h4, h5, h6⟩, h7⟩ := h
  have e : ∀ v, 100 ≤ v → v < 106 → sg t v = sg τ v := fun v a b => g.2.1 v (Or.inl ⟨a, b⟩)
  refine ⟨⟨fun c c0 c1 => by rw [e 101 (by omega) (by omega), e 102 (by omega) (by omega)]; exact h1 c c0 c1, fun m m0 m1 => ?_, fun k k0 k1 => by rw [e 105 (by omega) (by omega)]; exact h3 k k0 k1, by rw [e 100 (by omega) (by omega)]; exact ⟨h4, h5, h6⟩⟩, fun m hm m0 m1 => ?_⟩
  · rw [e 103 (by omega) (by omega)]
    exact ⟨fun hm => g.mem hT ((h2 m m0 m1).1 hm), (h2 m m0 m1).2⟩
  · have := h7 m hm m0 m1
    unfold mnC wrC at *
    rw [e 103 (by omega) (by omega), g.1.1]
    exact this
/-- a shape's cells -/
abbrev shK : CK := ckO 7 [some none, some none, none]
def ShC (τ : CT) (w : Nat → Int) (s : Int) (y : Nat) : Prop := (1000 ≤ y ∧ y < n0C τ ∧ τ.2.1 y = some shK) ∧ (sg τ y 2 = ancF w s ∧ sg τ y 0 = ((y + 1 : Nat) : Int) ∧ sg τ y 1 = ((y + 2 : Nat) : Int)) ∧ (1000 ≤ (sg τ y 0).toNat ∧ (sg τ y 0).toNat < n0C τ ∧ τ.2.1 (sg τ y 0).toNat = some (ckI 0 (sltF w s).toNat)) ∧ (1000 ≤ (sg τ y 1).toNat ∧ (sg τ y 1).toNat < n0C τ ∧ τ.2.1 (sg τ y 1).toNat = some (ckI 0 (sltF w s).toNat)) ∧ ∀ k : Int, 0 ≤ k → k < sltF w s → sg τ (sg τ y 0).toNat k.toNat = colF w s k ∧ sg τ (sg τ y 1).toNat k.toNat = rowF w s k
def ShA (τ : CT) (a : Nat) (w : Nat → Int) : Prop := ∀ s : Int, 0 ≤ s → s < 3 → (0 < sltF w s → ShC τ w s (sg τ a s.toNat).toNat) ∧ (¬ 0 < sltF w s → sg τ a s.toNat = 0)
abbrev Sh (w : Nat → Int) (τ : CT) : Prop := ShA τ 104 w
theorem ShC.fz {s : Int} {y : Nat} (h : ShC τ w s y) (h0 : n0C t = n0C τ) (g : ∀ y, 1000 ≤ y → y < n0C τ → t.2.1 y = τ.2.1 y ∧ sg t y = sg τ y) : ShC t w s y := by
  obtain ⟨⟨h1, h2, h3⟩, h4, ⟨h5, h6, h7⟩, ⟨h8, h9, h10⟩, h11⟩ := h
  have a := g y h1 h2
  have b := g _ h5 h6
  have c := g _ h8 h9
  unfold ShC
  rw [h0, a.1, a.2, b.1, c.1, b.2, c.2]
  exact ⟨⟨h1, h2, h3⟩, h4, ⟨h5, h6, h7⟩, ⟨h8, h9, h10⟩, h11⟩
theorem FrS.sh (g : FrS τ t) (h : Sh w τ) : Sh w t := fun s s0 s1 => by
  have a := h s s0 s1
  rw [g.2.1 104 (by omega)]
  exact ⟨fun q => (a.1 q).fz g.1.1 g.2.2.2.2.2, a.2⟩
/-- the class stands as the row says -/
def St (w : Nat → Int) (τ : CT) : Prop := Wd w τ ∧ TnK τ ∧ Sh w τ
theorem FrS.st (g : FrS τ t) (h : St w τ) : St w t := ⟨g.wd h.2.1 h.1, g.tn h.2.1, g.sh h.2.2⟩
end WD
