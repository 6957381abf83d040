/-! PLAIN LAW: rounds leave the account of members added alone -/
set_option maxRecDepth 100000
section K11
variable {w w' : Nat → Int} {m c k : Int} {sl : Int → Int} {FF : Int → Int → Int}
theorem k11_goes (hm : 0 ≤ m) : goesF w m c 11 = w 11 := by
  unfold goesF
  rw [upd_ne (by omega), upd_ne (by omega), upd_ne (by omega)]
theorem k11_cnt (hk : 0 ≤ k ∧ k ≤ 6) : cntW w k 11 = w 11 := upd_ne (by omega)
theorem k11_act (hm : 0 ≤ m) : actF sl FF w m 11 = w 11 := by
  unfold actF
  split
  · rfl
  · split
    · unfold stepW
      rw [upd_ne (by omega), k11_cnt (by omega), k11_goes hm]
    · split
      · rename_i hw
        rcases fstI_rng (excF sl FF (FF (sl m)) w m (FF (sl m) (celF w m))) 4 0 (by omega) with e | ⟨-, -, e, -⟩
        · unfold wayF at hw; omega
        · have e1 := of_decide_eq_true e
          have ho : 0 ≤ onF w (besF (celF w m) (wayF (excF sl FF (FF (sl m)) w m (FF (sl m) (celF w m))))) := e1.2.2.1
          unfold excW exchW
          rw [upd_ne (by omega), upd_ne (by omega), k11_cnt (by omega), k11_goes ho, k11_goes hm]
      · split
        · unfold asideW
          rw [upd_ne (by omega), k11_cnt (by omega), k11_goes hm]
        · unfold waitW waitsF
          rw [upd_ne (by omega), k11_cnt (by omega), upd_ne (by omega), upd_ne (by omega)]
theorem k11_lead (h0 : w 0 ≤ 10) (hl : 0 ≤ ledF w) : leadF w 11 = w 11 := by
  unfold leadF
  split
  · rw [upd_ne (by omega)]
  · split
    · rw [upd_ne (by omega)]
    · split
      · rw [upd_ne (by omega)]
      · unfold lead1F
        split
        · rw [upd_ne (by omega)]
        · split
          · rw [upd_ne (by omega), k11_cnt (by omega), k11_goes hl, upd_ne (by omega)]
          · unfold waitsF
            rw [upd_ne (by omega), k11_cnt (by omega), upd_ne (by omega), upd_ne (by omega)]
theorem ins_in {l : TL} {x y : Int × Int} (h : y ∈ insF l x) : y = x ∨ y ∈ l := by
  unfold insF at h
  rcases List.mem_append.mp h with q | q
  · exact Or.inr (List.mem_of_mem_take q)
  · rcases List.mem_cons.mp q with q | q
    · exact Or.inl q
    · exact Or.inr (List.mem_of_mem_drop q)
theorem k11_bgn : ∀ (k : Nat) (m : Int) (s : (Nat → Int) × TL), 0 ≤ m → (∀ y ∈ s.2, 0 ≤ y.1) → (bgnF sl FF k m s).1 11 = s.1 11 ∧ ∀ y ∈ (bgnF sl FF k m s).2, 0 ≤ y.1 := by
  intro k
  induction k with
  | zero => intro m s _ h; exact ⟨rfl, h⟩
  | succ k ih =>
    intro m s hm h
    have := ih (m + 1) (bgF sl s.1 m, if inB sl FF s.1 m = true then insF s.2 (m, FF (sl m) (celF s.1 m)) else s.2) (by omega) (fun y hy => by
      dsimp only at hy
      split at hy
      · rcases ins_in hy with q | q
        · rw [q]; exact hm
        · exact h y q
      · exact h y hy)
    refine ⟨this.1.trans ?_, this.2⟩
    show bgF sl s.1 m 11 = s.1 11
    unfold bgF
    split
    · split
      · rw [upd_ne (by omega)]
      · rw [upd_ne (by omega), upd_ne (by omega)]
    · rfl
theorem k11_fold : ∀ (L : TL) (w : Nat → Int), (∀ y ∈ L, 0 ≤ y.1) → L.foldl (fun u x => actF sl FF u x.1) w 11 = w 11 := by
  intro L
  induction L with
  | nil => intro w _; rfl
  | cons x L ih =>
    intro w h
    show L.foldl (fun u x => actF sl FF u x.1) (actF sl FF w x.1) 11 = w 11
    rw [ih _ (fun y hy => h y (List.mem_cons_of_mem _ hy)), k11_act (h x (List.mem_cons_self ..))]
theorem k11_round (h0 : w 0 ≤ 10) (hS : WS w) (hl : 0 ≤ ledF w) : roundF w 11 = w 11 := by
  have s0 := SW.cnt0 hS
  unfold roundF rd2F
  have hb := k11_bgn (sl := slF (leadF (cntW w 0))) (FF := frF (leadF (cntW w 0))) 10 0 (leadF (cntW w 0), []) (by omega) (fun y hy => by cases hy)
  rw [k11_fold _ _ hb.2, hb.1]
  show leadF (cntW w 0) 11 = w 11
  rw [k11_lead (by rw [s0.1 0 (by omega)]; exact h0) (by rw [s0.led h0]; exact hl), k11_cnt (by omega)]
theorem sw_bgn : ∀ (k : Nat) (m : Int) (s : (Nat → Int) × TL), m + k = 10 → 0 ≤ m → (∀ y ∈ s.2, (0 ≤ y.1 ∧ y.1 ≤ 9) ∧ 0 ≤ celF s.1 y.1) → SC s.1 (bgnF sl FF k m s).1 ∧ ∀ y ∈ (bgnF sl FF k m s).2, (0 ≤ y.1 ∧ y.1 ≤ 9) ∧ 0 ≤ celF (bgnF sl FF k m s).1 y.1 := by
  intro k
  induction k with
  | zero => intro m s _ _ h; exact ⟨SC.rf, h⟩
  | succ k ih =>
    intro m s hk hm h
    have hSC : SC s.1 (bgF sl s.1 m) := bgF_SC ⟨hm, by omega⟩
    have := ih (m + 1) (bgF sl s.1 m, if inB sl FF s.1 m = true then insF s.2 (m, FF (sl m) (celF s.1 m)) else s.2) (by omega) (by omega) (fun y hy => by
      dsimp only at hy ⊢
      have hold : y ∈ s.2 → (0 ≤ y.1 ∧ y.1 ≤ 9) ∧ 0 ≤ celF (bgF sl s.1 m) y.1 := fun q => by
        have := h y q
        rw [hSC.2 y.1 this.1.1 this.1.2]
        exact this
      split at hy
      · rename_i hb
        rcases ins_in hy with q | q
        · have hM : isM s.1 m := (of_decide_eq_true hb).1
          rw [q]
          refine ⟨⟨hm, by omega⟩, ?_⟩
          rw [hSC.2 m hm (by omega)]
          exact hM.2
        · exact hold q
      · exact hold hy)
    exact ⟨hSC.tr this.1, this.2⟩
theorem sw_fold : ∀ (L : TL) (w : Nat → Int), (∀ m, 0 ≤ m → m ≤ 9 → celF w m < 120) → (∀ y ∈ L, (0 ≤ y.1 ∧ y.1 ≤ 9) ∧ 0 ≤ celF w y.1) → SW w (L.foldl (fun u x => actF sl FF u x.1) w) := by
  intro L
  induction L with
  | nil => intro w hc _; exact SW.of SC.rf hc
  | cons x L ih =>
    intro w hc h
    have hx := h x (List.mem_cons_self ..)
    have s1 : SW w (actF sl FF w x.1) := SW.act hx.1 hc hx.2
    exact s1.tr (ih _ (s1.lt hc) (fun y hy => by
      have := h y (List.mem_cons_of_mem _ hy)
      exact ⟨this.1, ((s1.2 y.1 this.1.1 this.1.2).1 this.2).1⟩))
theorem SW.round (h0 : w 0 ≤ 10) (hS : WS w) (hl : 0 ≤ ledF w) : SW w (roundF w) := by
  have hc : ∀ m, 0 ≤ m → m ≤ 9 → celF w m < 120 := fun m m0 m1 => (hS.2.2.1 m m0 m1).2
  have s0 := SW.cnt0 hS
  have s1 := s0.tr (SW.lead (s0.lt hc) (by rw [s0.1 0 (by omega)]; exact h0) (by rw [s0.led h0]; exact hl))
  have hb := sw_bgn (sl := slF (leadF (cntW w 0))) (FF := frF (leadF (cntW w 0))) 10 0 (leadF (cntW w 0), []) (by omega) (by omega) (fun y hy => by cases hy)
  have s2 := s1.tr (SW.of hb.1 (s1.lt hc))
  exact s2.tr (sw_fold _ _ (s2.lt hc) hb.2)
theorem k11_rnds : ∀ (k : Nat) (w : Nat → Int), w 0 ≤ 10 → WS w → 0 ≤ ledF w → rndsF k w 11 = w 11 ∧ SW w (rndsF k w) := by
  intro k
  induction k with
  | zero => intro w h0 hS hl; exact ⟨rfl, SW.of SC.rf (fun m m0 m1 => (hS.2.2.1 m m0 m1).2)⟩
  | succ k ih =>
    intro w h0 hS hl
    have s1 := SW.round h0 hS hl
    have := ih (roundF w) (by rw [s1.1 0 (by omega)]; exact h0) (hS.sw s1) (by rw [s1.led h0]; exact hl)
    exact ⟨this.1.trans (k11_round h0 hS hl), s1.tr this.2⟩
end K11
