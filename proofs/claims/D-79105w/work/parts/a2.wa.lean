/-! THE CLASS'S JUDGEMENT, 3: arrays, new cells, calls, answers -/
set_option maxRecDepth 100000
theorem ofNat_cI (n : Nat) : Int32.ofNat n = cI (n : Int) := rfl
section WCA
variable {T : Nat → Option CK} {d : Nat} {M : MRec} {pc : Nat} {ls : AL} {st : List AV} {τ : CT} {Q : CO → CT → Prop} {Q' : Option AV → CT → Prop} {QX : CO → CT → Prop} {k : Nat} {e a b : Int} {x y n t : Nat}
theorem wc_arrI {op : Instr} {g : Nat → Bool} (hd : decode (rC M) pc = .ok (op, 1)) (hl : mLen op 1 = true) (hop : ∀ (l : ML) (s : List MV) (h : MH × Nat × (Nat → Option Nat)), ex h.2.1 h.2.2 M pc l s h.1 op = xArrI g pc l s h.1) (hk : kd T τ x = some (ckI t n)) (hg : g t = true) (hn : n ≤ 100000) (h0 : 0 ≤ a ∧ a < (n : Int)) (i : Nat) (hi : a.toNat = i) (K : Wc T d M (pc + 1) ls (.inl (sg τ x i) :: st) τ Q) : Wc T d M pc ls (.inl a :: .inr x :: st) τ Q := fun E h R => by
  subst hi
  obtain ⟨a1, ha, hc⟩ := R.cell hk
  refine wp_next hd hl (st' := cs E.rf (.inl (sg τ x a.toNat) :: st)) ?_ (K E h R)
  rw [hop _ _ (_, _, _)]
  show xArrI _ pc _ (.inl (cI a) :: .inr (E.rf x) :: _) _ = _
  unfold xArrI
  rw [ha]
  dsimp only
  rw [hc]
  dsimp only [cel]
  rw [if_pos hg, if_neg (cI_in h0.1 h0.2 hn), cI_idx h0.1 (by omega)]
  rfl
theorem wc_iaload (hd : decode (rC M) pc = .ok (.iaload, 1)) (hk : kd T τ x = some (ckI t n)) (ht : (t == 0 || t == 3) = true) (hn : decide (n ≤ 100000) = true) (h0 : 0 ≤ a ∧ a < (n : Int)) (i : Nat) (hi : a.toNat = i) (K : Wc T d M (pc + 1) ls (.inl (sg τ x i) :: st) τ Q) : Wc T d M pc ls (.inl a :: .inr x :: st) τ Q := wc_arrI hd rfl (fun _ _ _ => rfl) hk ht (of_decide_eq_true hn) h0 i hi K
theorem wc_baload (hd : decode (rC M) pc = .ok (.baload, 1)) (hk : kd T τ x = some (ckI t n)) (ht : (t == 1 || t == 2) = true) (hn : decide (n ≤ 100000) = true) (h0 : 0 ≤ a ∧ a < (n : Int)) (i : Nat) (hi : a.toNat = i) (K : Wc T d M (pc + 1) ls (.inl (sg τ x i) :: st) τ Q) : Wc T d M pc ls (.inl a :: .inr x :: st) τ Q := wc_arrI hd rfl (fun _ _ _ => rfl) hk ht (of_decide_eq_true hn) h0 i hi K
theorem wc_ialoadC {g : Nat → Int} (hd : decode (rC M) pc = .ok (.iaload, 1)) (hk : kd T τ x = some (ckIc t n g)) (ht : (t == 0 || t == 3) = true) (hn : decide (n ≤ 100000) = true) (h0 : 0 ≤ a ∧ a < (n : Int)) (i : Nat) (hi : a.toNat = i) (K : Wc T d M (pc + 1) ls (.inl (g i) :: st) τ Q) : Wc T d M pc ls (.inl a :: .inr x :: st) τ Q := fun E h R => by
  subst hi
  obtain ⟨a1, ha, hc⟩ := R.cell hk
  have hn := of_decide_eq_true hn
  refine wp_next hd rfl (st' := cs E.rf (.inl (g a.toNat) :: st)) ?_ (K E h R)
  show xArrI _ pc _ (.inl (cI a) :: .inr (E.rf x) :: _) _ = _
  unfold xArrI
  rw [ha]
  dsimp only
  rw [hc]
  dsimp only [cel]
  rw [if_pos ht, if_neg (cI_in h0.1 h0.2 hn), cI_idx h0.1 (by omega)]
  rfl
theorem wc_aaload (hd : decode (rC M) pc = .ok (.aaload, 1)) (hk : kd T τ x = some (ckR t n)) (ht : decide (t < 4) = true) (hn : decide (n ≤ 100000) = true) (h0 : 0 ≤ a ∧ a < (n : Int)) (hy : (sg τ x a.toNat).toNat = y) (K : Wc T d M (pc + 1) ls (.inr y :: st) τ Q) : Wc T d M pc ls (.inl a :: .inr x :: st) τ Q := fun E h R => by
  subst hy
  obtain ⟨a1, ha, hc⟩ := R.cell hk
  have hn := of_decide_eq_true hn
  refine wp_next hd rfl (st' := cs E.rf (.inr (sg τ x a.toNat).toNat :: st)) ?_ (K E h R)
  show xArrQ pc _ (.inl (cI a) :: .inr (E.rf x) :: _) _ = _
  unfold xArrQ
  rw [ha]
  dsimp only
  rw [hc]
  dsimp only [cel]
  rw [if_pos (of_decide_eq_true ht), if_neg (cI_in h0.1 h0.2 hn), cI_idx h0.1 (by omega)]
  rfl
theorem wc_aaloadC {g : Nat → Nat} (hd : decode (rC M) pc = .ok (.aaload, 1)) (hk : kd T τ x = some (ckRc t n g)) (ht : decide (t < 4) = true) (hn : decide (n ≤ 100000) = true) (h0 : 0 ≤ a ∧ a < (n : Int)) (hy : g a.toNat = y) (K : Wc T d M (pc + 1) ls (.inr y :: st) τ Q) : Wc T d M pc ls (.inl a :: .inr x :: st) τ Q := fun E h R => by
  subst hy
  obtain ⟨a1, ha, hc⟩ := R.cell hk
  have hn := of_decide_eq_true hn
  refine wp_next hd rfl (st' := cs E.rf (.inr (g a.toNat) :: st)) ?_ (K E h R)
  show xArrQ pc _ (.inl (cI a) :: .inr (E.rf x) :: _) _ = _
  unfold xArrQ
  rw [ha]
  dsimp only
  rw [hc]
  dsimp only [cel]
  rw [if_pos (of_decide_eq_true ht), if_neg (cI_in h0.1 h0.2 hn), cI_idx h0.1 (by omega)]
  rfl
theorem upd_cI {f : Nat → Int} {i : Nat} : upd (fun j => cI (f j)) i (cI e) = fun j => cI (if j = i then e else f j) := by
  funext j
  unfold upd
  by_cases hj : j = i
  · simp [hj]
  · simp [hj]
theorem wc_iastore (hd : decode (rC M) pc = .ok (.iastore, 1)) (hk : kd T τ x = some (ckI 0 n)) (hw : wrC τ x) (hn : decide (n ≤ 100000) = true) (h0 : 0 ≤ a ∧ a < (n : Int)) (i : Nat) (hi : a.toNat = i) (K : Wc T d M (pc + 1) ls st (stC τ x i e) Q) : Wc T d M pc ls (.inl e :: .inl a :: .inr x :: st) τ Q := fun E h R => by
  subst hi
  obtain ⟨a1, ha, hB, hc⟩ := R.wr hk hw
  have hn := of_decide_eq_true hn
  refine wp_next hd rfl ?_ (K E _ (R.st (i := a.toNat) (y := e) hk hw ha rfl))
  show xIastore E.B pc _ (.inl (cI e) :: .inl (cI a) :: .inr (E.rf x) :: _) _ = _
  unfold xIastore
  rw [ha]
  dsimp only
  rw [if_pos hB, hc]
  dsimp only [cel]
  show (if mOut (cI a) n then none else mNx (pc + 1) (cl E.rf ls) (cs E.rf st) (hS h a1 (.inl (0, n, upd (fun i => cI (sg τ x i)) (cI a).toNatClampNeg (cI e))))) = _
  rw [if_neg (cI_in h0.1 h0.2 hn), cI_idx h0.1 (by omega), upd_cI]
  rfl
theorem nar_boolI (he : e = 0 ∨ e = 1) : vp_nar .boolean (cI e) = cI e := by
  rcases he with rfl | rfl <;> decide
theorem wc_bastore1 (hd : decode (rC M) pc = .ok (.bastore, 1)) (hk : kd T τ x = some (ckI 1 n)) (hw : wrC τ x) (hn : decide (n ≤ 100000) = true) (h0 : 0 ≤ a ∧ a < (n : Int)) (he : e = 0 ∨ e = 1) (i : Nat) (hi : a.toNat = i) (K : Wc T d M (pc + 1) ls st (stC τ x i e) Q) : Wc T d M pc ls (.inl e :: .inl a :: .inr x :: st) τ Q := fun E h R => by
  subst hi
  obtain ⟨a1, ha, hB, hc⟩ := R.wr hk hw
  have hn := of_decide_eq_true hn
  refine wp_next hd rfl ?_ (K E _ (R.st (i := a.toNat) (y := e) hk hw ha rfl))
  show xBastore E.B pc _ (.inl (cI e) :: .inl (cI a) :: .inr (E.rf x) :: _) _ = _
  unfold xBastore
  rw [ha]
  dsimp only
  rw [if_pos hB, hc]
  dsimp only [cel]
  show (if mOut (cI a) n then none else mNx (pc + 1) (cl E.rf ls) (cs E.rf st) (hS h a1 (.inl (1, n, upd (fun i => cI (sg τ x i)) (cI a).toNatClampNeg (vp_nar .boolean (cI e)))))) = _
  rw [if_neg (cI_in h0.1 h0.2 hn), cI_idx h0.1 (by omega), nar_boolI he, upd_cI]
  rfl
theorem wc_bastore2 (hd : decode (rC M) pc = .ok (.bastore, 1)) (hk : kd T τ x = some (ckI 2 n)) (hw : wrC τ x) (hn : decide (n ≤ 100000) = true) (h0 : 0 ≤ a ∧ a < (n : Int)) (he : vp_nar .byte (cI e) = cI e) (i : Nat) (hi : a.toNat = i) (K : Wc T d M (pc + 1) ls st (stC τ x i e) Q) : Wc T d M pc ls (.inl e :: .inl a :: .inr x :: st) τ Q := fun E h R => by
  subst hi
  obtain ⟨a1, ha, hB, hc⟩ := R.wr hk hw
  have hn := of_decide_eq_true hn
  refine wp_next hd rfl ?_ (K E _ (R.st (i := a.toNat) (y := e) hk hw ha rfl))
  show xBastore E.B pc _ (.inl (cI e) :: .inl (cI a) :: .inr (E.rf x) :: _) _ = _
  unfold xBastore
  rw [ha]
  dsimp only
  rw [if_pos hB, hc]
  dsimp only [cel]
  show (if mOut (cI a) n then none else mNx (pc + 1) (cl E.rf ls) (cs E.rf st) (hS h a1 (.inl (2, n, upd (fun i => cI (sg τ x i)) (cI a).toNatClampNeg (vp_nar .byte (cI e)))))) = _
  rw [if_neg (cI_in h0.1 h0.2 hn), cI_idx h0.1 (by omega), he, upd_cI]
  rfl
theorem va_up_rf {rf : Nat → Option Nat} {f : Nat → Int} {i : Nat} : va_up (fun j => rf (f j).toNat) i (rf y) = fun j => rf (if j = i then (y : Int) else f j).toNat := by
  funext j
  unfold va_up
  by_cases hj : j = i
  · simp [hj]
  · simp [hj]
theorem wc_aastore (hd : decode (rC M) pc = .ok (.aastore, 1)) (hk : kd T τ x = some (ckR t n)) (ht : decide (t < 3) = true) (hw : wrC τ x) (hn : decide (n ≤ 100000) = true) (h0 : 0 ≤ a ∧ a < (n : Int)) (hy : y = 0 ∨ ∃ ci fs, kd T τ y = some (ckO ci fs) ∧ mFit t ci = true) (i : Nat) (hi : a.toNat = i) (K : Wc T d M (pc + 1) ls st (stC τ x i (y : Int)) Q) : Wc T d M pc ls (.inr y :: .inl a :: .inr x :: st) τ Q := fun E h R => by
  subst hi
  obtain ⟨a1, ha, hB, hc⟩ := R.wr hk hw
  have hn := of_decide_eq_true hn
  have ht := of_decide_eq_true ht
  refine wp_next hd rfl ?_ (K E _ (R.st (i := a.toNat) (y := (y : Int)) hk hw ha rfl))
  show xAastore E.B pc _ (.inr (E.rf y) :: .inl (cI a) :: .inr (E.rf x) :: _) _ = _
  unfold xAastore
  rw [ha]
  dsimp only
  rw [if_pos hB, hc]
  dsimp only [cel]
  rw [if_neg (cI_in h0.1 h0.2 hn), if_neg (by omega), cI_idx h0.1 (by omega), ← va_up_rf]
  rcases hy with rfl | ⟨ci, fs, h1, h2⟩
  · rw [R.null]
    rfl
  · obtain ⟨b1, hb, hcb⟩ := R.cell h1
    rw [hb]
    dsimp only
    rw [hcb]
    dsimp only [cel]
    rw [if_pos h2]
    rfl
theorem wc_alenI {g : Option (Nat → Int)} (hd : decode (rC M) pc = .ok (.arraylength, 1)) (hk : kd T τ x = some (.inl (t, n, g))) (K : Wc T d M (pc + 1) ls (.inl (n : Int) :: st) τ Q) : Wc T d M pc ls (.inr x :: st) τ Q := fun E h R => by
  obtain ⟨a1, ha, hc⟩ := R.cell hk
  refine wp_next hd rfl ?_ (K E h R)
  show xAlen pc _ (.inr (E.rf x) :: _) _ = _
  unfold xAlen
  rw [ha]
  dsimp only
  rw [hc]
  rcases g with _ | g <;> rfl
theorem wc_alenR {g : Option (Nat → Nat)} (hd : decode (rC M) pc = .ok (.arraylength, 1)) (hk : kd T τ x = some (.inr (.inl (t, n, g)))) (K : Wc T d M (pc + 1) ls (.inl (n : Int) :: st) τ Q) : Wc T d M pc ls (.inr x :: st) τ Q := fun E h R => by
  obtain ⟨a1, ha, hc⟩ := R.cell hk
  refine wp_next hd rfl ?_ (K E h R)
  show xAlen pc _ (.inr (E.rf x) :: _) _ = _
  unfold xAlen
  rw [ha]
  dsimp only
  rw [hc]
  rcases g with _ | g <;> rfl
/-! new cells -/
def fkOf : MV → FK
  | .inl _ => none
  | .inr _ => some none
def zeroF (fs : List MV) : Bool := fs.all fun v => match v with
  | .inl x => decide (x = 0)
  | .inr a => a.isNone
theorem fvC_zero {rf : Nat → Option Nat} (h0 : rf 0 = none) : ∀ (fs : List MV) (j : Nat), zeroF fs = true → fvC rf (fun _ => 0) (fs.map fkOf) j = fs := by
  intro fs
  induction fs with
  | nil => intro j _; rfl
  | cons v r ih =>
    intro j hz
    unfold zeroF at hz
    rw [List.all_cons, Bool.and_eq_true] at hz
    have hr := ih (j + 1) hz.2
    rcases v with x | a
    · have hx : x = 0 := of_decide_eq_true hz.1
      subst hx
      show (.inl (cI 0) : MV) :: fvC rf (fun _ => 0) (r.map fkOf) (j + 1) = _
      rw [hr]
      rfl
    · have ha : a = none := by
        rcases a with _ | a
        · rfl
        · exact absurd hz.1 (fun h => nomatch h)
      subst ha
      show (.inr (rf 0) : MV) :: fvC rf (fun _ => 0) (r.map fkOf) (j + 1) = _
      rw [hr, h0]
theorem wc_new {i ci : Nat} {fs : List MV} (hd : decode (rC M) pc = .ok (.new i, 3)) (hq : mLk tN M i = some (ci, fs)) (hz : zeroF fs = true) (K : Wc T d M (pc + 3) ls (.inr (nvC τ) :: st) (newC τ (ckO ci (fs.map fkOf)) fs.length (fun _ => 0)) Q) : Wc T d M pc ls st τ Q := fun E h R => by
  have K := K E _ (R.new (k := ckO ci (fs.map fkOf)) (s := fs.length) (f := fun _ => 0) rfl)
  refine wp_next hd rfl ?_ K
  show xNew (mLk tN M i) pc _ _ _ = _
  unfold xNew
  rw [hq]
  dsimp only [cel]
  rw [fvC_zero R.null fs 0 hz]
  show mNx _ _ _ _ = mNx _ _ (.inr (E.rf (nvC τ)) :: _) _
  rw [R.nx]
  rfl
theorem cI_nlt (h0 : 0 ≤ a) (h1 : a < 2147483648) : ¬ cI a < 0 := fun h => by
  have h2 : cI a < cI 0 := h
  rw [cI_lt ⟨by omega, by omega⟩ ⟨by omega, by omega⟩] at h2
  omega
theorem wc_newI {ty : ArrayType} (t : Nat) (hty : (ty = .int ∧ t = 0) ∨ (ty = .boolean ∧ t = 1) ∨ (ty = .byte ∧ t = 2)) (hd : decode (rC M) pc = .ok (.newarray ty, 2)) (h0 : 0 ≤ a ∧ a ≤ 100000) (n : Nat) (hn : a.toNat = n) (K : Wc T d M (pc + 2) ls (.inr (nvC τ) :: st) (newC τ (ckI t n) n (fun _ => 0)) Q) : Wc T d M pc ls (.inl a :: st) τ Q := fun E h R => by
  subst hn
  have K := K E _ (R.new (k := ckI t a.toNat) (s := a.toNat) (f := fun _ => 0) rfl)
  refine wp_next hd rfl ?_ K
  show xNewa ty pc _ (.inl (cI a) :: _) _ = _
  rcases hty with ⟨rfl, rfl⟩ | ⟨rfl, rfl⟩ | ⟨rfl, rfl⟩
  all_goals
    unfold xNewa
    dsimp only [cel]
    rw [if_neg (cI_nlt h0.1 (by omega)), cI_idx h0.1 (by omega), if_pos (by omega)]
    show mNx _ _ _ _ = mNx _ _ (.inr (E.rf (nvC τ)) :: _) _
    rw [R.nx]
    rfl
theorem wc_newR {i : Nat} (hd : decode (rC M) pc = .ok (.anewarray i, 3)) (hq : mLk tA M i = some t) (h0 : 0 ≤ a ∧ a ≤ 100000) (n : Nat) (hn : a.toNat = n) (K : Wc T d M (pc + 3) ls (.inr (nvC τ) :: st) (newC τ (ckR t n) n (fun _ => 0)) Q) : Wc T d M pc ls (.inl a :: st) τ Q := fun E h R => by
  subst hn
  have K := K E _ (R.new (k := ckR t a.toNat) (s := a.toNat) (f := fun _ => 0) rfl)
  refine wp_next hd rfl ?_ K
  show xAnewa (mLk tA M i) pc _ (.inl (cI a) :: _) _ = _
  rw [hq]
  unfold xAnewa
  dsimp only [cel]
  rw [if_neg (cI_nlt h0.1 (by omega)), cI_idx h0.1 (by omega), if_pos (by omega), show E.rf (Int.toNat 0) = none from R.null]
  show mNx _ _ _ _ = mNx _ _ (.inr (E.rf (nvC τ)) :: _) _
  rw [R.nx]
theorem wc_cast {i ci : Nat} (hd : decode (rC M) pc = .ok (.checkcast i, 3)) (hq : mLk tX M i = some ci) (hy : y = 0 ∨ ∃ fs, kd T τ y = some (ckO ci fs)) (K : Wc T d M (pc + 3) ls (.inr y :: st) τ Q) : Wc T d M pc ls (.inr y :: st) τ Q := fun E h R => by
  refine wp_next hd rfl ?_ (K E h R)
  show xCast (mLk tX M i) pc _ (.inr (E.rf y) :: _) _ = mNx _ _ (.inr (E.rf y) :: _) _
  rw [hq]
  rcases hy with rfl | ⟨fs, hf⟩
  · rw [R.null]; rfl
  · obtain ⟨a1, ha, hc⟩ := R.cell hf
    rw [ha]
    unfold xCast
    dsimp only
    rw [hc]
    dsimp only [cel]
    rw [if_pos rfl]
theorem wc_getstatic {i j : Nat} (hd : decode (rC M) pc = .ok (.getstatic i, 3)) (hq : mLk tS M i = some j) (hj : (decide (j < 5) || j == 100) = true) (K : Wc T d M (pc + 3) ls (.inr (stN j) :: st) τ Q) : Wc T d M pc ls st τ Q := fun E h R => by
  refine wp_next hd rfl ?_ (K E h R)
  show xStat M E.sv i pc _ _ _ = mNx _ _ (.inr (E.rf (stN j)) :: _) _
  unfold xStat
  rw [hq, ← R.stat (i := j) (by simpa using hj)]
  rfl
theorem wc_ldcM {i : Nat} (hd : decode (rC M) pc = .ok (.ldc i, 2)) (hq : mLk tK M i = none) (hp : rP M = 25 ∧ i = 110) (K : Wc T d M (pc + 2) ls (.inr 4 :: st) τ Q) : Wc T d M pc ls st τ Q := fun E h R => by
  refine wp_next hd rfl ?_ (K E h R)
  show xConst M E.sv i pc _ _ _ = mNx _ _ (.inr (E.rf 4) :: _) _
  unfold xConst
  rw [hq]
  dsimp only
  rw [if_pos hp, R.stat (i := 100) (Or.inr rfl)]
  rfl
end WCA
