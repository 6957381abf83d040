/-! THE CLASS'S JUDGEMENT, 1: virtual cells with names and integers, and the real heaps that hold them -/
set_option maxRecDepth 100000
/-- a field: none: an int; some none: a reference; some (some x): the reference x for ever -/
abbrev FK : Type := Option (Option Nat)
/-- a cell's kind: ints (tag, length, perhaps what they are for ever), references (alike), an object (class, fields) -/
abbrev CK : Type := (Nat × Nat × Option (Nat → Int)) ⊕ ((Nat × Nat × Option (Nat → Nat)) ⊕ (Nat × List FK))
abbrev ckI (t n : Nat) : CK := .inl (t, n, none)
abbrev ckIc (t n : Nat) (g : Nat → Int) : CK := .inl (t, n, some g)
abbrev ckR (t n : Nat) : CK := .inr (.inl (t, n, none))
abbrev ckRc (t n : Nat) (g : Nat → Nat) : CK := .inr (.inl (t, n, some g))
abbrev ckO (ci : Nat) (fs : List FK) : CK := .inr (.inr (ci, fs))
/-- the state: from which name on cells may be written, the next name, a bound for the slots; kinds of the names from 110 on; contents (references as names, 0: null) -/
abbrev CT : Type := (Nat × Nat × Nat) × (Nat → Option CK) × (Nat → Nat → Int)
abbrev n0C (τ : CT) : Nat := τ.1.1
abbrev nvC (τ : CT) : Nat := τ.1.2.1
abbrev uC (τ : CT) : Nat := τ.1.2.2
abbrev sg (τ : CT) : Nat → Nat → Int := τ.2.2
def kd (T : Nat → Option CK) (τ : CT) (v : Nat) : Option CK := if v < 110 then T v else τ.2.1 v
def fvC (rf : Nat → Option Nat) (f : Nat → Int) : List FK → Nat → List MV
  | [], _ => []
  | none :: r, j => .inl (cI (f j)) :: fvC rf f r (j + 1)
  | some none :: r, j => .inr (rf (f j).toNat) :: fvC rf f r (j + 1)
  | some (some x) :: r, j => .inr (rf x) :: fvC rf f r (j + 1)
def fv1 (rf : Nat → Option Nat) (f : Nat → Int) (j : Nat) : FK → MV
  | none => .inl (cI (f j))
  | some none => .inr (rf (f j).toNat)
  | some (some x) => .inr (rf x)
theorem fvC_get (rf : Nat → Option Nat) (f : Nat → Int) : ∀ (fs : List FK) (j i : Nat), (fvC rf f fs j)[i]? = (fs[i]?).map (fv1 rf f (j + i)) := by
  intro fs
  induction fs with
  | nil => intro j i; simp [fvC]
  | cons q r ih =>
    intro j i
    rcases q with _ | (_ | x) <;> cases i with
    | zero => simp [fvC, fv1]
    | succ i => simp [fvC, ih, show j + 1 + i = j + (i + 1) by omega]
theorem fvC_len (rf : Nat → Option Nat) (f : Nat → Int) : ∀ (fs : List FK) (j : Nat), (fvC rf f fs j).length = fs.length := by
  intro fs
  induction fs with
  | nil => intro j; rfl
  | cons q r ih =>
    intro j
    rcases q with _ | (_ | x) <;> simp [fvC, ih]
theorem fvC_set {rf : Nat → Option Nat} {f : Nat → Int} {fs : List FK} {i : Nat} {x : Int} {q : FK} (h : fs[i]? = some q) : (fvC rf f fs 0).set i (fv1 rf (fun k => if k = i then x else f k) i q) = fvC rf (fun k => if k = i then x else f k) fs 0 := by
  have hl : i < fs.length := (List.getElem?_eq_some_iff.mp h).1
  apply List.ext_getElem?
  intro j
  rw [List.getElem?_set, fvC_len, fvC_get, fvC_get, Nat.zero_add]
  by_cases e : i = j
  · subst e
    rw [if_pos rfl, if_pos hl, h]
    rfl
  · rw [if_neg e]
    refine congrArg (fun g => Option.map g (fs[j]?)) (funext fun q => ?_)
    rcases q with _ | (_ | x) <;> simp [fv1, Ne.symm e]
def cel (rf : Nat → Option Nat) (k : CK) (f : Nat → Int) : MC := match k with
  | .inl (t, n, none) => .inl (t, n, fun i => cI (f i))
  | .inl (t, n, some g) => .inl (t, n, fun i => cI (g i))
  | .inr (.inl (t, n, none)) => .inr (.inl (t, n, fun i => rf (f i).toNat))
  | .inr (.inl (t, n, some g)) => .inr (.inl (t, n, fun i => rf (g i)))
  | .inr (.inr (ci, fs)) => .inr (.inr (ci, fvC rf f fs 0))
/-- where the cells stand: what may be written, statics, the names' addresses, slots at the start; a frame and what it holds; from which name on cells may be written, kinds and contents of the names from 1000 to there -/
abbrev CE : Type := (Nat × (Nat → Option Nat) × (Nat → Option Nat) × Nat) × ((Nat → Prop) × (Nat → Option MC)) × (Nat × (Nat → Option CK) × (Nat → Nat → Int))
abbrev CE.B (E : CE) : Nat := E.1.1
abbrev CE.sv (E : CE) : Nat → Option Nat := E.1.2.1
abbrev CE.rf (E : CE) : Nat → Option Nat := E.1.2.2.1
abbrev CE.S (E : CE) : Nat := E.1.2.2.2
abbrev CE.F (E : CE) : Nat → Prop := E.2.1.1
abbrev CE.H (E : CE) : Nat → Option MC := E.2.1.2
abbrev CE.N0 (E : CE) : Nat := E.2.2.1
abbrev CE.D0 (E : CE) : Nat → Option CK := E.2.2.2.1
abbrev CE.s0 (E : CE) : Nat → Nat → Int := E.2.2.2.2
/-- names of the statics' values -/
def stN : Nat → Nat
  | 0 => 1
  | 1 => 2
  | 2 => 3
  | 3 => 5
  | 4 => 6
  | _ => 4
/-- a cell stands -/
def RepC (T : Nat → Option CK) (E : CE) (τ : CT) (h : MH) : Prop := ∀ v k, kd T τ v = some k → v < nvC τ ∧ ∃ a, E.rf v = some a ∧ a < h.1 ∧ (10 ≤ v → E.B ≤ a) ∧ ¬ E.F a ∧ h.2.2 a = some (cel E.rf k (sg τ v))
def RepJ (T : Nat → Option CK) (E : CE) (τ : CT) : Prop := ∀ v w a, (kd T τ v).isSome = true → (kd T τ w).isSome = true → E.rf v = some a → E.rf w = some a → v = w
def RepF (E : CE) (h : MH) : Prop := ∀ a, E.F a → a < h.1 ∧ h.2.2 a = E.H a
def RepZ (E : CE) (τ : CT) : Prop := n0C τ = E.N0 ∧ ∀ v, 1000 ≤ v → v < n0C τ → τ.2.1 v = E.D0 v ∧ sg τ v = E.s0 v
def RepS (E : CE) : Prop := E.rf 0 = none ∧ ∀ i, (i < 5 ∨ i = 100) → E.sv i = E.rf (stN i)
/-- the heap holds the state -/
def Rep (T : Nat → Option CK) (E : CE) (τ : CT) (h : MH) : Prop := (∀ i, E.rf (nvC τ + i) = some (h.1 + i)) ∧ (1000 ≤ n0C τ ∧ n0C τ ≤ nvC τ) ∧ h.2.1 ≤ E.S + uC τ ∧ E.B ≤ h.1 ∧ RepC T E τ h ∧ RepJ T E τ ∧ RepF E h ∧ RepZ E τ ∧ RepS E
section REP
variable {T : Nat → Option CK} {E : CE} {τ τ' : CT} {h : MH} {x : Nat} {k : CK}
theorem Rep.fr (R : Rep T E τ h) (i : Nat) : E.rf (nvC τ + i) = some (h.1 + i) := R.1 i
theorem Rep.nx (R : Rep T E τ h) : E.rf (nvC τ) = some h.1 := R.1 0
theorem Rep.cell (R : Rep T E τ h) (hk : kd T τ x = some k) : ∃ a, E.rf x = some a ∧ hG h a = some (cel E.rf k (sg τ x)) := by
  obtain ⟨-, a, h1, -, -, -, h2⟩ := R.2.2.2.2.1 x k hk
  exact ⟨a, h1, h2⟩
theorem Rep.null (R : Rep T E τ h) : E.rf 0 = none := R.2.2.2.2.2.2.2.2.1
theorem Rep.stat (R : Rep T E τ h) {i : Nat} (hi : i < 5 ∨ i = 100) : E.sv i = E.rf (stN i) := R.2.2.2.2.2.2.2.2.2 i hi
/-- names that may be written -/
abbrev wrC (τ : CT) (x : Nat) : Prop := 10 ≤ x ∧ (x < 1000 ∨ n0C τ ≤ x)
theorem Rep.wr (R : Rep T E τ h) (hk : kd T τ x = some k) (hw : wrC τ x) : ∃ a, E.rf x = some a ∧ E.B ≤ a ∧ hG h a = some (cel E.rf k (sg τ x)) := by
  obtain ⟨-, a, h1, -, h3, -, h2⟩ := R.2.2.2.2.1 x k hk
  exact ⟨a, h1, h3 hw.1, h2⟩
theorem Rep.set {a : Nat} {c : MC} (R : Rep T E τ h) (hk : kd T τ x = some k) (hw : wrC τ x) (ha : E.rf x = some a) (h1 : τ'.1 = τ.1) (h2 : τ'.2.1 = τ.2.1) (h3 : ∀ w, w ≠ x → sg τ' w = sg τ w) (hc : c = cel E.rf k (sg τ' x)) : Rep T E τ' (hS h a c) := by
  obtain ⟨r1, r2, r3, r4, r5, r6, r7, r8, r9⟩ := R
  have hkd : ∀ v, kd T τ' v = kd T τ v := fun v => by unfold kd; rw [h2]
  have e0 : n0C τ' = n0C τ := by unfold n0C; rw [h1]
  have ev : nvC τ' = nvC τ := by unfold nvC; rw [h1]
  have eu : uC τ' = uC τ := by unfold uC; rw [h1]
  refine ⟨fun i => by rw [ev]; exact r1 i, by rw [e0, ev]; exact r2, by rw [eu]; exact r3, r4, fun v q hv => ?_, fun v w b hv hw2 => ?_, fun b hb => ⟨(r7 b hb).1, ?_⟩, ⟨by rw [e0]; exact r8.1, fun v v1 v2 => ?_⟩, r9⟩
  · rw [hkd] at hv
    obtain ⟨q1, b, q2, q3, q4, q5, q6⟩ := r5 v q hv
    refine ⟨by rw [ev]; exact q1, b, q2, q3, q4, q5, ?_⟩
    show (if b = a then some c else h.2.2 b) = _
    by_cases e : b = a
    · subst e
      have hvx : v = x := r6 v x b (by rw [hv]; rfl) (by rw [hk]; rfl) q2 ha
      subst hvx
      rw [hk] at hv
      cases hv
      rw [if_pos rfl, hc]
    · rw [if_neg e, q6, h3 v (fun q => by subst q; rw [ha] at q2; cases q2; exact e rfl)]
  · rw [hkd] at hv hw2
    exact r6 v w b hv hw2
  · show (if b = a then some c else h.2.2 b) = _
    obtain ⟨-, a2, b1, -, -, b2, -⟩ := r5 x k hk
    rw [ha] at b1; cases b1
    rw [if_neg (fun q : b = a => b2 (q ▸ hb))]
    exact (r7 b hb).2
  · rw [h2, h3 v (fun q => by subst q; rw [e0] at v2; omega)]
    rw [e0] at v2
    exact r8.2 v v1 v2
end REP
def stC (τ : CT) (v k : Nat) (x : Int) : CT := (τ.1, τ.2.1, fun a i => if a = v ∧ i = k then x else τ.2.2 a i)
/-- a new cell of s slots -/
def newC (τ : CT) (k : CK) (s : Nat) (f : Nat → Int) : CT := ((τ.1.1, τ.1.2.1 + 1, τ.1.2.2 + s), fun a => if a = τ.1.2.1 then some k else τ.2.1 a, fun a i => if a = τ.1.2.1 then f i else τ.2.2 a i)
section REP2
variable {T : Nat → Option CK} {E : CE} {τ τ' : CT} {h : MH} {x : Nat} {k : CK}
theorem sg_st {v i j : Nat} {y : Int} : sg (stC τ v i y) v j = if j = i then y else sg τ v j := by
  unfold stC sg
  simp
theorem sg_st' {v i w : Nat} {y : Int} (hw : w ≠ v) : sg (stC τ v i y) w = sg τ w := by
  unfold stC sg
  funext j
  simp [hw]
theorem kd_st {v i : Nat} {y : Int} {w : Nat} : kd T (stC τ v i y) w = kd T τ w := rfl
theorem Rep.st {a i : Nat} {y : Int} {c : MC} (R : Rep T E τ h) (hk : kd T τ x = some k) (hw : wrC τ x) (ha : E.rf x = some a) (hc : c = cel E.rf k (fun j => if j = i then y else sg τ x j)) : Rep T E (stC τ x i y) (hS h a c) :=
  R.set hk hw ha rfl rfl (fun w hw => sg_st' hw) (by rw [hc]; exact congrArg (cel E.rf k) (funext fun j => sg_st.symm))
theorem kd_new {s : Nat} {f : Nat → Int} {w : Nat} (hw : w ≠ nvC τ) : kd T (newC τ k s f) w = kd T τ w := by
  unfold kd newC
  simp only [hw, if_false]
theorem kd_nw {s : Nat} {f : Nat → Int} (hn : 110 ≤ nvC τ) : kd T (newC τ k s f) (nvC τ) = some k := by
  unfold kd newC
  rw [if_neg (by omega)]
  simp
theorem sg_new {s : Nat} {f : Nat → Int} {w : Nat} (hw : w ≠ nvC τ) : sg (newC τ k s f) w = sg τ w := by
  unfold sg newC
  funext j
  simp only [hw, if_false]
theorem sg_nw {s : Nat} {f : Nat → Int} : sg (newC τ k s f) (nvC τ) = f := by
  unfold sg newC
  funext j
  simp only [if_true]
theorem Rep.new {s : Nat} {f : Nat → Int} {c : MC} (R : Rep T E τ h) (hc : c = cel E.rf k f) : Rep T E (newC τ k s f) (hN h s c) := by
  obtain ⟨r1, r2, r3, r4, r5, r6, r7, r8, r9⟩ := R
  have hn : 110 ≤ nvC τ := by omega
  refine ⟨fun i => ?_, ⟨r2.1, show n0C τ ≤ nvC τ + 1 by omega⟩, show h.2.1 + s ≤ E.S + (uC τ + s) by omega, show E.B ≤ h.1 + 1 by omega, fun v q hv => ?_, fun v w b hv hw b1 b2 => ?_, fun b hb => ⟨show b < h.1 + 1 by have := (r7 b hb).1; omega, ?_⟩, ⟨r8.1, fun v v1 v2 => ?_⟩, r9⟩
  · have := r1 (i + 1)
    show E.rf (nvC τ + 1 + i) = some (h.1 + 1 + i)
    rw [show nvC τ + 1 + i = nvC τ + (i + 1) by omega, this]
    exact congrArg some (by omega)
  · by_cases e : v = nvC τ
    · subst e
      rw [kd_nw hn] at hv
      cases hv
      refine ⟨show nvC τ < nvC τ + 1 by omega, h.1, r1 0, show h.1 < h.1 + 1 by omega, fun _ => r4, fun hF => absurd (r7 _ hF).1 (Nat.lt_irrefl _), ?_⟩
      show (if h.1 = h.1 then some c else h.2.2 h.1) = _
      rw [if_pos rfl, sg_nw, hc]
    · rw [kd_new e] at hv
      obtain ⟨q1, b, q2, q3, q4, q5, q6⟩ := r5 v q hv
      refine ⟨show v < nvC τ + 1 by omega, b, q2, show b < h.1 + 1 by omega, q4, q5, ?_⟩
      show (if b = h.1 then some c else h.2.2 b) = _
      rw [if_neg (by omega), q6, sg_new e]
  · have hp : ∀ w, (kd T τ w).isSome = true → E.rf w = some b → b < h.1 := fun w h1 h2 => by
      obtain ⟨q, hq⟩ := Option.isSome_iff_exists.mp h1
      obtain ⟨-, b', e1, e2, -⟩ := r5 w q hq
      rw [h2] at e1; cases e1
      exact e2
    have h0 := r1 0
    by_cases e : v = nvC τ
    · by_cases e2 : w = nvC τ
      · rw [e, e2]
      · rw [kd_new e2] at hw
        have := hp w hw b2
        rw [e] at b1
        rw [Nat.add_zero] at h0
        rw [h0] at b1; cases b1; omega
    · rw [kd_new e] at hv
      by_cases e2 : w = nvC τ
      · have := hp v hv b1
        rw [e2] at b2
        rw [Nat.add_zero] at h0
        rw [h0] at b2; cases b2; omega
      · rw [kd_new e2] at hw
        exact r6 v w b hv hw b1 b2
  · show (if b = h.1 then some c else h.2.2 b) = _
    have := r7 b hb
    rw [if_neg (by omega)]
    exact this.2
  · have hne : v ≠ nvC τ := by
      have : v < n0C τ := v2
      omega
    rw [sg_new hne]
    show (if v = nvC τ then some k else τ.2.1 v) = _ ∧ _
    rw [if_neg hne]
    exact r8.2 v v1 v2
end REP2
/-- frozen names stay -/
def Fz (τ t : CT) : Prop := n0C t = n0C τ ∧ ∀ v, 1000 ≤ v → v < n0C τ → t.2.1 v = τ.2.1 v ∧ sg t v = sg τ v
/-- what a run ends in -/
abbrev CO : Type := Option AV ⊕ Nat
def outC (rf : Nat → Option Nat) (r : Option MV ⊕ Nat) : CO → Prop
  | .inl v => r = .inl (v.map (cv rf))
  | .inr q => ∃ a, rf q = some a ∧ r = .inr a
/-- the judgement -/
def Wc (T : Nat → Option CK) (d : Nat) (M : MRec) (pc : Nat) (ls : AL) (st : List AV) (τ : CT) (Q : CO → CT → Prop) : Prop := ∀ (E : CE) (h : MH), Rep T E τ h → Wp E.B E.sv d M pc (cl E.rf ls) (cs E.rf st) h (fun r h' => ∃ (v : CO) (τ' : CT), outC E.rf r v ∧ Rep T E τ' h' ∧ Q v τ')
/-- no throw -/
abbrev nQ (Q : Option AV → CT → Prop) : CO → CT → Prop := fun r t => match r with
  | .inl v => Q v t
  | .inr _ => False
def CtX (T : Nat → Option CK) (k : Nat) (M : MRec) (as : List AV) (τ : CT) (Q : CO → CT → Prop) : Prop := ∀ d, k ≤ d → Wc T d M 0 (enM M as) [] τ Q
/-- a contract: no throw -/
abbrev Ct (T : Nat → Option CK) (k : Nat) (M : MRec) (as : List AV) (τ : CT) (Q : Option AV → CT → Prop) : Prop := CtX T k M as τ (nQ Q)
abbrev Cf (T : Nat → Option CK) (k : Nat) (M : MRec) (as : List AV) (τ : CT) (v : Option AV) (τ' : CT) : Prop := Ct T k M as τ (fun r t => v = r ∧ τ' = t)
abbrev Cb (T : Nat → Option CK) (k : Nat) (M : MRec) (as : List AV) (τ : CT) (P : Prop) : Prop := Ct T k M as τ (fun v t => τ = t ∧ ((P ∧ some (.inl 1) = v) ∨ (¬ P ∧ some (.inl 0) = v)))
theorem Wc.mono {T : Nat → Option CK} {d : Nat} {M : MRec} {pc : Nat} {ls : AL} {st : List AV} {τ : CT} {Q Q' : CO → CT → Prop} (h : Wc T d M pc ls st τ Q') (w : ∀ v t, Q' v t → Q v t) : Wc T d M pc ls st τ Q := fun E H R => Wp.mono (h E H R) (fun _ _ ⟨v, t, h1, h2, h3⟩ => ⟨v, t, h1, h2, w v t h3⟩)
theorem CtX.mono {T : Nat → Option CK} {k : Nat} {M : MRec} {as : List AV} {τ : CT} {Q Q' : CO → CT → Prop} (h : CtX T k M as τ Q') (w : ∀ v t, Q' v t → Q v t) : CtX T k M as τ Q := fun d hd => (h d hd).mono w
theorem Ct.mono {T : Nat → Option CK} {k : Nat} {M : MRec} {as : List AV} {τ : CT} {Q Q' : Option AV → CT → Prop} (h : Ct T k M as τ Q') (w : ∀ v t, Q' v t → Q v t) : Ct T k M as τ Q := fun d hd => (h d hd).mono (fun v t q => by
  rcases v with v | v
  · exact w v t q
  · exact q)
/-- frozen names stay, for every run -/
theorem Wc.fz {T : Nat → Option CK} {d : Nat} {M : MRec} {pc : Nat} {ls : AL} {st : List AV} {τ : CT} {Q : CO → CT → Prop} (h : Wc T d M pc ls st τ Q) : Wc T d M pc ls st τ (fun v t => Q v t ∧ Fz τ t) := fun E H R => by
  obtain ⟨r1, r2, r3, r4, r5, r6, r7, r8, r9⟩ := R
  refine Wp.mono (h (E.1, E.2.1, (n0C τ, τ.2.1, sg τ)) H ⟨r1, r2, r3, r4, r5, r6, r7, ⟨rfl, fun v _ _ => ⟨rfl, rfl⟩⟩, r9⟩) (fun r h' ⟨v, t, h1, ⟨q1, q2, q3, q4, q5, q6, q7, q8, q9⟩, h3⟩ => ?_)
  have e0 : n0C t = n0C τ := q8.1
  refine ⟨v, t, h1, ⟨q1, q2, q3, q4, q5, q6, q7, ⟨by rw [e0]; exact r8.1, fun v v1 v2 => ?_⟩, q9⟩, h3, e0, fun v v1 v2 => q8.2 v v1 (by rw [e0]; exact v2)⟩
  rw [e0] at v2
  have a1 := r8.2 v v1 v2
  have a2 := q8.2 v v1 (by rw [e0]; exact v2)
  exact ⟨a2.1.trans a1.1, a2.2.trans a1.2⟩
theorem Ct.fz {T : Nat → Option CK} {k : Nat} {M : MRec} {as : List AV} {τ : CT} {Q : Option AV → CT → Prop} (h : Ct T k M as τ Q) : Ct T k M as τ (fun v t => Q v t ∧ Fz τ t) := fun d hd => (h d hd).fz.mono (fun v t q => by
  rcases v with v | v
  · exact q
  · exact q.1.elim)
