/-! NAMES EXCHANGED -/
set_option maxRecDepth 100000
theorem perm_ex : ∀ (n : Nat) (a b : Nat → Nat), (∀ i j, i < n → j < n → a i = a j → i = j) → (∀ i j, i < n → j < n → b i = b j → i = j) → ∃ ρ ι : Nat → Nat, (∀ v, ρ (ι v) = v) ∧ (∀ v, ι (ρ v) = v) ∧ (∀ i, i < n → ρ (a i) = b i) ∧ ∀ v, (∀ i, i < n → v ≠ a i ∧ v ≠ b i) → ρ v = v := by
  intro n
  induction n with
  | zero => intro a b _ _; exact ⟨id, id, fun _ => rfl, fun _ => rfl, fun i hi => absurd hi (by omega), fun _ _ => rfl⟩
  | succ n ih =>
    intro a b ha hb
    obtain ⟨ρ, ι, h1, h2, h3, h4⟩ := ih a b (fun i j hi hj => ha i j (by omega) (by omega)) (fun i j hi hj => hb i j (by omega) (by omega))
    have hsw : ∀ c d v : Nat, (fun v => if v = c then d else if v = d then c else v) ((fun v => if v = c then d else if v = d then c else v) v) = v := fun c d v => by
      dsimp only
      by_cases e1 : v = c
      · rw [if_pos e1]
        by_cases e2 : d = c
        · rw [if_pos e2]; omega
        · rw [if_neg e2, if_pos rfl]; omega
      · rw [if_neg e1]
        by_cases e2 : v = d
        · rw [if_pos e2, if_pos rfl]; omega
        · rw [if_neg e2, if_neg e1, if_neg e2]
    refine ⟨fun v => ρ ((fun v => if v = a n then ι (b n) else if v = ι (b n) then a n else v) v), fun v => (fun v => if v = a n then ι (b n) else if v = ι (b n) then a n else v) (ι v), fun v => ?_, fun v => ?_, fun i hi => ?_, fun v hv => ?_⟩
    · show ρ ((fun v => if v = a n then ι (b n) else if v = ι (b n) then a n else v) ((fun v => if v = a n then ι (b n) else if v = ι (b n) then a n else v) (ι v))) = v
      rw [hsw, h1]
    · show (fun v => if v = a n then ι (b n) else if v = ι (b n) then a n else v) (ι (ρ ((fun v => if v = a n then ι (b n) else if v = ι (b n) then a n else v) v))) = v
      rw [h2, hsw]
    · dsimp only
      by_cases e : i = n
      · rw [e, if_pos rfl, h1]
      · have hi2 : i < n := by omega
        have n1 : a i ≠ a n := fun q => e (ha i n (by omega) (by omega) q)
        have n2 : a i ≠ ι (b n) := fun q => by
          have : ρ (a i) = b n := by rw [q, h1]
          rw [h3 i hi2] at this
          exact e (hb i n (by omega) (by omega) this)
        rw [if_neg n1, if_neg n2, h3 i hi2]
    · dsimp only
      have hvn := hv n (by omega)
      have hr : ρ v = v := h4 v (fun i hi => hv i (by omega))
      have n2 : v ≠ ι (b n) := fun q => by
        have : ρ v = b n := by rw [q, h1]
        rw [hr] at this
        exact hvn.2 this
      rw [if_neg hvn.1, if_neg n2, hr]
section PERM
variable {T T' : Nat → Option CK} {τ τ' t u : CT} {E : CE} {h : MH} {ρ ι : Nat → Nat}
/-- the heap holds a state with other names -/
theorem Rep.perm (R : Rep T E τ h) (h1 : ∀ v, ρ (ι v) = v) (h2 : ∀ v, ι (ρ v) = v) (hf : ∀ v, nvC τ ≤ v → ρ v = v) (h10 : ∀ v, v < 10 → ρ v = v) (hn : nvC τ' = nvC τ) (h0 : 1000 ≤ n0C τ' ∧ n0C τ' ≤ nvC τ') (hu : uC τ' = uC τ)
    (hk : ∀ v k', kd T' τ' v = some k' → ∃ k, kd T τ (ρ v) = some k ∧ cel (fun v => E.rf (ρ v)) k' (sg τ' v) = cel E.rf k (sg τ (ρ v))) : Rep T' ((E.1.1, E.1.2.1, (fun v => E.rf (ρ v)), E.1.2.2.2), E.2.1, (n0C τ', τ'.2.1, sg τ')) τ' h := by
  obtain ⟨r1, r2, r3, r4, r5, r6, r7, r8, r9⟩ := R
  have hlt : ∀ v, ρ v < nvC τ → v < nvC τ := fun v hv => by
    rcases Nat.lt_or_ge v (nvC τ) with q | q
    · exact q
    · rw [hf v q] at hv; omega
  refine ⟨fun i => ?_, h0, by rw [hu]; exact r3, r4, fun v k hk' => ?_, fun v w a hv hw b1 b2 => ?_, r7, ⟨rfl, fun v _ _ => ⟨rfl, rfl⟩⟩, ?_, fun i hi => ?_⟩
  · show E.rf (ρ (nvC τ' + i)) = _
    rw [hn, hf _ (by omega)]
    exact r1 i
  · obtain ⟨k0, a1, a2⟩ := hk v k hk'
    obtain ⟨q1, b, q2, q3, q4, q5, q6⟩ := r5 _ k0 a1
    refine ⟨by rw [hn]; exact hlt v q1, b, q2, q3, fun hv => q4 ?_, q5, by rw [q6, ← a2]⟩
    rcases Nat.lt_or_ge (ρ v) 10 with q | q
    · have := h10 _ q
      have e2 := congrArg ι this
      rw [h2, h2] at e2
      omega
    · exact q
  · obtain ⟨q, hq⟩ := Option.isSome_iff_exists.mp hv
    obtain ⟨q', hq'⟩ := Option.isSome_iff_exists.mp hw
    obtain ⟨k1, a1, -⟩ := hk v q hq
    obtain ⟨k2, a2, -⟩ := hk w q' hq'
    have := r6 (ρ v) (ρ w) a (by rw [a1]; rfl) (by rw [a2]; rfl) b1 b2
    have e := congrArg ι this
    rw [h2, h2] at e
    exact e
  · show E.rf (ρ 0) = none
    rw [h10 0 (by decide)]
    exact r9.1
  · show E.sv i = E.rf (ρ (stN i))
    have : stN i < 10 := by
      rcases hi with q | q
      · rcases (show i = 0 ∨ i = 1 ∨ i = 2 ∨ i = 3 ∨ i = 4 by omega) with e | e | e | e | e <;> subst e <;> decide
      · subst q; decide
    rw [h10 _ this]
    exact r9.2 i hi
/-- which slots of a kind are references -/
def rsl (k : CK) (i : Nat) : Bool := match k with
  | .inl _ => false
  | .inr (.inl (_, _, none)) => true
  | .inr (.inl (_, _, some _)) => false
  | .inr (.inr (_, fs)) => fs[i]? == some (some none)
/-- a reference under another name -/
def pmV (ι : Nat → Nat) (z : Int) : Int := if ι z.toNat = z.toNat then z else (ι z.toNat : Int)
theorem pmV_n {z : Int} : (pmV ι z).toNat = ι z.toNat := by
  unfold pmV
  split
  · rename_i q; rw [q]
  · exact Int.toNat_natCast _
theorem pmV_f {z : Int} (h : ι z.toNat = z.toNat) : pmV ι z = z := if_pos h
/-- contents under other names, by the kind -/
def pmS (ι : Nat → Nat) (k : CK) (f : Nat → Int) : Nat → Int := fun i => if rsl k i = true then pmV ι (f i) else f i
theorem pmS_i {k : CK} {f : Nat → Int} {i : Nat} (h : rsl k i = false) : pmS ι k f i = f i := by
  unfold pmS
  rw [if_neg (by rw [h]; decide)]
theorem pmS_r {k : CK} {f : Nat → Int} {i : Nat} (h : rsl k i = true) : pmS ι k f i = pmV ι (f i) := by
  unfold pmS
  rw [if_pos h]
/-- constants of a kind that stay -/
def ckF (ρ : Nat → Nat) : CK → Prop
  | .inl _ => True
  | .inr (.inl (_, _, none)) => True
  | .inr (.inl (_, _, some g)) => ∀ i, ρ (g i) = g i
  | .inr (.inr (_, fs)) => ∀ x, some (some x) ∈ fs → ρ x = x
theorem fvC_ext {rf rf' : Nat → Option Nat} {f f' : Nat → Int} : ∀ (fs : List FK) (j : Nat), (∀ i q, fs[i]? = some q → fv1 rf f (j + i) q = fv1 rf' f' (j + i) q) → fvC rf f fs j = fvC rf' f' fs j := by
  intro fs j h
  apply List.ext_getElem?
  intro i
  rw [fvC_get, fvC_get]
  cases hq : fs[i]? with
  | none => rfl
  | some q => exact congrArg some (h i q hq)
/-- the same kind: the cell is the same -/
theorem cel_pm {rf : Nat → Option Nat} {k : CK} {f : Nat → Int} (h1 : ∀ v, ρ (ι v) = v) (hc : ckF ρ k) : cel (fun v => rf (ρ v)) k (pmS ι k f) = cel rf k f := by
  rcases k with ⟨t, n, g⟩ | ⟨t, n, g⟩ | ⟨ci, fs⟩
  · cases g with
    | none =>
      show (.inl (t, n, fun i => cI (pmS ι (.inl (t, n, none)) f i)) : MC) = .inl (t, n, fun i => cI (f i))
      congr 3
    | some g => rfl
  · cases g with
    | none =>
      show (.inr (.inl (t, n, fun i => rf (ρ (pmS ι (.inr (.inl (t, n, none))) f i).toNat))) : MC) = .inr (.inl (t, n, fun i => rf (f i).toNat))
      have e : (fun i => rf (ρ (pmS ι (.inr (.inl (t, n, none))) f i).toNat)) = fun i => rf (f i).toNat := funext fun i => by
        rw [pmS_r rfl, pmV_n, h1]
      rw [e]
    | some g =>
      show (.inr (.inl (t, n, fun i => rf (ρ (g i)))) : MC) = .inr (.inl (t, n, fun i => rf (g i)))
      have e : (fun i => rf (ρ (g i))) = fun i => rf (g i) := funext fun i => by rw [hc i]
      rw [e]
  · show (.inr (.inr (ci, fvC (fun v => rf (ρ v)) (pmS ι (.inr (.inr (ci, fs))) f) fs 0)) : MC) = .inr (.inr (ci, fvC rf f fs 0))
    have e : fvC (fun v => rf (ρ v)) (pmS ι (.inr (.inr (ci, fs))) f) fs 0 = fvC rf f fs 0 := fvC_ext fs 0 (fun i q hq => by
      rw [Nat.zero_add]
      rcases q with _ | (_ | x)
      · show (.inl (cI (pmS ι (.inr (.inr (ci, fs))) f i)) : MV) = .inl (cI (f i))
        rw [pmS_i (by show (fs[i]? == some (some none)) = false; rw [hq]; rfl)]
      · show (.inr (rf (ρ (pmS ι (.inr (.inr (ci, fs))) f i).toNat)) : MV) = .inr (rf (f i).toNat)
        rw [pmS_r (by show (fs[i]? == some (some none)) = true; rw [hq]; rfl), pmV_n, h1]
      · show (.inr (rf (ρ x)) : MV) = .inr (rf x)
        rw [hc x (List.mem_of_getElem? hq)])
    rw [e]
end PERM
