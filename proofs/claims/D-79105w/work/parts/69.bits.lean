/-! SETS OF SLOTS AS INTEGERS -/
set_option maxRecDepth 100000
def bitF (A s : Int) : Int := A / 2 ^ s.toNat % 2
def clrF (A s : Int) : Int := if bitF A s = 1 then A - 2 ^ s.toNat else A
def setF (A s : Int) : Int := if bitF A s = 1 then A else A + 2 ^ s.toNat
theorem fb_shr : ∀ s : Fin 10, ∀ A : Fin 1024, (cI (A.val : Int) >>> (cI (s.val : Int) &&& 31)).toInt = (A.val : Int) / 2 ^ s.val := by decide +kernel
theorem fb_and1 : ∀ A : Fin 1024, (cI (A.val : Int) &&& cI 1).toInt = (A.val : Int) % 2 := by decide +kernel
theorem fb_shl : ∀ s : Fin 11, (cI 1 <<< (cI (s.val : Int) &&& 31)).toInt = 2 ^ s.val := by decide +kernel
theorem fb_not : ∀ s : Fin 10, (cI (2 ^ s.val) ^^^ cI (-1)).toInt = -1 - 2 ^ s.val := by decide +kernel
theorem fb_clr : ∀ s : Fin 10, ∀ A : Fin 1024, (cI (A.val : Int) &&& cI (-1 - 2 ^ s.val)).toInt = clrF (A.val : Int) (s.val : Int) := by decide +kernel
theorem fb_or : ∀ s : Fin 10, ∀ A : Fin 1024, (cI (A.val : Int) ||| cI (2 ^ s.val)).toInt = setF (A.val : Int) (s.val : Int) := by decide +kernel
theorem fb_rng : ∀ s : Fin 10, ∀ A : Fin 1024, (0 ≤ clrF (A.val : Int) (s.val : Int) ∧ clrF (A.val : Int) (s.val : Int) ≤ (A.val : Int)) ∧ (0 ≤ setF (A.val : Int) (s.val : Int) ∧ setF (A.val : Int) (s.val : Int) < 1024) ∧ (0 ≤ bitF (A.val : Int) (s.val : Int) ∧ bitF (A.val : Int) (s.val : Int) ≤ 1) ∧ (0 ≤ (A.val : Int) / 2 ^ s.val ∧ (A.val : Int) / 2 ^ s.val < 1024) := by decide +kernel
theorem fb_pow : ∀ s : Fin 11, (1 : Int) ≤ 2 ^ s.val ∧ (2 : Int) ^ s.val ≤ 1024 := by decide +kernel
section BITS
variable {a b s : Int}
theorem b_fin {n : Nat} (ha : 0 ≤ a ∧ a < (n : Int)) : ∃ k : Fin n, a = (k.val : Int) := ⟨⟨a.toNat, by omega⟩, by show a = (a.toNat : Int); omega⟩
theorem b_shr (ha : 0 ≤ a ∧ a < 1024) (hs : 0 ≤ s ∧ s < 10) : (cI a >>> (cI s &&& 31)).toInt = a / 2 ^ s.toNat := by
  obtain ⟨A, rfl⟩ := b_fin (n := 1024) ha
  obtain ⟨S, rfl⟩ := b_fin (n := 10) hs
  exact fb_shr S A
theorem b_and1 (ha : 0 ≤ a ∧ a < 1024) : (cI a &&& cI 1).toInt = a % 2 := by
  obtain ⟨A, rfl⟩ := b_fin (n := 1024) ha
  exact fb_and1 A
theorem b_shl (hs : 0 ≤ s ∧ s < 11) : (cI 1 <<< (cI s &&& 31)).toInt = 2 ^ s.toNat := by
  obtain ⟨S, rfl⟩ := b_fin (n := 11) hs
  exact fb_shl S
theorem b_not (hs : 0 ≤ s ∧ s < 10) : (cI (2 ^ s.toNat) ^^^ cI (-1)).toInt = -1 - 2 ^ s.toNat := by
  obtain ⟨S, rfl⟩ := b_fin (n := 10) hs
  exact fb_not S
theorem b_clr (ha : 0 ≤ a ∧ a < 1024) (hs : 0 ≤ s ∧ s < 10) : (cI a &&& cI (-1 - 2 ^ s.toNat)).toInt = clrF a s := by
  obtain ⟨A, rfl⟩ := b_fin (n := 1024) ha
  obtain ⟨S, rfl⟩ := b_fin (n := 10) hs
  exact fb_clr S A
theorem b_or (ha : 0 ≤ a ∧ a < 1024) (hs : 0 ≤ s ∧ s < 10) : (cI a ||| cI (2 ^ s.toNat)).toInt = setF a s := by
  obtain ⟨A, rfl⟩ := b_fin (n := 1024) ha
  obtain ⟨S, rfl⟩ := b_fin (n := 10) hs
  exact fb_or S A
theorem b_rng (ha : 0 ≤ a ∧ a < 1024) (hs : 0 ≤ s ∧ s < 10) : (0 ≤ clrF a s ∧ clrF a s ≤ a) ∧ (0 ≤ setF a s ∧ setF a s < 1024) ∧ (0 ≤ bitF a s ∧ bitF a s ≤ 1) ∧ (0 ≤ a / 2 ^ s.toNat ∧ a / 2 ^ s.toNat < 1024) := by
  obtain ⟨A, rfl⟩ := b_fin (n := 1024) ha
  obtain ⟨S, rfl⟩ := b_fin (n := 10) hs
  exact fb_rng S A
theorem b_pow (hs : 0 ≤ s ∧ s < 11) : (1 : Int) ≤ 2 ^ s.toNat ∧ (2 : Int) ^ s.toNat ≤ 1024 := by
  obtain ⟨S, rfl⟩ := b_fin (n := 11) hs
  exact fb_pow S
variable {d : Nat} {M : MRec} {pc : Nat} {ls : AL} {st : List AV} {τ : MT} {Q : Option Int → MT → Prop}
theorem wm_shr (hd : decode (rC M) pc = .ok (.ishr, 1)) (ha : 0 ≤ a ∧ a < 1024) (hs : 0 ≤ s ∧ s < 10) (K : Wm d M (pc + 1) ls (.inl (a / 2 ^ s.toNat) :: st) τ Q) : Wm d M pc ls (.inl s :: .inl a :: st) τ Q := wm_bits (f := fun x y => x >>> (y &&& 31)) hd rfl (fun _ _ _ => rfl) (by rw [b_shr ha hs]; exact K)
theorem wm_and1 (hd : decode (rC M) pc = .ok (.iand, 1)) (ha : 0 ≤ a ∧ a < 1024) (K : Wm d M (pc + 1) ls (.inl (a % 2) :: st) τ Q) : Wm d M pc ls (.inl 1 :: .inl a :: st) τ Q := wm_bits (f := fun x y => x &&& y) hd rfl (fun _ _ _ => rfl) (by rw [b_and1 ha]; exact K)
theorem wm_shl1 (hd : decode (rC M) pc = .ok (.ishl, 1)) (hs : 0 ≤ s ∧ s < 11) (K : Wm d M (pc + 1) ls (.inl (2 ^ s.toNat) :: st) τ Q) : Wm d M pc ls (.inl s :: .inl 1 :: st) τ Q := wm_bits (f := fun x y => x <<< (y &&& 31)) hd rfl (fun _ _ _ => rfl) (by rw [b_shl hs]; exact K)
theorem wm_not (hd : decode (rC M) pc = .ok (.ixor, 1)) (hs : 0 ≤ s ∧ s < 10) (K : Wm d M (pc + 1) ls (.inl (-1 - 2 ^ s.toNat) :: st) τ Q) : Wm d M pc ls (.inl (-1) :: .inl (2 ^ s.toNat) :: st) τ Q := wm_bits (f := fun x y => x ^^^ y) hd rfl (fun _ _ _ => rfl) (by rw [b_not hs]; exact K)
theorem wm_clr (hd : decode (rC M) pc = .ok (.iand, 1)) (ha : 0 ≤ a ∧ a < 1024) (hs : 0 ≤ s ∧ s < 10) (K : Wm d M (pc + 1) ls (.inl (clrF a s) :: st) τ Q) : Wm d M pc ls (.inl (-1 - 2 ^ s.toNat) :: .inl a :: st) τ Q := wm_bits (f := fun x y => x &&& y) hd rfl (fun _ _ _ => rfl) (by rw [b_clr ha hs]; exact K)
theorem wm_or1 (hd : decode (rC M) pc = .ok (.ior, 1)) (ha : 0 ≤ a ∧ a < 1024) (hs : 0 ≤ s ∧ s < 10) (K : Wm d M (pc + 1) ls (.inl (setF a s) :: st) τ Q) : Wm d M pc ls (.inl (2 ^ s.toNat) :: .inl a :: st) τ Q := wm_bits (f := fun x y => x ||| y) hd rfl (fun _ _ _ => rfl) (by rw [b_or ha hs]; exact K)
end BITS
