/-! THE BRIDGE: from a run of the mini machine to the law's walk (whole_start) -/
set_option maxRecDepth 100000
def eastF (j : Nat) : Int32 := if j = 0 then 1 else if j = 2 then -1 else 0
def southF (j : Nat) : Int32 := if j = 1 then 1 else if j = 3 then -1 else 0
/-- the cells of the start: the script, the two static arrays, ArrayList's empty one -/
def mStart (B b e0 e1 d0 L : Nat) (xs : Nat → Int32) : MH := (B, 0, fun a => if a = b then some (.inl (3, L, xs)) else if a = e0 then some (.inl (3, 4, eastF)) else if a = e1 then some (.inl (3, 4, southF)) else if a = d0 then some (.inr (.inl (4, 0, fun _ => none))) else none)
/-- what is owed of the mini machine: on every script the law's run ends with 1, within the room -/
def LawOK : Prop := ∀ (B : Nat) (sv : Nat → Option Nat) (b e0 e1 d0 mir L : Nat) (xs : Nat → Int32), L ≤ 168 → b < B → e0 < B → e1 < B → d0 < B → b ≠ e0 → b ≠ e1 → e0 ≠ e1 → d0 ≠ b → d0 ≠ e0 → d0 ≠ e1 → sv 0 = some e0 → sv 1 = some e1 → sv 2 = some d0 → sv 100 = some mir →
  ∃ (n : Nat) (h' : MH), mRun B sv n 1000 rL_law (0, mEntry rL_law [.inr (some b)], [], mStart B b e0 e1 d0 L xs) = some (.inl (some (.inl 1)), h') ∧ h'.1 ≤ B + 1200048 ∧ h'.2.1 ≤ 5501818
