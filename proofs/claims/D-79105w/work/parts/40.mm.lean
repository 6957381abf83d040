/-! THE MINI MACHINE: bytecode over values that are ints or references (or null), a heap as a function, a call run to its end before the caller goes on. Its soundness over the JVM's machine stands in the next parts; behind them all proofs are about 'mRun' alone. -/
set_option maxRecDepth 100000
/-- a value: an int, or a reference (none: null) -/
abbrev MV : Type := Int32 ⊕ Option Nat
/-- a cell: an array of ints (tag 0 int, 1 boolean, 2 byte, 3: an int array that was there at the start, read only; length; contents), an array of references (tag 0 Object, 1 Member, 2 Shape, 3 int[], 4: an Object[] that was there at the start), an object (number of its class in clM; fields) -/
abbrev MC : Type := (Nat × Nat × (Nat → Int32)) ⊕ ((Nat × Nat × (Nat → Option Nat)) ⊕ (Nat × List MV))
/-- the heap: next address, slots used, cells -/
abbrev MH : Type := Nat × Nat × (Nat → Option MC)
abbrev ML : Type := List (Option MV)
/-- a method: name, code, locals, answer, handlers, number of its class's constant pool -/
abbrev MRec : Type := MethodName × ByteArray × Nat × Option FieldType × List (Nat × Nat × Nat × Nat) × Nat
abbrev rN (M : MRec) : MethodName := M.1
abbrev rC (M : MRec) : ByteArray := M.2.1
abbrev rL (M : MRec) : Nat := M.2.2.1
abbrev rR (M : MRec) : Option FieldType := M.2.2.2.1
abbrev rH (M : MRec) : List (Nat × Nat × Nat × Nat) := M.2.2.2.2.1
abbrev rP (M : MRec) : Nat := M.2.2.2.2.2
/-- a frame: pc, locals, stack, heap -/
abbrev MF : Type := Nat × ML × List MV × MH
/-- a step's outcome: next frame; a call (method, arguments, pc behind it, rest of the stack, heap); an answer; a throw -/
abbrev MS : Type := MF ⊕ ((MRec × List MV × Nat × List MV × MH) ⊕ ((Option MV × MH) ⊕ (Nat × MH)))
def hG (h : MH) (a : Nat) : Option MC := h.2.2 a
def hS (h : MH) (a : Nat) (c : MC) : MH := (h.1, h.2.1, fun b => if b = a then some c else h.2.2 b)
def hN (h : MH) (n : Nat) (c : MC) : MH := (h.1 + 1, h.2.1 + n, fun b => if b = h.1 then some c else h.2.2 b)
/-- n rows of k ints behind the outer array -/
def hGrid (h : MH) (n k : Nat) : MH := (h.1 + 1 + n, h.2.1 + n + n * k, fun b => if b = h.1 then some (.inr (.inl (3, n, fun i => some (h.1 + 1 + i)))) else if h.1 < b ∧ b < h.1 + 1 + n then some (.inl (0, k, fun _ => 0)) else h.2.2 b)
def mNx (pc : Nat) (ls : ML) (st : List MV) (h : MH) : Option MS := some (.inl (pc, ls, st, h))
def mLd (ls : ML) (i : Nat) : Option MV := match ls[i]? with
  | some (some v) => some v
  | _ => none
/-- an index out of range -/
abbrev mOut (i : Int32) (n : Nat) : Prop := i < 0 ∨ n ≤ i.toNatClampNeg
def cB : ClassFile.Cond → Int32 → Int32 → Bool
  | .eq, x, y => decide (x = y)
  | .ne, x, y => decide (¬ x = y)
  | .lt, x, y => decide (x < y)
  | .ge, x, y => decide (y ≤ x)
  | .gt, x, y => decide (y < x)
  | .le, x, y => decide (x ≤ y)
/-- a jump -/
def mGo (pc : Nat) (off : Int) (ls : ML) (st : List MV) (h : MH) : Option MS := if 0 ≤ (pc : Int) + off then mNx ((pc : Int) + off).toNat ls st h else none
def xC (v : Int32) (pc len : Nat) (ls : ML) (st : List MV) (h : MH) : Option MS := mNx (pc + len) ls (.inl v :: st) h
def x1 (f : Int32 → Int32) (pc : Nat) (ls : ML) (st : List MV) (h : MH) : Option MS := match st with
  | .inl x :: r => mNx (pc + 1) ls (.inl (f x) :: r) h
  | _ => none
def x2 (f : Int32 → Int32 → Int32) (pc : Nat) (ls : ML) (st : List MV) (h : MH) : Option MS := match st with
  | .inl y :: .inl x :: r => mNx (pc + 1) ls (.inl (f x y) :: r) h
  | _ => none
def x2z (f : Int32 → Int32 → Int32) (pc : Nat) (ls : ML) (st : List MV) (h : MH) : Option MS := match st with
  | .inl y :: .inl x :: r => if y = 0 then none else mNx (pc + 1) ls (.inl (f x y) :: r) h
  | _ => none
def xIld (i pc len : Nat) (ls : ML) (st : List MV) (h : MH) : Option MS := match mLd ls i with
  | some (.inl x) => mNx (pc + len) ls (.inl x :: st) h
  | _ => none
def xAld (i pc len : Nat) (ls : ML) (st : List MV) (h : MH) : Option MS := match mLd ls i with
  | some (.inr x) => mNx (pc + len) ls (.inr x :: st) h
  | _ => none
def xIst (i pc len : Nat) (ls : ML) (st : List MV) (h : MH) : Option MS := match st with
  | .inl x :: r => if i < ls.length then mNx (pc + len) (ls.set i (some (.inl x))) r h else none
  | _ => none
def xAst (i pc len : Nat) (ls : ML) (st : List MV) (h : MH) : Option MS := match st with
  | .inr x :: r => if i < ls.length then mNx (pc + len) (ls.set i (some (.inr x))) r h else none
  | _ => none
def xInc (i : Nat) (n : Int) (pc : Nat) (ls : ML) (st : List MV) (h : MH) : Option MS := match mLd ls i with
  | some (.inl x) => mNx (pc + 3) (ls.set i (some (.inl (x + Int32.ofInt n)))) st h
  | _ => none
def xIf (c : ClassFile.Cond) (off : Int) (pc : Nat) (ls : ML) (st : List MV) (h : MH) : Option MS := match st with
  | .inl x :: r => if 0 ≤ (pc : Int) + off then (if cB c x 0 = true then mNx ((pc : Int) + off).toNat ls r h else mNx (pc + 3) ls r h) else none
  | _ => none
def xIcmp (c : ClassFile.Cond) (off : Int) (pc : Nat) (ls : ML) (st : List MV) (h : MH) : Option MS := match st with
  | .inl y :: .inl x :: r => if 0 ≤ (pc : Int) + off then (if cB c x y = true then mNx ((pc : Int) + off).toNat ls r h else mNx (pc + 3) ls r h) else none
  | _ => none
def xAcmp (c : ClassFile.ACond) (off : Int) (pc : Nat) (ls : ML) (st : List MV) (h : MH) : Option MS := match c, st with
  | .eq, .inr y :: .inr x :: r => if 0 ≤ (pc : Int) + off then (if x = y then mNx ((pc : Int) + off).toNat ls r h else mNx (pc + 3) ls r h) else none
  | .ne, .inr y :: .inr x :: r => if 0 ≤ (pc : Int) + off then (if x = y then mNx (pc + 3) ls r h else mNx ((pc : Int) + off).toNat ls r h) else none
  | _, _ => none
def xNull (off : Int) (pc : Nat) (ls : ML) (st : List MV) (h : MH) : Option MS := match st with
  | .inr none :: r => mGo pc off ls r h
  | .inr (some _) :: r => mNx (pc + 3) ls r h
  | _ => none
def xNonnull (off : Int) (pc : Nat) (ls : ML) (st : List MV) (h : MH) : Option MS := match st with
  | .inr none :: r => mNx (pc + 3) ls r h
  | .inr (some _) :: r => mGo pc off ls r h
  | _ => none
def xDup (pc : Nat) (ls : ML) (st : List MV) (h : MH) : Option MS := match st with
  | v :: r => mNx (pc + 1) ls (v :: v :: r) h
  | _ => none
def xDup2 (pc : Nat) (ls : ML) (st : List MV) (h : MH) : Option MS := match st with
  | v :: w :: r => mNx (pc + 1) ls (v :: w :: v :: w :: r) h
  | _ => none
def xDupX1 (pc : Nat) (ls : ML) (st : List MV) (h : MH) : Option MS := match st with
  | v :: w :: r => mNx (pc + 1) ls (v :: w :: v :: r) h
  | _ => none
def xPop (pc : Nat) (ls : ML) (st : List MV) (h : MH) : Option MS := match st with
  | _ :: r => mNx (pc + 1) ls r h
  | _ => none
/-- loads from arrays of ints with tag t -/
def xArrI (g : Nat → Bool) (pc : Nat) (ls : ML) (st : List MV) (h : MH) : Option MS := match st with
  | .inl i :: .inr (some a) :: r => match hG h a with
    | some (.inl (t, n, f)) => if g t = true then (if mOut i n then none else mNx (pc + 1) ls (.inl (f i.toNatClampNeg) :: r) h) else none
    | _ => none
  | _ => none
def xArrQ (pc : Nat) (ls : ML) (st : List MV) (h : MH) : Option MS := match st with
  | .inl i :: .inr (some a) :: r => match hG h a with
    | some (.inr (.inl (t, n, f))) => if t < 4 then (if mOut i n then none else mNx (pc + 1) ls (.inr (f i.toNatClampNeg) :: r) h) else none
    | _ => none
  | _ => none
def xIastore (B pc : Nat) (ls : ML) (st : List MV) (h : MH) : Option MS := match st with
  | .inl x :: .inl i :: .inr (some a) :: r => if B ≤ a then (match hG h a with
    | some (.inl (0, n, f)) => if mOut i n then none else mNx (pc + 1) ls r (hS h a (.inl (0, n, upd f i.toNatClampNeg x)))
    | _ => none) else none
  | _ => none
def xBastore (B pc : Nat) (ls : ML) (st : List MV) (h : MH) : Option MS := match st with
  | .inl x :: .inl i :: .inr (some a) :: r => if B ≤ a then (match hG h a with
    | some (.inl (1, n, f)) => if mOut i n then none else mNx (pc + 1) ls r (hS h a (.inl (1, n, upd f i.toNatClampNeg (vp_nar .boolean x))))
    | some (.inl (2, n, f)) => if mOut i n then none else mNx (pc + 1) ls r (hS h a (.inl (2, n, upd f i.toNatClampNeg (vp_nar .byte x))))
    | _ => none) else none
  | _ => none
/-- which object may stand in which array of references -/
def mFit (t ci : Nat) : Bool := (t == 0 && (ci == 1 || ci == 4 || ci == 9)) || (t == 1 && ci == 4) || (t == 2 && ci == 7)
def xAastore (B pc : Nat) (ls : ML) (st : List MV) (h : MH) : Option MS := match st with
  | .inr v :: .inl i :: .inr (some a) :: r => if B ≤ a then (match hG h a with
    | some (.inr (.inl (t, n, f))) => if mOut i n then none else if 3 ≤ t then none else (match v with
      | none => mNx (pc + 1) ls r (hS h a (.inr (.inl (t, n, va_up f i.toNatClampNeg none))))
      | some v => (match hG h v with
        | some (.inr (.inr (ci, _))) => if mFit t ci = true then mNx (pc + 1) ls r (hS h a (.inr (.inl (t, n, va_up f i.toNatClampNeg (some v))))) else none
        | _ => none))
    | _ => none) else none
  | _ => none
def xAlen (pc : Nat) (ls : ML) (st : List MV) (h : MH) : Option MS := match st with
  | .inr (some a) :: r => match hG h a with
    | some (.inl (_, n, _)) => mNx (pc + 1) ls (.inl (Int32.ofNat n) :: r) h
    | some (.inr (.inl (_, n, _))) => mNx (pc + 1) ls (.inl (Int32.ofNat n) :: r) h
    | _ => none
  | _ => none
def xNewa (t : ArrayType) (pc : Nat) (ls : ML) (st : List MV) (h : MH) : Option MS := match t, st with
  | .int, .inl n :: r => if n < 0 then none else if n.toNatClampNeg ≤ 100000 then mNx (pc + 2) ls (.inr (some h.1) :: r) (hN h n.toNatClampNeg (.inl (0, n.toNatClampNeg, fun _ => 0))) else none
  | .boolean, .inl n :: r => if n < 0 then none else if n.toNatClampNeg ≤ 100000 then mNx (pc + 2) ls (.inr (some h.1) :: r) (hN h n.toNatClampNeg (.inl (1, n.toNatClampNeg, fun _ => 0))) else none
  | .byte, .inl n :: r => if n < 0 then none else if n.toNatClampNeg ≤ 100000 then mNx (pc + 2) ls (.inr (some h.1) :: r) (hN h n.toNatClampNeg (.inl (2, n.toNatClampNeg, fun _ => 0))) else none
  | _, _ => none
def xAnewa (t : Option Nat) (pc : Nat) (ls : ML) (st : List MV) (h : MH) : Option MS := match t, st with
  | some t, .inl n :: r => if n < 0 then none else if n.toNatClampNeg ≤ 100000 then mNx (pc + 3) ls (.inr (some h.1) :: r) (hN h n.toNatClampNeg (.inr (.inl (t, n.toNatClampNeg, fun _ => none)))) else none
  | _, _ => none
def xMulti (ok : Bool) (pc : Nat) (ls : ML) (st : List MV) (h : MH) : Option MS := match st with
  | .inl k :: .inl n :: r => if ok = true then (if n < 0 ∨ k < 0 then none else if n.toNatClampNeg ≤ 10000 ∧ k.toNatClampNeg ≤ 10000 then mNx (pc + 4) ls (.inr (some h.1) :: r) (hGrid h n.toNatClampNeg k.toNatClampNeg) else none) else none
  | _ => none
/-- a value in a field of that type -/
def mTyp (ty : FieldType) (v : MV) : Bool := match ty, v with
  | .int, .inl _ => true
  | .boolean, .inl x => decide (x = 0 ∨ x = 1)
  | .object _, .inr _ => true
  | .array _, .inr _ => true
  | _, _ => false
def xGetf (q : Option (Nat × Nat × FieldType × Bool)) (pc : Nat) (ls : ML) (st : List MV) (h : MH) : Option MS := match q, st with
  | some (ci, j, _, _), .inr (some a) :: r => match hG h a with
    | some (.inr (.inr (c2, fs))) => if c2 = ci then (match fs[j]? with
      | some v => mNx (pc + 3) ls (v :: r) h
      | none => none) else none
    | _ => none
  | _, _ => none
def xPutf (B cp : Nat) (q : Option (Nat × Nat × FieldType × Bool)) (isI : Bool) (pc : Nat) (ls : ML) (st : List MV) (h : MH) : Option MS := match q, st with
  | some (ci, j, ty, fin), v :: .inr (some a) :: r => if B ≤ a ∧ (fin = true → isI = true ∧ (cp = ci ∧ (ci < 10 ∨ cp = 31) ∨ cp = 31 ∧ ci = 11)) ∧ mTyp ty v = true then (match hG h a with
    | some (.inr (.inr (c2, fs))) => if c2 = ci ∧ j < fs.length then mNx (pc + 3) ls r (hS h a (.inr (.inr (ci, fs.set j v)))) else none
    | _ => none) else none
  | _, _ => none
def xNew (q : Option (Nat × List MV)) (pc : Nat) (ls : ML) (st : List MV) (h : MH) : Option MS := match q with
  | some (ci, fs) => mNx (pc + 3) ls (.inr (some h.1) :: st) (hN h fs.length (.inr (.inr (ci, fs))))
  | none => none
/-- checkcast: null, or an object of the class that the table names -/
def xCast (q : Option Nat) (pc : Nat) (ls : ML) (st : List MV) (h : MH) : Option MS := match q, st with
  | some _, .inr none :: r => mNx (pc + 3) ls (.inr none :: r) h
  | some ci, .inr (some a) :: r => (match hG h a with
    | some (.inr (.inr (c2, _))) => if c2 = ci then mNx (pc + 3) ls (.inr (some a) :: r) h else none
    | _ => none)
  | _, _ => none
def xTsw (dflt lo hi : Int) (offs : Array Int) (pc : Nat) (ls : ML) (st : List MV) (h : MH) : Option MS := match st with
  | .inl x :: r => if x.toInt < lo ∨ hi < x.toInt then mGo pc dflt ls r h else (match offs[(x.toInt - lo).toNat]? with
    | some off => mGo pc off ls r h
    | none => none)
  | _ => none
def xLsw (dflt : Int) (ps : Array (Int × Int)) (pc : Nat) (ls : ML) (st : List MV) (h : MH) : Option MS := match st with
  | .inl x :: r => if (ps.toList.zip (ps.toList.drop 1)).all (fun (a, next) => a.1 < next.1) = true then mGo pc (Op.lookupswitch.offset ps.toList dflt x.toInt) ls r h else none
  | _ => none
def xRet (ty : Option FieldType) (st : List MV) (h : MH) : Option MS := match ty, st with
  | some .int, [.inl x] => some (.inr (.inr (.inl (some (.inl x), h))))
  | some .boolean, [.inl x] => if x = 0 ∨ x = 1 then some (.inr (.inr (.inl (some (.inl x), h)))) else none
  | _, _ => none
def xAret (ty : Option FieldType) (st : List MV) (h : MH) : Option MS := match ty, st with
  | some (.object _), [.inr x] => some (.inr (.inr (.inl (some (.inr x), h))))
  | some (.array _), [.inr x] => some (.inr (.inr (.inl (some (.inr x), h))))
  | _, _ => none
def xVret (ty : Option FieldType) (st : List MV) (h : MH) : Option MS := match ty, st with
  | none, [] => some (.inr (.inr (.inl (none, h))))
  | _, _ => none
def xThrow (st : List MV) (h : MH) : Option MS := match st with
  | .inr (some q) :: _ => (match hG h q with
    | some (.inr (.inr (ci, _))) => if ci = 6 then some (.inr (.inr (.inr (q, h)))) else none
    | _ => none)
  | _ => none
