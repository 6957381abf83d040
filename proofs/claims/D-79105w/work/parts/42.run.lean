/-! ONE STEP ('ex') AND A WHOLE RUN ('mRun'). B: addresses from B on may be written; sv: what the statics hold (100: the mirror of Object[]) -/
set_option maxRecDepth 100000
def mLk {α : Type} (t : List (Nat × α)) (M : MRec) (i : Nat) : Option α := if i < 65536 then tLk t (rP M * 65536 + i) else none
def xConst (M : MRec) (sv : Nat → Option Nat) (i pc : Nat) (ls : ML) (st : List MV) (h : MH) : Option MS := match mLk tK M i with
  | some v => mNx (pc + 2) ls (.inl v :: st) h
  | none => if rP M = 25 ∧ i = 110 then mNx (pc + 2) ls (.inr (sv 100) :: st) h else none
def xStat (M : MRec) (sv : Nat → Option Nat) (i pc : Nat) (ls : ML) (st : List MV) (h : MH) : Option MS := match mLk tS M i with
  | some j => mNx (pc + 3) ls (.inr (sv j) :: st) h
  | none => none
/-- every reference among n places from sp on is null or an object of class ci -/
def mAllOf (h : MH) (f : Nat → Option Nat) (sp n ci : Nat) : Bool := (List.range n).all fun i => match f (sp + i) with
  | none => true
  | some y => match hG h y with
    | some (.inr (.inr (c2, _))) => c2 == ci
    | _ => false
def mBits (f : Nat → Int32) (sp n : Nat) : Bool := (List.range n).all fun i => decide (f (sp + i) = 0 ∨ f (sp + i) = 1)
/-- System.arraycopy -/
def xCopy (B pc : Nat) (ls : ML) (st : List MV) (h : MH) : Option MS := match st with
  | .inl n :: .inl dp :: .inr (some a) :: .inl sp :: .inr (some a0) :: r =>
    if B ≤ a ∧ ¬ sp < 0 ∧ ¬ dp < 0 ∧ ¬ n < 0 ∧ r.length ≤ 8 then (match hG h a0, hG h a with
      | some (.inl (t0, n0, f)), some (.inl (t1, n1, g)) =>
        if t0 = t1 ∧ sp.toNatClampNeg + n.toNatClampNeg ≤ n0 ∧ dp.toNatClampNeg + n.toNatClampNeg ≤ n1 ∧ (t0 = 0 ∨ (t0 = 1 ∧ mBits f sp.toNatClampNeg n.toNatClampNeg = true)) then
          mNx (pc + 3) ls r (hS h a (.inl (t1, n1, va_cpy f g sp.toNatClampNeg dp.toNatClampNeg n.toNatClampNeg))) else none
      | some (.inr (.inl (t0, n0, f))), some (.inr (.inl (t1, n1, g))) =>
        if t0 = t1 ∧ sp.toNatClampNeg + n.toNatClampNeg ≤ n0 ∧ dp.toNatClampNeg + n.toNatClampNeg ≤ n1 ∧ (mFit t0 1 = true ∧ mAllOf h f sp.toNatClampNeg n.toNatClampNeg 1 = true ∨ mFit t0 4 = true ∧ mAllOf h f sp.toNatClampNeg n.toNatClampNeg 4 = true ∨ mFit t0 7 = true ∧ mAllOf h f sp.toNatClampNeg n.toNatClampNeg 7 = true ∨ mFit t0 9 = true ∧ mAllOf h f sp.toNatClampNeg n.toNatClampNeg 9 = true) then
          mNx (pc + 3) ls r (hS h a (.inr (.inl (t1, n1, va_cpy f g sp.toNatClampNeg dp.toNatClampNeg n.toNatClampNeg)))) else none
      | _, _ => none) else none
  | _ => none
/-- Object.getClass of an Object[] -/
def xMirror (sv : Nat → Option Nat) (pc : Nat) (ls : ML) (st : List MV) (h : MH) : Option MS := match st with
  | .inr (some a) :: r => if r.length ≤ 8 then (match hG h a with
    | some (.inr (.inl (0, _, _))) => mNx (pc + 3) ls (.inr (sv 100) :: r) h
    | _ => none) else none
  | _ => none
/-- Object.<init> -/
def xObj (pc : Nat) (ls : ML) (st : List MV) (h : MH) : Option MS := match st with
  | .inr (some _) :: r => if r.length ≤ 8 then mNx (pc + 3) ls r h else none
  | _ => none
/-- Math.min (true), Math.max (false) -/
def xMath (mn : Bool) (pc : Nat) (ls : ML) (st : List MV) (h : MH) : Option MS := match st with
  | .inl y :: .inl x :: r => if r.length ≤ 8 then (match mn with
    | true => mNx (pc + 3) ls (.inl (if y < x then y else x) :: r) h
    | false => mNx (pc + 3) ls (.inl (if x < y then y else x) :: r) h) else none
  | _ => none
/-- a call with a receiver whose class is known -/
def xCallV (q : Option (MRec × Nat × Nat)) (len pc : Nat) (st : List MV) (h : MH) : Option MS := match q with
  | some (M', n, ci) => if n ≤ st.length ∧ (st.drop n).length ≤ 9 then (match st.drop n with
    | .inr (some b) :: r => (match hG h b with
      | some (.inr (.inr (c2, _))) => if c2 = ci then some (.inr (.inl (M', .inr (some b) :: (st.take n).reverse, pc + len, r, h))) else none
      | _ => none)
    | _ => none) else none
  | none => none
def xCallI (q : Option (MRec × Nat)) (pc : Nat) (st : List MV) (h : MH) : Option MS := match q with
  | some (M', n) => if n ≤ st.length ∧ (st.drop n).length ≤ 9 then (match st.drop n with
    | .inr (some b) :: r => (match hG h b with
      | some (.inr (.inr _)) => some (.inr (.inl (M', .inr (some b) :: (st.take n).reverse, pc + 3, r, h)))
      | _ => none)
    | _ => none) else none
  | none => none
def xCallS (q : Option (MRec × Nat)) (pc : Nat) (st : List MV) (h : MH) : Option MS := match q with
  | some (M', n) => if n ≤ st.length ∧ (st.drop n).length ≤ 8 then some (.inr (.inl (M', (st.take n).reverse, pc + 3, st.drop n, h))) else none
  | none => none
def ex (B : Nat) (sv : Nat → Option Nat) (M : MRec) (pc : Nat) (ls : ML) (st : List MV) (h : MH) : Instr → Option MS
  | .aconst_null => mNx (pc + 1) ls (.inr none :: st) h
  | .iconst n => xC (Int32.ofInt n) pc 1 ls st h
  | .bipush n => xC (Int8.ofInt n).toInt32 pc 2 ls st h
  | .sipush n => xC (Int16.ofInt n).toInt32 pc 3 ls st h
  | .ldc i => xConst M sv i pc ls st h
  | .iload_n k => xIld k pc 1 ls st h
  | .iload k => xIld k pc 2 ls st h
  | .aload_n k => xAld k pc 1 ls st h
  | .aload k => xAld k pc 2 ls st h
  | .istore_n k => xIst k pc 1 ls st h
  | .istore k => xIst k pc 2 ls st h
  | .astore_n k => xAst k pc 1 ls st h
  | .astore k => xAst k pc 2 ls st h
  | .iinc k n => xInc k n pc ls st h
  | .iadd => x2 (fun x y => x + y) pc ls st h
  | .isub => x2 (fun x y => x - y) pc ls st h
  | .imul => x2 (fun x y => x * y) pc ls st h
  | .iand => x2 (fun x y => x &&& y) pc ls st h
  | .ior => x2 (fun x y => x ||| y) pc ls st h
  | .ixor => x2 (fun x y => x ^^^ y) pc ls st h
  | .ishl => x2 (fun x y => x <<< (y &&& 31)) pc ls st h
  | .ishr => x2 (fun x y => x >>> (y &&& 31)) pc ls st h
  | .iushr => x2 (fun x y => (x.toUInt32 >>> (y.toUInt32 &&& Int32.toUInt32 31)).toInt32) pc ls st h
  | .idiv => x2z (fun x y => x / y) pc ls st h
  | .irem => x2z (fun x y => x - x / y * y) pc ls st h
  | .ineg => x1 (fun x => -x) pc ls st h
  | .i2b => x1 (fun x => x.toInt8.toInt32) pc ls st h
  | .dup => xDup pc ls st h
  | .dup2 => xDup2 pc ls st h
  | .dup_x1 => xDupX1 pc ls st h
  | .pop => xPop pc ls st h
  | .ifCond c off => xIf c off pc ls st h
  | .if_icmp c off => xIcmp c off pc ls st h
  | .if_acmp c off => xAcmp c off pc ls st h
  | .ifnull off => xNull off pc ls st h
  | .ifnonnull off => xNonnull off pc ls st h
  | .goto off => mGo pc off ls st h
  | .tableswitch d lo hi offs => xTsw d lo hi offs pc ls st h
  | .lookupswitch d ps => xLsw d ps pc ls st h
  | .iaload => xArrI (fun t => t == 0 || t == 3) pc ls st h
  | .baload => xArrI (fun t => t == 1 || t == 2) pc ls st h
  | .aaload => xArrQ pc ls st h
  | .iastore => xIastore B pc ls st h
  | .bastore => xBastore B pc ls st h
  | .aastore => xAastore B pc ls st h
  | .arraylength => xAlen pc ls st h
  | .newarray t => xNewa t pc ls st h
  | .anewarray i => xAnewa (mLk tA M i) pc ls st h
  | .multianewarray i 2 => xMulti (mLk tMulti M i).isSome pc ls st h
  | .getfield i => xGetf (mLk tF M i) pc ls st h
  | .putfield i => xPutf B (rP M) (mLk tF M i) ((rN M).name == "<init>") pc ls st h
  | .getstatic i => xStat M sv i pc ls st h
  | .new i => xNew (mLk tN M i) pc ls st h
  | .checkcast i => xCast (mLk tX M i) pc ls st h
  | .invokevirtual i => if rP M = 25 ∧ i = 86 then xMirror sv pc ls st h else xCallV (mLk tV M i) 3 pc st h
  | .invokeinterface i _ => xCallV (mLk tF5 M i) 5 pc st h
  | .invokespecial i => if (mLk tObj M i).isSome = true then xObj pc ls st h else xCallI (mLk tI M i) pc st h
  | .invokestatic i => if (mLk tCopy M i).isSome = true then xCopy B pc ls st h else (match mLk tMath M i with
    | some b => xMath b pc ls st h
    | none => xCallS (mLk tSt M i) pc st h)
  | .ireturn => xRet (rR M) st h
  | .areturn => xAret (rR M) st h
  | .return_ => xVret (rR M) st h
  | .athrow => xThrow st h
  | _ => none
/-- the length that an instruction has -/
def mLen : Instr → Nat → Bool
  | .bipush _, n => n == 2
  | .sipush _, n => n == 3
  | .ldc _, n => n == 2
  | .iload _, n => n == 2
  | .aload _, n => n == 2
  | .istore _, n => n == 2
  | .astore _, n => n == 2
  | .newarray _, n => n == 2
  | .iinc _ _, n => n == 3
  | .ifCond _ _, n => n == 3
  | .if_icmp _ _, n => n == 3
  | .if_acmp _ _, n => n == 3
  | .ifnull _, n => n == 3
  | .ifnonnull _, n => n == 3
  | .goto _, n => n == 3
  | .anewarray _, n => n == 3
  | .getfield _, n => n == 3
  | .putfield _, n => n == 3
  | .getstatic _, n => n == 3
  | .new _, n => n == 3
  | .checkcast _, n => n == 3
  | .invokevirtual _, n => n == 3
  | .invokespecial _, n => n == 3
  | .invokestatic _, n => n == 3
  | .invokeinterface _ _, n => n == 5
  | .multianewarray _ _, n => n == 4
  | .tableswitch _ _ _ _, _ => true
  | .lookupswitch _ _, _ => true
  | _, n => n == 1
/-- where a throw at pc goes: none: a row of the kind 'any' (not walked); some none: to the caller -/
def hFind : List (Nat × Nat × Nat × Nat) → Nat → Option (Option Nat)
  | [], _ => some none
  | (s, e, t, c) :: r, pc => if s ≤ pc ∧ pc < e then (if c = 0 then none else some (some t)) else hFind r pc
abbrev mEntry (M : MRec) (as : List MV) : ML := as.map some ++ List.replicate (rL M - as.length) none
def mRun (B : Nat) (sv : Nat → Option Nat) : Nat → Nat → MRec → MF → Option ((Option MV ⊕ Nat) × MH)
  | 0, _, _, _ => none
  | n + 1, d, M, (pc, ls, st, h) => match decode (rC M) pc with
    | .error _ => none
    | .ok (i, len) => match (if mLen i len = true then ex B sv M pc ls st h i else none) with
      | none => none
      | some (.inl f) => mRun B sv n d M f
      | some (.inr (.inl (M', as, pc', r, h'))) => (match d with
        | 0 => none
        | d' + 1 => (match mRun B sv n d' M' (0, mEntry M' as, [], h') with
          | none => none
          | some (.inl v, h2) => mRun B sv n d M (pc', ls, v.toList ++ r, h2)
          | some (.inr q, h2) => (match hFind (rH M) pc with
            | none => none
            | some none => some (.inr q, h2)
            | some (some t) => mRun B sv n d M (t, ls, [.inr (some q)], h2))))
      | some (.inr (.inr (.inl (v, h')))) => some (.inl v, h')
      | some (.inr (.inr (.inr (q, h')))) => (match hFind (rH M) pc with
        | none => none
        | some none => some (.inr q, h')
        | some (some t) => mRun B sv n d M (t, ls, [.inr (some q)], h'))
