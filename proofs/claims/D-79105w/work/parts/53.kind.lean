/-! WHICH KIND OF OUTCOME AN INSTRUCTION HAS -/
set_option maxRecDepth 100000
def mKind : MS → Nat
  | .inl _ => 0
  | .inr (.inl _) => 1
  | .inr (.inr (.inl _)) => 2
  | .inr (.inr (.inr _)) => 3
def iRet : Instr → Bool
  | .ireturn => true
  | .areturn => true
  | .return_ => true
  | _ => false
def iThr : Instr → Bool
  | .athrow => true
  | _ => false
def iCall : Instr → Bool
  | .invokevirtual _ => true
  | .invokespecial _ => true
  | .invokestatic _ => true
  | .invokeinterface _ _ => true
  | _ => false
theorem mNx_k {pc : Nat} {ls : ML} {st : List MV} {h : MH} {F : MS} (hx : mNx pc ls st h = some F) : mKind F = 0 := by
  cases hx
  rfl
theorem mGo_k {pc : Nat} {off : Int} {ls : ML} {st : List MV} {h : MH} {F : MS} (hx : mGo pc off ls st h = some F) : mKind F = 0 := by
  unfold mGo at hx
  split at hx
  · exact mNx_k hx
  · cases hx
theorem xC_k (v : Int32) (pc len : Nat) (ls : ML) (st : List MV) (h : MH) {F : MS} (hx : xC v pc len ls st h = some F) : mKind F = 0 := by
  unfold xC at hx
  repeat' split at hx
  all_goals first | exact mNx_k hx | exact mGo_k hx | (cases hx; rfl) | cases hx
theorem x1_k (f : Int32 → Int32) (pc : Nat) (ls : ML) (st : List MV) (h : MH) {F : MS} (hx : x1 f pc ls st h = some F) : mKind F = 0 := by
  unfold x1 at hx
  repeat' split at hx
  all_goals first | exact mNx_k hx | exact mGo_k hx | (cases hx; rfl) | cases hx
theorem x2_k (f : Int32 → Int32 → Int32) (pc : Nat) (ls : ML) (st : List MV) (h : MH) {F : MS} (hx : x2 f pc ls st h = some F) : mKind F = 0 := by
  unfold x2 at hx
  repeat' split at hx
  all_goals first | exact mNx_k hx | exact mGo_k hx | (cases hx; rfl) | cases hx
theorem x2z_k (f : Int32 → Int32 → Int32) (pc : Nat) (ls : ML) (st : List MV) (h : MH) {F : MS} (hx : x2z f pc ls st h = some F) : mKind F = 0 := by
  unfold x2z at hx
  repeat' split at hx
  all_goals first | exact mNx_k hx | exact mGo_k hx | (cases hx; rfl) | cases hx
theorem xIld_k (i pc len : Nat) (ls : ML) (st : List MV) (h : MH) {F : MS} (hx : xIld i pc len ls st h = some F) : mKind F = 0 := by
  unfold xIld at hx
  repeat' split at hx
  all_goals first | exact mNx_k hx | exact mGo_k hx | (cases hx; rfl) | cases hx
theorem xAld_k (i pc len : Nat) (ls : ML) (st : List MV) (h : MH) {F : MS} (hx : xAld i pc len ls st h = some F) : mKind F = 0 := by
  unfold xAld at hx
  repeat' split at hx
  all_goals first | exact mNx_k hx | exact mGo_k hx | (cases hx; rfl) | cases hx
theorem xIst_k (i pc len : Nat) (ls : ML) (st : List MV) (h : MH) {F : MS} (hx : xIst i pc len ls st h = some F) : mKind F = 0 := by
  unfold xIst at hx
  repeat' split at hx
  all_goals first | exact mNx_k hx | exact mGo_k hx | (cases hx; rfl) | cases hx
theorem xAst_k (i pc len : Nat) (ls : ML) (st : List MV) (h : MH) {F : MS} (hx : xAst i pc len ls st h = some F) : mKind F = 0 := by
  unfold xAst at hx
  repeat' split at hx
  all_goals first | exact mNx_k hx | exact mGo_k hx | (cases hx; rfl) | cases hx
theorem xInc_k (i : Nat) (n : Int) (pc : Nat) (ls : ML) (st : List MV) (h : MH) {F : MS} (hx : xInc i n pc ls st h = some F) : mKind F = 0 := by
  unfold xInc at hx
  repeat' split at hx
  all_goals first | exact mNx_k hx | exact mGo_k hx | (cases hx; rfl) | cases hx
theorem xIf_k (c : ClassFile.Cond) (off : Int) (pc : Nat) (ls : ML) (st : List MV) (h : MH) {F : MS} (hx : xIf c off pc ls st h = some F) : mKind F = 0 := by
  unfold xIf at hx
  repeat' split at hx
  all_goals first | exact mNx_k hx | exact mGo_k hx | (cases hx; rfl) | cases hx
theorem xIcmp_k (c : ClassFile.Cond) (off : Int) (pc : Nat) (ls : ML) (st : List MV) (h : MH) {F : MS} (hx : xIcmp c off pc ls st h = some F) : mKind F = 0 := by
  unfold xIcmp at hx
  repeat' split at hx
  all_goals first | exact mNx_k hx | exact mGo_k hx | (cases hx; rfl) | cases hx
theorem xAcmp_k (c : ClassFile.ACond) (off : Int) (pc : Nat) (ls : ML) (st : List MV) (h : MH) {F : MS} (hx : xAcmp c off pc ls st h = some F) : mKind F = 0 := by
  unfold xAcmp at hx
  repeat' split at hx
  all_goals first | exact mNx_k hx | exact mGo_k hx | (cases hx; rfl) | cases hx
theorem xNull_k (off : Int) (pc : Nat) (ls : ML) (st : List MV) (h : MH) {F : MS} (hx : xNull off pc ls st h = some F) : mKind F = 0 := by
  unfold xNull at hx
  repeat' split at hx
  all_goals first | exact mNx_k hx | exact mGo_k hx | (cases hx; rfl) | cases hx
theorem xNonnull_k (off : Int) (pc : Nat) (ls : ML) (st : List MV) (h : MH) {F : MS} (hx : xNonnull off pc ls st h = some F) : mKind F = 0 := by
  unfold xNonnull at hx
  repeat' split at hx
  all_goals first | exact mNx_k hx | exact mGo_k hx | (cases hx; rfl) | cases hx
theorem xDup_k (pc : Nat) (ls : ML) (st : List MV) (h : MH) {F : MS} (hx : xDup pc ls st h = some F) : mKind F = 0 := by
  unfold xDup at hx
  repeat' split at hx
  all_goals first | exact mNx_k hx | exact mGo_k hx | (cases hx; rfl) | cases hx
theorem xDup2_k (pc : Nat) (ls : ML) (st : List MV) (h : MH) {F : MS} (hx : xDup2 pc ls st h = some F) : mKind F = 0 := by
  unfold xDup2 at hx
  repeat' split at hx
  all_goals first | exact mNx_k hx | exact mGo_k hx | (cases hx; rfl) | cases hx
theorem xDupX1_k (pc : Nat) (ls : ML) (st : List MV) (h : MH) {F : MS} (hx : xDupX1 pc ls st h = some F) : mKind F = 0 := by
  unfold xDupX1 at hx
  repeat' split at hx
  all_goals first | exact mNx_k hx | exact mGo_k hx | (cases hx; rfl) | cases hx
theorem xPop_k (pc : Nat) (ls : ML) (st : List MV) (h : MH) {F : MS} (hx : xPop pc ls st h = some F) : mKind F = 0 := by
  unfold xPop at hx
  repeat' split at hx
  all_goals first | exact mNx_k hx | exact mGo_k hx | (cases hx; rfl) | cases hx
theorem xArrI_k (g : Nat → Bool) (pc : Nat) (ls : ML) (st : List MV) (h : MH) {F : MS} (hx : xArrI g pc ls st h = some F) : mKind F = 0 := by
  unfold xArrI at hx
  repeat' split at hx
  all_goals first | exact mNx_k hx | exact mGo_k hx | (cases hx; rfl) | cases hx
theorem xArrQ_k (pc : Nat) (ls : ML) (st : List MV) (h : MH) {F : MS} (hx : xArrQ pc ls st h = some F) : mKind F = 0 := by
  unfold xArrQ at hx
  repeat' split at hx
  all_goals first | exact mNx_k hx | exact mGo_k hx | (cases hx; rfl) | cases hx
theorem xIastore_k (B pc : Nat) (ls : ML) (st : List MV) (h : MH) {F : MS} (hx : xIastore B pc ls st h = some F) : mKind F = 0 := by
  unfold xIastore at hx
  repeat' split at hx
  all_goals first | exact mNx_k hx | exact mGo_k hx | (cases hx; rfl) | cases hx
theorem xBastore_k (B pc : Nat) (ls : ML) (st : List MV) (h : MH) {F : MS} (hx : xBastore B pc ls st h = some F) : mKind F = 0 := by
  unfold xBastore at hx
  repeat' split at hx
  all_goals first | exact mNx_k hx | exact mGo_k hx | (cases hx; rfl) | cases hx
theorem xAastore_k (B pc : Nat) (ls : ML) (st : List MV) (h : MH) {F : MS} (hx : xAastore B pc ls st h = some F) : mKind F = 0 := by
  unfold xAastore at hx
  repeat' split at hx
  all_goals first | exact mNx_k hx | exact mGo_k hx | (cases hx; rfl) | cases hx
theorem xAlen_k (pc : Nat) (ls : ML) (st : List MV) (h : MH) {F : MS} (hx : xAlen pc ls st h = some F) : mKind F = 0 := by
  unfold xAlen at hx
  repeat' split at hx
  all_goals first | exact mNx_k hx | exact mGo_k hx | (cases hx; rfl) | cases hx
theorem xNewa_k (t : ArrayType) (pc : Nat) (ls : ML) (st : List MV) (h : MH) {F : MS} (hx : xNewa t pc ls st h = some F) : mKind F = 0 := by
  unfold xNewa at hx
  repeat' split at hx
  all_goals first | exact mNx_k hx | exact mGo_k hx | (cases hx; rfl) | cases hx
theorem xAnewa_k (t : Option Nat) (pc : Nat) (ls : ML) (st : List MV) (h : MH) {F : MS} (hx : xAnewa t pc ls st h = some F) : mKind F = 0 := by
  unfold xAnewa at hx
  repeat' split at hx
  all_goals first | exact mNx_k hx | exact mGo_k hx | (cases hx; rfl) | cases hx
theorem xMulti_k (ok : Bool) (pc : Nat) (ls : ML) (st : List MV) (h : MH) {F : MS} (hx : xMulti ok pc ls st h = some F) : mKind F = 0 := by
  unfold xMulti at hx
  repeat' split at hx
  all_goals first | exact mNx_k hx | exact mGo_k hx | (cases hx; rfl) | cases hx
theorem xGetf_k (q : Option (Nat × Nat × FieldType × Bool)) (pc : Nat) (ls : ML) (st : List MV) (h : MH) {F : MS} (hx : xGetf q pc ls st h = some F) : mKind F = 0 := by
  unfold xGetf at hx
  repeat' split at hx
  all_goals first | exact mNx_k hx | exact mGo_k hx | (cases hx; rfl) | cases hx
theorem xPutf_k (B cp : Nat) (q : Option (Nat × Nat × FieldType × Bool)) (isI : Bool) (pc : Nat) (ls : ML) (st : List MV) (h : MH) {F : MS} (hx : xPutf B cp q isI pc ls st h = some F) : mKind F = 0 := by
  unfold xPutf at hx
  repeat' split at hx
  all_goals first | exact mNx_k hx | exact mGo_k hx | (cases hx; rfl) | cases hx
theorem xNew_k (q : Option (Nat × List MV)) (pc : Nat) (ls : ML) (st : List MV) (h : MH) {F : MS} (hx : xNew q pc ls st h = some F) : mKind F = 0 := by
  unfold xNew at hx
  repeat' split at hx
  all_goals first | exact mNx_k hx | exact mGo_k hx | (cases hx; rfl) | cases hx
theorem xCast_k (q : Option Nat) (pc : Nat) (ls : ML) (st : List MV) (h : MH) {F : MS} (hx : xCast q pc ls st h = some F) : mKind F = 0 := by
  unfold xCast at hx
  repeat' split at hx
  all_goals first | exact mNx_k hx | exact mGo_k hx | (cases hx; rfl) | cases hx
theorem xTsw_k (dflt lo hi : Int) (offs : Array Int) (pc : Nat) (ls : ML) (st : List MV) (h : MH) {F : MS} (hx : xTsw dflt lo hi offs pc ls st h = some F) : mKind F = 0 := by
  unfold xTsw at hx
  repeat' split at hx
  all_goals first | exact mNx_k hx | exact mGo_k hx | (cases hx; rfl) | cases hx
theorem xLsw_k (dflt : Int) (ps : Array (Int × Int)) (pc : Nat) (ls : ML) (st : List MV) (h : MH) {F : MS} (hx : xLsw dflt ps pc ls st h = some F) : mKind F = 0 := by
  unfold xLsw at hx
  repeat' split at hx
  all_goals first | exact mNx_k hx | exact mGo_k hx | (cases hx; rfl) | cases hx
theorem xRet_k (ty : Option FieldType) (st : List MV) (h : MH) {F : MS} (hx : xRet ty st h = some F) : mKind F = 2 := by
  unfold xRet at hx
  repeat' split at hx
  all_goals first | exact mNx_k hx | exact mGo_k hx | (cases hx; rfl) | cases hx
theorem xAret_k (ty : Option FieldType) (st : List MV) (h : MH) {F : MS} (hx : xAret ty st h = some F) : mKind F = 2 := by
  unfold xAret at hx
  repeat' split at hx
  all_goals first | exact mNx_k hx | exact mGo_k hx | (cases hx; rfl) | cases hx
theorem xVret_k (ty : Option FieldType) (st : List MV) (h : MH) {F : MS} (hx : xVret ty st h = some F) : mKind F = 2 := by
  unfold xVret at hx
  repeat' split at hx
  all_goals first | exact mNx_k hx | exact mGo_k hx | (cases hx; rfl) | cases hx
theorem xThrow_k (st : List MV) (h : MH) {F : MS} (hx : xThrow st h = some F) : mKind F = 3 := by
  unfold xThrow at hx
  repeat' split at hx
  all_goals first | exact mNx_k hx | exact mGo_k hx | (cases hx; rfl) | cases hx
theorem xConst_k (M : MRec) (sv : Nat → Option Nat) (i pc : Nat) (ls : ML) (st : List MV) (h : MH) {F : MS} (hx : xConst M sv i pc ls st h = some F) : mKind F = 0 := by
  unfold xConst at hx
  repeat' split at hx
  all_goals first | exact mNx_k hx | exact mGo_k hx | (cases hx; rfl) | cases hx
theorem xStat_k (M : MRec) (sv : Nat → Option Nat) (i pc : Nat) (ls : ML) (st : List MV) (h : MH) {F : MS} (hx : xStat M sv i pc ls st h = some F) : mKind F = 0 := by
  unfold xStat at hx
  repeat' split at hx
  all_goals first | exact mNx_k hx | exact mGo_k hx | (cases hx; rfl) | cases hx
theorem xCopy_k (B pc : Nat) (ls : ML) (st : List MV) (h : MH) {F : MS} (hx : xCopy B pc ls st h = some F) : mKind F = 0 := by
  unfold xCopy at hx
  repeat' split at hx
  all_goals first | exact mNx_k hx | exact mGo_k hx | (cases hx; rfl) | cases hx
theorem xMirror_k (sv : Nat → Option Nat) (pc : Nat) (ls : ML) (st : List MV) (h : MH) {F : MS} (hx : xMirror sv pc ls st h = some F) : mKind F = 0 := by
  unfold xMirror at hx
  repeat' split at hx
  all_goals first | exact mNx_k hx | exact mGo_k hx | (cases hx; rfl) | cases hx
theorem xObj_k (pc : Nat) (ls : ML) (st : List MV) (h : MH) {F : MS} (hx : xObj pc ls st h = some F) : mKind F = 0 := by
  unfold xObj at hx
  repeat' split at hx
  all_goals first | exact mNx_k hx | cases hx
theorem xMath_k (mn : Bool) (pc : Nat) (ls : ML) (st : List MV) (h : MH) {F : MS} (hx : xMath mn pc ls st h = some F) : mKind F = 0 := by
  unfold xMath at hx
  repeat' split at hx
  all_goals first | exact mNx_k hx | cases hx
theorem xCallV_k (q : Option (MRec × Nat × Nat)) (len pc : Nat) (st : List MV) (h : MH) {F : MS} (hx : xCallV q len pc st h = some F) : mKind F = 1 := by
  unfold xCallV at hx
  repeat' split at hx
  all_goals first | exact mNx_k hx | exact mGo_k hx | (cases hx; rfl) | cases hx
theorem xCallI_k (q : Option (MRec × Nat)) (pc : Nat) (st : List MV) (h : MH) {F : MS} (hx : xCallI q pc st h = some F) : mKind F = 1 := by
  unfold xCallI at hx
  repeat' split at hx
  all_goals first | exact mNx_k hx | exact mGo_k hx | (cases hx; rfl) | cases hx
theorem xCallS_k (q : Option (MRec × Nat)) (pc : Nat) (st : List MV) (h : MH) {F : MS} (hx : xCallS q pc st h = some F) : mKind F = 1 := by
  unfold xCallS at hx
  repeat' split at hx
  all_goals first | exact mNx_k hx | exact mGo_k hx | (cases hx; rfl) | cases hx
def exK (i : Instr) (F : MS) : Prop := (mKind F = 2 → iRet i = true) ∧ (mKind F = 3 → iThr i = true) ∧ (mKind F = 1 → iCall i = true)
theorem exK0 {i : Instr} {F : MS} (h : mKind F = 0) : exK i F := ⟨fun q => (by rw [h] at q; cases q), fun q => (by rw [h] at q; cases q), fun q => (by rw [h] at q; cases q)⟩
theorem exK1 {i : Instr} {F : MS} (h : mKind F = 1) (g : iCall i = true) : exK i F := ⟨fun q => (by rw [h] at q; cases q), fun q => (by rw [h] at q; cases q), fun _ => g⟩
theorem exK2 {i : Instr} {F : MS} (h : mKind F = 2) (g : iRet i = true) : exK i F := ⟨fun _ => g, fun q => (by rw [h] at q; cases q), fun q => (by rw [h] at q; cases q)⟩
theorem exK3 {i : Instr} {F : MS} (h : mKind F = 3) (g : iThr i = true) : exK i F := ⟨fun q => (by rw [h] at q; cases q), fun _ => g, fun q => (by rw [h] at q; cases q)⟩
theorem ex_kind {B : Nat} {sv : Nat → Option Nat} {M : MRec} {pc : Nat} {ls : ML} {st : List MV} {h : MH} {i : Instr} {F : MS} (hx : ex B sv M pc ls st h i = some F) : exK i F := by
  unfold ex at hx
  split at hx
  all_goals first
    | exact exK0 (mNx_k hx)
    | exact exK0 (mGo_k hx)
    | exact exK0 (xC_k _ _ _ _ _ _ hx)
    | exact exK0 (x1_k _ _ _ _ _ hx)
    | exact exK0 (x2_k _ _ _ _ _ hx)
    | exact exK0 (x2z_k _ _ _ _ _ hx)
    | exact exK0 (xIld_k _ _ _ _ _ _ hx)
    | exact exK0 (xAld_k _ _ _ _ _ _ hx)
    | exact exK0 (xIst_k _ _ _ _ _ _ hx)
    | exact exK0 (xAst_k _ _ _ _ _ _ hx)
    | exact exK0 (xInc_k _ _ _ _ _ _ hx)
    | exact exK0 (xIf_k _ _ _ _ _ _ hx)
    | exact exK0 (xIcmp_k _ _ _ _ _ _ hx)
    | exact exK0 (xAcmp_k _ _ _ _ _ _ hx)
    | exact exK0 (xNull_k _ _ _ _ _ hx)
    | exact exK0 (xNonnull_k _ _ _ _ _ hx)
    | exact exK0 (xDup_k _ _ _ _ hx)
    | exact exK0 (xDup2_k _ _ _ _ hx)
    | exact exK0 (xDupX1_k _ _ _ _ hx)
    | exact exK0 (xPop_k _ _ _ _ hx)
    | exact exK0 (xArrI_k _ _ _ _ _ hx)
    | exact exK0 (xArrQ_k _ _ _ _ hx)
    | exact exK0 (xIastore_k _ _ _ _ _ hx)
    | exact exK0 (xBastore_k _ _ _ _ _ hx)
    | exact exK0 (xAastore_k _ _ _ _ _ hx)
    | exact exK0 (xAlen_k _ _ _ _ hx)
    | exact exK0 (xNewa_k _ _ _ _ _ hx)
    | exact exK0 (xAnewa_k _ _ _ _ _ hx)
    | exact exK0 (xMulti_k _ _ _ _ _ hx)
    | exact exK0 (xGetf_k _ _ _ _ _ hx)
    | exact exK0 (xPutf_k _ _ _ _ _ _ _ _ hx)
    | exact exK0 (xNew_k _ _ _ _ _ hx)
    | exact exK0 (xCast_k _ _ _ _ _ hx)
    | exact exK0 (xTsw_k _ _ _ _ _ _ _ _ hx)
    | exact exK0 (xLsw_k _ _ _ _ _ _ hx)
    | exact exK2 (xRet_k _ _ _ hx) rfl
    | exact exK2 (xAret_k _ _ _ hx) rfl
    | exact exK2 (xVret_k _ _ _ hx) rfl
    | exact exK3 (xThrow_k _ _ hx) rfl
    | exact exK0 (xConst_k _ _ _ _ _ _ _ hx)
    | exact exK0 (xStat_k _ _ _ _ _ _ _ hx)
    | exact exK0 (xCopy_k _ _ _ _ _ hx)
    | exact exK0 (xMirror_k _ _ _ _ _ hx)
    | exact exK1 (xCallV_k _ _ _ _ _ hx) rfl
    | exact exK1 (xCallI_k _ _ _ _ hx) rfl
    | exact exK1 (xCallS_k _ _ _ _ hx) rfl
    | (split at hx <;> first | exact exK0 (xMirror_k _ _ _ _ _ hx) | exact exK1 (xCallV_k _ _ _ _ _ hx) rfl | exact exK0 (xCopy_k _ _ _ _ _ hx) | exact exK0 (xObj_k _ _ _ _ hx) | exact exK1 (xCallI_k _ _ _ _ hx) rfl | (split at hx <;> first | exact exK0 (xMath_k _ _ _ _ _ hx) | exact exK1 (xCallS_k _ _ _ _ hx) rfl))
    | cases hx
