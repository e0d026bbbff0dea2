/-! L2: what the shallow functions are written with -/
def lett2 {α β γ : Type} (x : α × β) (k : α → β → γ) : γ := k x.1 x.2
def bnd2 {α β γ : Type} (x : Option (α × β)) (k : α → β → Option γ) : Option γ := match x with
  | some p => k p.1 p.2
  | none => none
/-- behind a call that may throw -/
def thr {α β : Type} (x : Option ((α ⊕ Nat) × Hp)) (k : α → Hp → Option ((β ⊕ Nat) × Hp)) : Option ((β ⊕ Nat) × Hp) := match x with
  | some (.inl v, s) => k v s
  | some (.inr e, s) => some (.inr e, s)
  | none => none
/-- a reference that isn't null, to a cell of one of the kinds ks -/
def nnM (σ : Hp) (r : Option Nat) (ks : List Nat) : Option Nat := match r with
  | some b => if gK σ b ∈ ks then some b else none
  | none => none
def lenI (σ : Hp) (a : Nat) : Int32 := Int32.ofNat (gN σ a)
abbrev bz (v : Int32) : Prop := v = 0 ∨ v = 1
/-- a result that isn't a NaN -/
def ok32 (r : UInt32) : Option UInt32 := if r &&& 0x7fffffff ≤ 0x7f800000 then some r else none
def ok64 (r : UInt64) : Option UInt64 := if r &&& 0x7fffffffffffffff ≤ 0x7ff0000000000000 then some r else none
def lrm (x y : Int64) : Int64 := x - x / y * y
def tPART : List Int32 := [22017, 13313, 6145, 2753, 1313, 545, 22017, 21505, 18433, 14337, 12289, 9217, 7169, 5633, 22017, 21505, 20737, 18433, 14337, 13313, 12289, 10241, 9217, 8705,
  7169, 6145, 5633, 5121, 4609, 4353, 2753, 2497, 2209, 1313, 1089, 673, 545, 321, 273, 133, 73, 37, 21, 9, 5, 1, 22017]
def tNEXT : List Int32 := [1, 2, 3, 4, 5, 38, 7, 8, 9, 10, 11, 12, 13, 29, 15, 16, 17, 18, 19, 20, 21, 22, 23, 24,
  25, 26, 27, 28, 29, 30, 31, 32, 33, 34, 35, 36, 37, 38, 39, 40, 41, 42, 43, 44, 45, 45, 46]
def tOTHER : List Int32 := [1, 6, 9, 12, 29, 33, 6, 14, 14, 14, 17, 18, 20, 21, 14, 14, 15, 16, 17, 18, 19, 19, 20, 21,
  22, 23, 24, 25, 26, 27, 28, 29, 30, 31, 32, 33, 34, 35, 36, 37, 38, 39, 40, 41, 42, 43, 46]
def tbl (l : List Int32) (i : Int32) : Option Int32 := if 0 ≤ i ∧ i.toNatClampNeg < l.length then some (l.getD i.toNatClampNeg 0) else none
def tbPART : Int32 → Option Int32 := tbl tPART
def tbNEXT : Int32 → Option Int32 := tbl tNEXT
def tbOTHER : Int32 → Option Int32 := tbl tOTHER
/-- System.arraycopy of ints or bytes -/
def acpm (σ : Hp) (a i b j n : Nat) : Hp := ((fun x y => if x = b ∧ j ≤ y ∧ y < j + n then gI σ a (y - j + i) else gI σ x y, σ.1.2), σ.2)
def acp (σ : Hp) (a : Nat) (i : Int32) (b : Nat) (j n : Int32) : Option Hp :=
  if 0 ≤ i ∧ 0 ≤ j ∧ 0 ≤ n ∧ i.toNatClampNeg + n.toNatClampNeg ≤ gN σ a ∧ j.toNatClampNeg + n.toNatClampNeg ≤ gN σ b ∧ gK σ a = gK σ b then some (acpm σ a i.toNatClampNeg b j.toNatClampNeg n.toNatClampNeg) else none
/-- Math.negativeZeroFloatBits -/
def nzf : Int64 := -2147483648
/-! java.lang.Math -/
def mmax (x y : Int32) : Int32 := if x < y then y else x
def mmin (x y : Int32) : Int32 := if y < x then y else x
def mabs (x : Int32) : Int32 := if 0 ≤ x then x else 0 - x
def mmaxl (x y : Int64) : Int64 := if y < x then x else y
def mminl (x y : Int64) : Int64 := if y < x then y else x
def fmx (a b : UInt32) : Option UInt32 := if FP.fIsNaN a = true ∨ FP.fIsNaN b = true then none else some (Jvm.Native.java_lang_Math.nans.pick32 true a b)
def fmn (a b : UInt32) : Option UInt32 := if FP.fIsNaN a = true ∨ FP.fIsNaN b = true then none else some (Jvm.Native.java_lang_Math.nans.pick32 false a b)
