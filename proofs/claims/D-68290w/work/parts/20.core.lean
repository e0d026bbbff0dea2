/-! L1: the abstract heap: four maps of values by address and place, kinds, lengths, the next address, what was made so far -/
abbrev Hp : Type := ((Nat → Nat → Int32) × (Nat → Nat → Int64) × (Nat → Nat → UInt32) × (Nat → Nat → Option Nat)) × ((Nat → Nat) × (Nat → Nat) × Nat × Nat × Nat)
def gI (σ : Hp) (a k : Nat) : Int32 := σ.1.1 a k
def gL (σ : Hp) (a k : Nat) : Int64 := σ.1.2.1 a k
def gF (σ : Hp) (a k : Nat) : UInt32 := σ.1.2.2.1 a k
def gR (σ : Hp) (a k : Nat) : Option Nat := σ.1.2.2.2 a k
def gK (σ : Hp) (a : Nat) : Nat := σ.2.1 a
def gN (σ : Hp) (a : Nat) : Nat := σ.2.2.1 a
def gT (σ : Hp) : Nat := σ.2.2.2.1
def gC (σ : Hp) : Nat := σ.2.2.2.2.1
def gS (σ : Hp) : Nat := σ.2.2.2.2.2
def up2 {α : Type} (f : Nat → Nat → α) (a k : Nat) (v : α) : Nat → Nat → α := fun x y => if x = a ∧ y = k then v else f x y
def up1 {α : Type} (f : Nat → α) (a : Nat) (v : α) : Nat → α := fun x => if x = a then v else f x
def cl2 {α : Type} (f : Nat → Nat → α) (a : Nat) (v : α) : Nat → Nat → α := fun x y => if x = a then v else f x y
def sI (σ : Hp) (a k : Nat) (v : Int32) : Hp := ((up2 σ.1.1 a k v, σ.1.2), σ.2)
def sL (σ : Hp) (a k : Nat) (v : Int64) : Hp := ((σ.1.1, up2 σ.1.2.1 a k v, σ.1.2.2), σ.2)
def sF (σ : Hp) (a k : Nat) (v : UInt32) : Hp := ((σ.1.1, σ.1.2.1, up2 σ.1.2.2.1 a k v, σ.1.2.2.2), σ.2)
def sR (σ : Hp) (a k : Nat) (v : Option Nat) : Hp := ((σ.1.1, σ.1.2.1, σ.1.2.2.1, up2 σ.1.2.2.2 a k v), σ.2)
/-- a new cell of kind kd with n places, all as at first -/
def al (σ : Hp) (kd n : Nat) : Hp := ((cl2 σ.1.1 (gT σ) 0, cl2 σ.1.2.1 (gT σ) 0, cl2 σ.1.2.2.1 (gT σ) 0, cl2 σ.1.2.2.2 (gT σ) none), (up1 σ.2.1 (gT σ) kd, up1 σ.2.2.1 (gT σ) n, gT σ + 1, gC σ + 1, gS σ + n))
/-- what only grows -/
def Tp (σ : Hp) : Prop := ∀ a, gT σ ≤ a → gK σ a = 0
def Mo (σ τ : Hp) : Prop := Tp τ ∧ gC σ ≤ gC τ ∧ gS σ ≤ gS τ ∧ gT σ ≤ gT τ ∧ ∀ a, gK σ a ≠ 0 → gK τ a = gK σ a ∧ gN τ a = gN σ a
theorem Mo.rf {σ : Hp} (h : Tp σ) : Mo σ σ := ⟨h, Nat.le_refl _, Nat.le_refl _, Nat.le_refl _, fun _ _ => ⟨rfl, rfl⟩⟩
theorem Mo.tr {σ τ υ : Hp} (h : Mo σ τ) (k : Mo τ υ) : Mo σ υ := ⟨k.1, Nat.le_trans h.2.1 k.2.1, Nat.le_trans h.2.2.1 k.2.2.1, Nat.le_trans h.2.2.2.1 k.2.2.2.1, fun a ha => by
  have h1 := h.2.2.2.2 a ha
  have h2 := k.2.2.2.2 a (by rw [h1.1]; exact ha)
  exact ⟨h2.1.trans h1.1, h2.2.trans h1.2⟩⟩
theorem Mo.k {σ τ : Hp} (h : Mo σ τ) {a n : Nat} (hk : gK σ a = n) (hn : Nat.ble 1 n = true) : gK τ a = n := (h.2.2.2.2 a (by rw [hk]; exact fun z => by subst z; cases hn)).1.trans hk
/-- guards -/
def gd {α : Type} (c : Prop) [Decidable c] (x : Option α) : Option α := if c then x else none
theorem gd_some {α : Type} {c : Prop} [Decidable c] {x : Option α} {y : α} (h : gd c x = some y) : c ∧ x = some y := by
  unfold gd at h
  by_cases hc : c
  · rw [if_pos hc] at h; exact ⟨hc, h⟩
  · rw [if_neg hc] at h; cases h
def bnd {α β : Type} (x : Option α) (k : α → Option β) : Option β := match x with
  | some a => k a
  | none => none
theorem bnd_some {α β : Type} {x : Option α} {k : α → Option β} {y : β} (h : bnd x k = some y) : ∃ a, x = some a ∧ k a = some y := by
  cases x with
  | none => cases h
  | some a => exact ⟨a, rfl, h⟩
def lett {α β : Type} (x : α) (k : α → β) : β := k x
/-- a reference that isn't null, to a cell of kind n -/
def nn (σ : Hp) (r : Option Nat) (n : Nat) : Option Nat := match r with
  | some b => if gK σ b = n then some b else none
  | none => none
theorem nn_some {σ : Hp} {r : Option Nat} {n b : Nat} (h : nn σ r n = some b) : r = some b ∧ gK σ b = n := by
  cases r with
  | none => cases h
  | some a =>
    unfold nn at h
    by_cases hc : gK σ a = n
    · rw [show (match some a with | some b => if gK σ b = n then some b else none | none => none) = if gK σ a = n then some a else none from rfl, if_pos hc] at h
      cases h; exact ⟨rfl, hc⟩
    · rw [show (match some a with | some b => if gK σ b = n then some b else none | none => none) = if gK σ a = n then some a else none from rfl, if_neg hc] at h
      cases h
def ix (i : Int32) (n : Nat) : Prop := 0 ≤ i ∧ i.toNatClampNeg < n
def ldI (σ : Hp) (b : Nat) (i : Int32) : Option Int32 := if 0 ≤ i ∧ i.toNatClampNeg < gN σ b then some (gI σ b i.toNatClampNeg) else none
def ldL (σ : Hp) (b : Nat) (i : Int32) : Option Int64 := if 0 ≤ i ∧ i.toNatClampNeg < gN σ b then some (gL σ b i.toNatClampNeg) else none
def ldF (σ : Hp) (b : Nat) (i : Int32) : Option UInt32 := if 0 ≤ i ∧ i.toNatClampNeg < gN σ b then some (gF σ b i.toNatClampNeg) else none
def ldR (σ : Hp) (b : Nat) (i : Int32) : Option (Option Nat) := if 0 ≤ i ∧ i.toNatClampNeg < gN σ b then some (gR σ b i.toNatClampNeg) else none
def stI (σ : Hp) (b : Nat) (i v : Int32) : Option Hp := if 0 ≤ i ∧ i.toNatClampNeg < gN σ b then some (sI σ b i.toNatClampNeg v) else none
def stL (σ : Hp) (b : Nat) (i : Int32) (v : Int64) : Option Hp := if 0 ≤ i ∧ i.toNatClampNeg < gN σ b then some (sL σ b i.toNatClampNeg v) else none
def stF (σ : Hp) (b : Nat) (i : Int32) (v : UInt32) : Option Hp := if 0 ≤ i ∧ i.toNatClampNeg < gN σ b then some (sF σ b i.toNatClampNeg v) else none
def stR (σ : Hp) (b : Nat) (i : Int32) (v : Option Nat) : Option Hp := if 0 ≤ i ∧ i.toNatClampNeg < gN σ b then some (sR σ b i.toNatClampNeg v) else none
theorem if_some {α : Type} {c : Prop} [Decidable c] {x y : α} (h : (if c then some x else none) = some y) : c ∧ x = y := by
  by_cases hc : c
  · rw [if_pos hc] at h; cases h; exact ⟨hc, rfl⟩
  · rw [if_neg hc] at h; cases h
/-- a new array of kind kd; n is not below 0 and not too great -/
def nwA (σ : Hp) (kd : Nat) (n : Int32) : Option Hp := if 0 ≤ n ∧ n.toNatClampNeg ≤ 262144 then some (al σ kd n.toNatClampNeg) else none
/-- small ints -/
def toB (x : Int32) : Int32 := x.toInt8.toInt32
def toS (x : Int32) : Int32 := x.toInt16.toInt32
/-! more of ints -/
def iush (x y : Int32) : Int32 := (x.toUInt32 >>> (y.toUInt32 &&& Int32.toUInt32 31)).toInt32
def irm (x y : Int32) : Int32 := x - x / y * y
def lush (x : Int64) (y : Int32) : Int64 := (x.toUInt64 >>> (y.toInt64.toUInt64 &&& Int64.toUInt64 63)).toInt64
