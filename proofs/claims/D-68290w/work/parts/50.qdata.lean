/-! L2d: data by field and owner, ints and longs as integers. Dt: what changes; Gt: the graph of objects; Ct: top, cells, slots -/
def i32 (x : Int) : Int32 := Int32.ofInt x
def i64 (x : Int) : Int64 := Int64.ofInt x
abbrev in32 (x : Int) : Prop := -2147483648 ≤ x ∧ x ≤ 2147483647
abbrev in64 (x : Int) : Prop := -9223372036854775808 ≤ x ∧ x ≤ 9223372036854775807
def w32 (x : Int) : Int := (x + 2147483648) % 4294967296 - 2147483648
def w64 (x : Int) : Int := (x + 9223372036854775808) % 18446744073709551616 - 9223372036854775808
def tob (x : Int) : Int := (x + 128) % 256 - 128
def tos (x : Int) : Int := (x + 32768) % 65536 - 32768
def p2 (y : Int) : Int := 2 ^ (y % 32).toNat
def p2l (y : Int) : Int := 2 ^ (y % 64).toNat
def ush (x y : Int) : Int := w32 (x % 4294967296 / p2 y)
def ushl (x y : Int) : Int := w64 (x % 18446744073709551616 / p2l y)
def band (x y : Int) : Int := (BitVec.ofInt 64 x &&& BitVec.ofInt 64 y).toInt
def bor (x y : Int) : Int := (BitVec.ofInt 64 x ||| BitVec.ofInt 64 y).toInt
def bxor (x y : Int) : Int := (BitVec.ofInt 64 x ^^^ BitVec.ofInt 64 y).toInt
abbrev bzi (v : Int) : Prop := v = 0 ∨ v = 1
def tqbl (l : List Int32) (i : Int) : Option Int := if 0 ≤ i ∧ i < l.length then some (l.getD i.toNat 0).toInt else none
def tqPART : Int → Option Int := tqbl tPART
def tqNEXT : Int → Option Int := tqbl tNEXT
def tqOTHER : Int → Option Int := tqbl tOTHER
def Dt : Type := (Nat → Nat → Int) × (Nat → Nat → Int) × (Nat → Nat → Option Nat) × (Nat → Nat → Int → Int) × (Nat → Nat → Int → Int) × (Nat → Nat → Int → UInt32) × (Nat → Nat → Int → Option Nat) × (Nat → Nat → Nat)
def Gt : Type := (Nat → Nat) × (Nat → Nat → Nat) × (Nat → Nat → Int → Nat) × (Nat → Nat → Int → Option Nat) × (Nat → Nat → Nat) × (Nat → Nat)
abbrev Ct : Type := Nat × Nat × Nat
def d_I (D : Dt) (i a : Nat) : Int := D.1 i a
def d_L (D : Dt) (i a : Nat) : Int := D.2.1 i a
def d_R (D : Dt) (i a : Nat) : Option Nat := D.2.2.1 i a
def d_A (D : Dt) (i a : Nat) (j : Int) : Int := D.2.2.2.1 i a j
def d_J (D : Dt) (i a : Nat) (j : Int) : Int := D.2.2.2.2.1 i a j
def d_F (D : Dt) (i a : Nat) (j : Int) : UInt32 := D.2.2.2.2.2.1 i a j
def d_q (D : Dt) (i a : Nat) (j : Int) : Option Nat := D.2.2.2.2.2.2.1 i a j
def d_N (D : Dt) (i a : Nat) : Nat := D.2.2.2.2.2.2.2 i a
def up3 {α : Type} (f : Nat → Nat → Int → α) (i a : Nat) (j : Int) (v : α) : Nat → Nat → Int → α := fun x y z => if x = i ∧ y = a ∧ z = j then v else f x y z
def u_I (D : Dt) (i a : Nat) (v : Int) : Dt := (up2 D.1 i a v, D.2)
def u_L (D : Dt) (i a : Nat) (v : Int) : Dt := (D.1, up2 D.2.1 i a v, D.2.2)
def u_R (D : Dt) (i a : Nat) (v : Option Nat) : Dt := (D.1, D.2.1, up2 D.2.2.1 i a v, D.2.2.2)
def u_A (D : Dt) (i a : Nat) (j : Int) (v : Int) : Dt := (D.1, D.2.1, D.2.2.1, up3 D.2.2.2.1 i a j v, D.2.2.2.2)
def u_J (D : Dt) (i a : Nat) (j : Int) (v : Int) : Dt := (D.1, D.2.1, D.2.2.1, D.2.2.2.1, up3 D.2.2.2.2.1 i a j v, D.2.2.2.2.2)
def u_F (D : Dt) (i a : Nat) (j : Int) (v : UInt32) : Dt := (D.1, D.2.1, D.2.2.1, D.2.2.2.1, D.2.2.2.2.1, up3 D.2.2.2.2.2.1 i a j v, D.2.2.2.2.2.2)
def u_q (D : Dt) (i a : Nat) (j : Int) (v : Option Nat) : Dt := (D.1, D.2.1, D.2.2.1, D.2.2.2.1, D.2.2.2.2.1, D.2.2.2.2.2.1, up3 D.2.2.2.2.2.2.1 i a j v, D.2.2.2.2.2.2.2)
/-- a whole row of ints, and a length -/
def u_W (D : Dt) (i a : Nat) (v : Int → Int) : Dt := (D.1, D.2.1, D.2.2.1, up2 D.2.2.2.1 i a v, D.2.2.2.2)
def u_N (D : Dt) (i a : Nat) (v : Nat) : Dt := (D.1, D.2.1, D.2.2.1, D.2.2.2.1, D.2.2.2.2.1, D.2.2.2.2.2.1, D.2.2.2.2.2.2.1, up2 D.2.2.2.2.2.2.2 i a v)
def s_ (G : Gt) (c : Nat) : Nat := G.1 c
def z_P (G : Gt) (i a : Nat) : Nat := G.2.1 i a
def z_E (G : Gt) (i a : Nat) (j : Int) : Nat := G.2.2.1 i a j
def z_Q (G : Gt) (i a : Nat) (j : Int) : Option Nat := G.2.2.2.1 i a j
def z_N (G : Gt) (i a : Nat) : Nat := G.2.2.2.2.1 i a
def z_K (G : Gt) (a : Nat) : Nat := G.2.2.2.2.2 a
def w_P (G : Gt) (i a v : Nat) : Gt := (G.1, up2 G.2.1 i a v, G.2.2)
def w_E (G : Gt) (i a : Nat) (j : Int) (v : Nat) : Gt := (G.1, G.2.1, up3 G.2.2.1 i a j v, G.2.2.2)
def w_Q (G : Gt) (i a : Nat) (j : Int) (v : Option Nat) : Gt := (G.1, G.2.1, G.2.2.1, up3 G.2.2.2.1 i a j v, G.2.2.2.2)
def w_N (G : Gt) (i a v : Nat) : Gt := (G.1, G.2.1, G.2.2.1, G.2.2.2.1, up2 G.2.2.2.2.1 i a v, G.2.2.2.2.2)
def w_K (G : Gt) (a v : Nat) : Gt := (G.1, G.2.1, G.2.2.1, G.2.2.2.1, G.2.2.2.2.1, up1 G.2.2.2.2.2 a v)
/-- one more object, of n places -/
def c_al (c : Ct) (n : Nat) : Ct := (c.1 + 1, c.2.1 + 1, c.2.2 + n)
abbrev inb (j n : Int) : Prop := 0 ≤ j ∧ j < n
def l_A (D : Dt) (n : Int) (i a : Nat) (j : Int) : Option Int := if inb j n then some (d_A D i a j) else none
def l_J (D : Dt) (n : Int) (i a : Nat) (j : Int) : Option Int := if inb j n then some (d_J D i a j) else none
def l_F (D : Dt) (n : Int) (i a : Nat) (j : Int) : Option UInt32 := if inb j n then some (d_F D i a j) else none
def l_q (D : Dt) (n : Int) (i a : Nat) (j : Int) : Option (Option Nat) := if inb j n then some (d_q D i a j) else none
def l_E (G : Gt) (n : Int) (i a : Nat) (j : Int) : Option Nat := if inb j n then some (z_E G i a j) else none
def l_Q (G : Gt) (n : Int) (i a : Nat) (j : Int) : Option (Option Nat) := if inb j n then some (z_Q G i a j) else none
def t_A (D : Dt) (n : Int) (i a : Nat) (j v : Int) : Option Dt := if inb j n then some (u_A D i a j v) else none
def t_J (D : Dt) (n : Int) (i a : Nat) (j : Int) (v : Int) : Option Dt := if inb j n then some (u_J D i a j v) else none
def t_F (D : Dt) (n : Int) (i a : Nat) (j : Int) (v : UInt32) : Option Dt := if inb j n then some (u_F D i a j v) else none
def t_q (D : Dt) (n : Int) (i a : Nat) (j : Int) (v : Option Nat) : Option Dt := if inb j n then some (u_q D i a j v) else none
def t_Q (G : Gt) (n : Int) (i a : Nat) (j : Int) (v : Option Nat) : Option Gt := if inb j n then some (w_Q G i a j v) else none
/-- System.arraycopy of bytes between two fields -/
def a_cp (D : Dt) (n : Int) (i a : Nat) (j n' : Int) (i' a' : Nat) (j' m : Int) : Option Dt :=
  if 0 ≤ j ∧ 0 ≤ j' ∧ 0 ≤ m ∧ j + m ≤ n ∧ j' + m ≤ n' then
    some (u_W D i' a' fun y => if j' ≤ y ∧ y < j' + m then d_A D i a (y - j' + j) else d_A D i' a' y)
  else none
/-- behind a call that may throw -/
def tht {α β S : Type} (x : Option ((α ⊕ Nat) × S)) (k : α → S → Option ((β ⊕ Nat) × S)) : Option ((β ⊕ Nat) × S) := match x with
  | some (.inl v, s) => k v s
  | some (.inr e, s) => some (.inr e, s)
  | none => none
def thu {α β S S' : Type} (l : S → S') (x : Option ((α ⊕ Nat) × S)) (k : α → S → Option ((β ⊕ Nat) × S')) : Option ((β ⊕ Nat) × S') := match x with
  | some (.inl v, s) => k v s
  | some (.inr e, s) => some (.inr e, l s)
  | none => none
/-! rows of bytes that grow -/
def growB (D : Dt) (i a : Nat) (c : Ct) (z : Int) : Option (Dt × Ct) :=
  if z = d_N D i a then
    if 2 * d_N D i a ≤ 262144 ∧ 0 < d_N D i a then some (u_N (u_W D i a fun y => if y < z then d_A D i a y else 0) i a (2 * d_N D i a), c_al c (2 * d_N D i a)) else none
  else some (D, c)
def q_X37_add (x1 : Int) (G : Gt) (D : Dt) (c : Ct) : Option (Dt × Ct) :=
  bnd (growB D 3700 (s_ G 37) c (d_I D 3701 (s_ G 37))) fun p =>
  bnd (t_A p.1 (d_N p.1 3700 (s_ G 37)) 3700 (s_ G 37) (d_I p.1 3701 (s_ G 37)) (tob x1)) fun d =>
  gd (in32 (d_I p.1 3701 (s_ G 37) + 1)) <|
  some (u_I d 3701 (s_ G 37) (d_I p.1 3701 (s_ G 37) + 1), p.2)
def q_X45_add (a0 : Nat) (x1 : Int) (G : Gt) (D : Dt) (c : Ct) : Option (Dt × Ct) :=
  bnd (growB D 4500 a0 c (d_I D 4501 a0)) fun p =>
  bnd (t_A p.1 (d_N p.1 4500 a0) 4500 a0 (d_I p.1 4501 a0) (tob x1)) fun d =>
  gd (in32 (d_I p.1 4501 a0 + 1)) <|
  some (u_I d 4501 a0 (d_I p.1 4501 a0 + 1), p.2)
/-! objects made later. A new object's data are 0 -/
def mkA (G : Gt) (c : Ct) (kd n : Nat) : Gt × Ct := (w_K G c.1 kd, c_al c n)
def c_ar (c : Ct) (n : Nat) : Ct := c_al c n
def mk_77 (D : Dt) (G : Gt) (c : Ct) : Option (Dt × Gt × Ct) := some (D, mkA G c 78 6)
def mk_68 (D : Dt) (G : Gt) (c : Ct) : Option (Dt × Gt × Ct) := some (D, mkA G c 69 11)
def mk_22 (D : Dt) (G : Gt) (c : Ct) : Option (Dt × Gt × Ct) := some (D, mkA G c 23 6)
def mk_65 (D : Dt) (G : Gt) (c : Ct) : Option (Dt × Gt × Ct) := some (D, (mkA G c 66 15).1, c_ar (c_ar (c_ar (mkA G c 66 15).2 33) 33) 97)
def mk_6 (D : Dt) (G : Gt) (c : Ct) : Option (Dt × Gt × Ct) := some (D, (mkA G c 7 1).1, c_ar (mkA G c 7 1).2 6)
def mk_67 (D : Dt) (G : Gt) (c : Ct) : Option (Dt × Gt × Ct) := some (D, (mkA G c 68 7).1, c_ar (c_ar (mkA G c 68 7).2 33) 33)
def mk_72 (D : Dt) (G : Gt) (c : Ct) : Option (Dt × Gt × Ct) := some (D, (mkA G c 73 7).1, c_ar (c_ar (mkA G c 73 7).2 33) 33)
def mk_71 (D : Dt) (G : Gt) (c : Ct) : Option (Dt × Gt × Ct) := some (D, (mkA G c 72 4).1, c_ar (mkA G c 72 4).2 1024)
def mk_70 (D : Dt) (G : Gt) (c : Ct) (x1 : Int) (_r2 : Nat) : Option (Dt × Gt × Ct) := some (u_I D 7000 c.1 x1, mkA G c 71 8)
def mk_76 (D : Dt) (G : Gt) (c : Ct) (x1 : Int) (r2 r3 : Nat) : Option (Dt × Gt × Ct) := some (u_I D 7600 c.1 x1, w_P (w_P (mkA G c 77 5).1 7601 c.1 r2) 7602 c.1 r3, (mkA G c 77 5).2)
/-- a part: its area, its row of 33 levels; a level: its area, its row of bands; a band: its area -/
def mkArea (G : Gt) (c : Ct) : Gt × Ct := mkA G c 25 4
def mkBand (D : Dt) (G : Gt) (c : Ct) (n : Int) : Dt × Gt × Ct :=
  let p := mkA G c 76 6
  let q := mkArea p.1 p.2
  (u_I D 7500 c.1 n, w_P q.1 7501 c.1 p.2.1, q.2)
def mkBands (l : Nat) (f : Nat → Int) : Nat → Nat → Dt → Gt → Ct → Dt × Gt × Ct
  | 0, _, D, G, c => (D, G, c)
  | n + 1, k, D, G, c =>
    let p := mkBand D G c (f k)
    mkBands l f n (k + 1) p.1 (w_E p.2.1 7402 l k c.1) p.2.2
def mkLevel (D : Dt) (G : Gt) (c : Ct) (r : Nat) : Dt × Gt × Ct :=
  let p := mkA G c 75 7
  let q := mkArea p.1 p.2
  let n := if r = 0 then 1 else 3
  mkBands c.1 (fun k => if r = 0 then 0 else ((k : Int) + 1)) n 0 (u_I D 7400 c.1 (r : Int)) (w_N (w_P q.1 7401 c.1 p.2.1) 7402 c.1 n) (c_ar q.2 n)
def mkLevels (a : Nat) : Nat → Nat → Dt → Gt → Ct → Dt × Gt × Ct
  | 0, _, D, G, c => (D, G, c)
  | n + 1, r, D, G, c =>
    let p := mkLevel D G c r
    mkLevels a n (r + 1) p.1 (w_E p.2.1 7301 a r c.1) p.2.2
def mk_73 (D : Dt) (G : Gt) (c : Ct) : Option (Dt × Gt × Ct) :=
  let p := mkA G c 74 3
  let q := mkArea p.1 p.2
  some (mkLevels c.1 33 0 D (w_P q.1 7300 c.1 p.2.1) (c_ar q.2 33))
