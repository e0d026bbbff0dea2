/-! specifications, printed by gen/mks.py -/
set_option maxRecDepth 100000
/-- what an order is told: the tile, the components, their steps, levels, precincts -/
abbrev Od : Type := (Int × Int × Int × Int) × Int × Fz × Fz × Fz × (Int → Int → Int) × (Int → Int → Int)
def oX0 (o : Od) : Int := o.1.1
def oY0 (o : Od) : Int := o.1.2.1
def oX1 (o : Od) : Int := o.1.2.2.1
def oY1 (o : Od) : Int := o.1.2.2.2
def oNC (o : Od) : Int := o.2.1
def oDX (o : Od) : Fz := o.2.2.1
def oDY (o : Od) : Fz := o.2.2.2.1
def oNL (o : Od) : Fz := o.2.2.2.2.1
def oWD (o : Od) : Int → Int → Int := o.2.2.2.2.2.1
def oHG (o : Od) : Int → Int → Int := o.2.2.2.2.2.2
def OdOk (o : Od) : Prop := (0 ≤ oX0 o ∧ oX0 o < oX1 o ∧ oX1 o ≤ 32767) ∧ (0 ≤ oY0 o ∧ oY0 o < oY1 o ∧ oY1 o ≤ 32767) ∧ (0 ≤ oNC o ∧ oNC o ≤ 16) ∧ (∀ c, 0 ≤ c → c < oNC o → 1 ≤ oDX o c ∧ oDX o c ≤ 255 ∧ 1 ≤ oDY o c ∧ oDY o c ≤ 255 ∧ 0 ≤ oNL o c ∧ oNL o c ≤ 32) ∧ (∀ c r, 0 ≤ c → c < oNC o → 0 ≤ r → r ≤ oNL o c → 0 ≤ oWD o c r ∧ oWD o c r ≤ 15 ∧ 0 ≤ oHG o c r ∧ oHG o c r ≤ 15)
/-- powers of two as longs -/
theorem pl_lit {y : Int} (h : 0 ≤ y ∧ y ≤ 62) : p2l y = 2 ^ y.toNat := by unfold p2l; rw [Int.emod_eq_of_lt h.1 (by omega)]
theorem pl_mul {x y : Int} (h : 0 ≤ x ∧ 0 ≤ y ∧ x + y ≤ 62) : p2l x * p2l y = p2l (x + y) := by
  rw [pl_lit (by omega), pl_lit (by omega), pl_lit (by omega), ← Int.pow_add]
  congr 1; omega
theorem pl_pos {y : Int} : 1 ≤ p2l y := by
  unfold p2l
  exact_mod_cast Nat.one_le_two_pow
theorem pl_p2 {y : Int} (h : 0 ≤ y ∧ y ≤ 30) : p2l y = p2 y := by rw [pl_lit (by omega), p2_lit h]
theorem pl_0 : p2l 0 = 1 := by decide
theorem pl_1 : p2l 1 = 2 := by decide
theorem pl_mo {x y : Int} (h : 0 ≤ x ∧ x ≤ y ∧ y ≤ 62) : p2l x ≤ p2l y := by
  rw [pl_lit (by omega), pl_lit (by omega)]
  exact_mod_cast Nat.pow_le_pow_right (by omega) (by omega)
theorem pl_40 {y : Int} (h : 0 ≤ y ∧ y ≤ 40) : 1 ≤ p2l y ∧ p2l y ≤ 1099511627776 := by
  have a := pl_mo (x := y) (y := 40) (by omega)
  rw [show p2l 40 = 1099511627776 by decide] at a
  exact ⟨pl_pos, a⟩
/-- divided upwards -/
def otU (a b : Int) : Int := (a + b - 1) / b
theorem otU_r {a b : Int} (ha : 0 ≤ a) (hb : 1 ≤ b) : 0 ≤ otU a b ∧ otU a b ≤ a := by
  unfold otU
  refine ⟨Int.ediv_nonneg (by omega) (by omega), ?_⟩
  have : (a + b - 1) / b < a + 1 := Int.ediv_lt_of_lt_mul (by omega) (by
    have h1 : a * 1 ≤ a * b := Int.mul_le_mul_of_nonneg_left hb ha
    rw [Int.add_mul, Int.one_mul]; omega)
  omega
theorem otU_t {a b : Int} (ha : 0 ≤ a) (hb : 1 ≤ b) : Int.tdiv (a + b - 1) b = otU a b := Int.tdiv_eq_ediv_of_nonneg (by omega)
theorem otU_1 {a : Int} : otU a 1 = a := by unfold otU; rw [Int.ediv_one]; omega
theorem otU_0 {b : Int} (hb : 1 ≤ b) : otU 0 b = 0 := by unfold otU; exact Int.ediv_eq_zero_of_lt (by omega) (by omega)
/-- halved upwards once more -/
theorem otU_2 {a n : Int} (h : 0 ≤ n ∧ n ≤ 60) : (otU a (p2l n) + 1) / 2 = otU a (p2l (n + 1)) := by
  have p := pl_pos (y := n)
  have e : p2l (n + 1) = p2l n * 2 := by rw [← pl_mul (by omega), pl_1]
  unfold otU
  rw [e, ← Int.ediv_ediv_of_nonneg (by omega)]
  congr 1
  rw [show a + p2l n * 2 - 1 = (a + p2l n - 1) + p2l n * 1 by omega, Int.add_mul_ediv_left _ _ (by omega)]
theorem otU_ub {a b : Int} (hb : 1 ≤ b) : (otU a b - 1) * b ≤ a - 1 := by
  unfold otU
  have := Int.ediv_mul_le (a + b - 1) (show b ≠ 0 by omega)
  rw [Int.sub_mul, Int.one_mul]; omega
theorem otU_lb {a b : Int} (hb : 1 ≤ b) : a ≤ otU a b * b := by
  unfold otU
  have h := Int.lt_ediv_add_one_mul_self (a + b - 1) (show 0 < b by omega)
  rw [Int.add_mul, Int.one_mul] at h; omega
/-- a level's rectangle -/
def olX (o : Od) (a c r : Int) : Int := otU (otU a (oDX o c)) (p2l (oNL o c - r))
def olY (o : Od) (a c r : Int) : Int := otU (otU a (oDY o c)) (p2l (oNL o c - r))
def olA (o : Od) (c r : Int) : Int := if olX o (oX1 o) c r ≤ olX o (oX0 o) c r ∨ olY o (oY1 o) c r ≤ olY o (oY0 o) c r then 0 else (olX o (oX1 o) c r - 1) / p2 (oWD o c r) - olX o (oX0 o) c r / p2 (oWD o c r) + 1
def olB (o : Od) (c r : Int) : Int := if olX o (oX1 o) c r ≤ olX o (oX0 o) c r ∨ olY o (oY1 o) c r ≤ olY o (oY0 o) c r then 0 else (olY o (oY1 o) c r - 1) / p2 (oHG o c r) - olY o (oY0 o) c r / p2 (oHG o c r) + 1
def olP (o : Od) (c r : Int) : Int := olA o c r * olB o c r
def olI (o : Od) (c r p : Int) : Int := olX o (oX0 o) c r / p2 (oWD o c r) + p % olA o c r
def olJ (o : Od) (c r p : Int) : Int := olY o (oY0 o) c r / p2 (oHG o c r) + p / olA o c r
/-- a precinct's place -/
def opX (o : Od) (c r p : Int) : Int := max (oX0 o) (olI o c r p * p2l (oWD o c r + (oNL o c - r)) * oDX o c)
def opY (o : Od) (c r p : Int) : Int := max (oY0 o) (olJ o c r p * p2l (oHG o c r + (oNL o c - r)) * oDY o c)
/-- where a level's precincts begin among all -/
def olF (o : Od) (c : Int) : Nat → Int
  | 0 => 0
  | n + 1 => olF o c n + olP o c n
def ocF (o : Od) : Nat → Int
  | 0 => 0
  | n + 1 => ocF o n + olF o n (oNL o n + 1).toNat
def opF (o : Od) (c r : Int) : Int := ocF o c.toNat + olF o c r.toNat
def opN (o : Od) : Int := ocF o (oNC o).toNat
theorem ol_r {o : Od} (h : OdOk o) {c r : Int} (c0 : 0 ≤ c) (c1 : c < oNC o) (r0 : 0 ≤ r) (r1 : r ≤ oNL o c) : (0 ≤ olX o (oX0 o) c r ∧ olX o (oX0 o) c r ≤ 32767) ∧ (0 ≤ olX o (oX1 o) c r ∧ olX o (oX1 o) c r ≤ 32767) ∧ (0 ≤ olY o (oY0 o) c r ∧ olY o (oY0 o) c r ≤ 32767) ∧ (0 ≤ olY o (oY1 o) c r ∧ olY o (oY1 o) c r ≤ 32767) := by
  obtain ⟨x, y, -, k, -⟩ := h
  have d := k c c0 c1
  have p := pl_pos (y := oNL o c - r)
  have q : ∀ a d : Int, 0 ≤ a → a ≤ 32767 → 1 ≤ d → 0 ≤ otU (otU a d) (p2l (oNL o c - r)) ∧ otU (otU a d) (p2l (oNL o c - r)) ≤ 32767 := fun a d a0 a1 d1 => by
    have u := otU_r a0 d1
    have v := otU_r u.1 p
    omega
  exact ⟨q _ _ (by omega) (by omega) (by omega), q _ _ (by omega) (by omega) (by omega), q _ _ (by omega) (by omega) (by omega), q _ _ (by omega) (by omega) (by omega)⟩
theorem dv_r {a b w : Int} (h0 : 0 ≤ a) (h1 : a < b) (hb : b ≤ 32767) (hw : 1 ≤ w) : 1 ≤ (b - 1) / w - a / w + 1 ∧ (b - 1) / w - a / w + 1 ≤ 32767 ∧ 0 ≤ a / w ∧ a / w ≤ (b - 1) / w ∧ (b - 1) / w ≤ 32766 := by
  have x := Int.ediv_le_ediv (c := w) (by omega) (show a ≤ b - 1 by omega)
  have y : 0 ≤ a / w := Int.ediv_nonneg h0 (by omega)
  have z : (b - 1) / w ≤ b - 1 := Int.ediv_le_self _ (by omega)
  omega
theorem olA_r {o : Od} (h : OdOk o) {c r : Int} (c0 : 0 ≤ c) (c1 : c < oNC o) (r0 : 0 ≤ r) (r1 : r ≤ oNL o c) : (0 ≤ olA o c r ∧ olA o c r ≤ 32767) ∧ (0 ≤ olB o c r ∧ olB o c r ≤ 32767) ∧ (olA o c r = 0 ↔ olB o c r = 0) := by
  have b := ol_r h c0 c1 r0 r1
  unfold olA olB
  split
  · exact ⟨by omega, by omega, by omega⟩
  · have x := dv_r (w := p2 (oWD o c r)) b.1.1 (show olX o (oX0 o) c r < olX o (oX1 o) c r by omega) b.2.1.2 (p2_pos _)
    have y := dv_r (w := p2 (oHG o c r)) b.2.2.1.1 (show olY o (oY0 o) c r < olY o (oY1 o) c r by omega) b.2.2.2.2 (p2_pos _)
    omega
theorem olP_r {o : Od} (h : OdOk o) {c r : Int} (c0 : 0 ≤ c) (c1 : c < oNC o) (r0 : 0 ≤ r) (r1 : r ≤ oNL o c) : 0 ≤ olP o c r ∧ olP o c r ≤ 1073676289 := by
  obtain ⟨a, b, -⟩ := olA_r h c0 c1 r0 r1
  refine ⟨Int.mul_nonneg a.1 b.1, ?_⟩
  have := Int.mul_le_mul a.2 b.2 b.1 (by omega)
  exact this
/-- a place's bound -/
theorem co_b {i w n A d X : Int} (hi : 0 ≤ i) (hX : X = otU A (p2l n)) (h1 : i ≤ (X - 1) / p2 w) (hw : 0 ≤ w ∧ w ≤ 15) (hn : 0 ≤ n ∧ n ≤ 32) (hA : 1 ≤ A ∧ A ≤ 32767) (hd : 1 ≤ d ∧ d ≤ 255) : 0 ≤ i * p2l (w + n) ∧ i * p2l (w + n) ≤ 32767 ∧ 0 ≤ i * p2l (w + n) * d ∧ i * p2l (w + n) * d ≤ 8355585 := by
  have pw := p2_pos w
  have pn := pl_pos (y := n)
  have a : i * p2 w ≤ X - 1 := by
    have := Int.mul_le_mul_of_nonneg_right h1 (show 0 ≤ p2 w by omega)
    have := Int.ediv_mul_le (X - 1) (show p2 w ≠ 0 by omega)
    omega
  have b : (X - 1) * p2l n ≤ A - 1 := by rw [hX]; exact otU_ub pn
  have e : i * p2l (w + n) = i * p2 w * p2l n := by rw [Int.mul_assoc, ← pl_p2 (y := w) (by omega), pl_mul (by omega)]
  have c : i * p2l (w + n) ≤ 32767 := by
    rw [e]
    have := Int.mul_le_mul_of_nonneg_right a (show 0 ≤ p2l n by omega)
    omega
  have f : 0 ≤ i * p2l (w + n) := Int.mul_nonneg hi (by have := pl_pos (y := w + n); omega)
  refine ⟨f, c, Int.mul_nonneg f (by omega), ?_⟩
  exact Int.mul_le_mul c hd.2 (by omega) (by omega)
theorem co_m {p a i0 X w : Int} (h0 : 0 ≤ p) (ha : 1 ≤ a) (hi : 0 ≤ i0) (e : a = (X - 1) / w - i0 + 1) : 0 ≤ i0 + p % a ∧ i0 + p % a ≤ (X - 1) / w := by
  have x := Int.emod_nonneg p (show a ≠ 0 by omega)
  have y := Int.emod_lt_of_pos p (show 0 < a by omega)
  omega
theorem co_d {p a b i0 X w : Int} (h0 : 0 ≤ p) (ha : 1 ≤ a) (hp : p < a * b) (hi : 0 ≤ i0) (e : b = (X - 1) / w - i0 + 1) : 0 ≤ i0 + p / a ∧ i0 + p / a ≤ (X - 1) / w := by
  have x := Int.ediv_nonneg h0 (show 0 ≤ a by omega)
  have y : p / a < b := Int.ediv_lt_of_lt_mul (by omega) (by rw [Int.mul_comm]; exact hp)
  omega
theorem op_b {o : Od} (h : OdOk o) {c r p : Int} (c0 : 0 ≤ c) (c1 : c < oNC o) (r0 : 0 ≤ r) (r1 : r ≤ oNL o c) (p0 : 0 ≤ p) (p1 : p < olP o c r) : (1 ≤ olA o c r ∧ 1 ≤ olB o c r) ∧ (0 ≤ olI o c r p ∧ olI o c r p ≤ 32767) ∧ (0 ≤ olJ o c r p ∧ olJ o c r p ≤ 32767) ∧ (0 ≤ olI o c r p * p2l (oWD o c r + (oNL o c - r)) ∧ olI o c r p * p2l (oWD o c r + (oNL o c - r)) ≤ 32767 ∧ 0 ≤ olI o c r p * p2l (oWD o c r + (oNL o c - r)) * oDX o c ∧ olI o c r p * p2l (oWD o c r + (oNL o c - r)) * oDX o c ≤ 8355585) ∧ (0 ≤ olJ o c r p * p2l (oHG o c r + (oNL o c - r)) ∧ olJ o c r p * p2l (oHG o c r + (oNL o c - r)) ≤ 32767 ∧ 0 ≤ olJ o c r p * p2l (oHG o c r + (oNL o c - r)) * oDY o c ∧ olJ o c r p * p2l (oHG o c r + (oNL o c - r)) * oDY o c ≤ 8355585) := by
  have b := ol_r h c0 c1 r0 r1
  have g := olA_r h c0 c1 r0 r1
  have d := h.2.2.2.1 c c0 c1
  have wh := h.2.2.2.2 c r c0 c1 r0 r1
  have A1 : 1 ≤ olA o c r ∧ 1 ≤ olB o c r := by
    have : olA o c r ≠ 0 := fun z => by unfold olP at p1; rw [z, Int.zero_mul] at p1; omega
    omega
  have nE : ¬ (olX o (oX1 o) c r ≤ olX o (oX0 o) c r ∨ olY o (oY1 o) c r ≤ olY o (oY0 o) c r) := fun z => by
    have : olA o c r = 0 := by unfold olA; rw [if_pos z]
    omega
  have eA : olA o c r = (olX o (oX1 o) c r - 1) / p2 (oWD o c r) - olX o (oX0 o) c r / p2 (oWD o c r) + 1 := by unfold olA; rw [if_neg nE]
  have eB : olB o c r = (olY o (oY1 o) c r - 1) / p2 (oHG o c r) - olY o (oY0 o) c r / p2 (oHG o c r) + 1 := by unfold olB; rw [if_neg nE]
  have x := dv_r (w := p2 (oWD o c r)) b.1.1 (show olX o (oX0 o) c r < olX o (oX1 o) c r by omega) b.2.1.2 (p2_pos _)
  have y := dv_r (w := p2 (oHG o c r)) b.2.2.1.1 (show olY o (oY0 o) c r < olY o (oY1 o) c r by omega) b.2.2.2.2 (p2_pos _)
  have mx := co_m (p := p) p0 A1.1 x.2.2.1 eA
  have my := co_d (p := p) p0 A1.1 p1 y.2.2.1 eB
  have ux := otU_r (a := oX1 o) (b := oDX o c) (by have := h.1; omega) (by omega)
  have uy := otU_r (a := oY1 o) (b := oDY o c) (by have := h.2.1; omega) (by omega)
  have vx : 1 ≤ otU (oX1 o) (oDX o c) := by
    have l := otU_lb (a := oX1 o) (b := oDX o c) (by omega)
    refine Int.not_lt.mp fun z => ?_
    have z0 : otU (oX1 o) (oDX o c) = 0 := by omega
    rw [z0, Int.zero_mul] at l; have := h.1; omega
  have vy : 1 ≤ otU (oY1 o) (oDY o c) := by
    have l := otU_lb (a := oY1 o) (b := oDY o c) (by omega)
    refine Int.not_lt.mp fun z => ?_
    have z0 : otU (oY1 o) (oDY o c) = 0 := by omega
    rw [z0, Int.zero_mul] at l; have := h.2.1; omega
  have hx := co_b (i := olI o c r p) (w := oWD o c r) (n := oNL o c - r) (A := otU (oX1 o) (oDX o c)) (d := oDX o c) (X := olX o (oX1 o) c r) mx.1 rfl mx.2 (by omega) (by omega) ⟨vx, by have := h.1; omega⟩ (by omega)
  have hy := co_b (i := olJ o c r p) (w := oHG o c r) (n := oNL o c - r) (A := otU (oY1 o) (oDY o c)) (d := oDY o c) (X := olY o (oY1 o) c r) my.1 rfl my.2 (by omega) (by omega) ⟨vy, by have := h.2.1; omega⟩ (by omega)
  have ei : olI o c r p = olX o (oX0 o) c r / p2 (oWD o c r) + p % olA o c r := rfl
  have ej : olJ o c r p = olY o (oY0 o) c r / p2 (oHG o c r) + p / olA o c r := rfl
  exact ⟨A1, by omega, by omega, hx, hy⟩
