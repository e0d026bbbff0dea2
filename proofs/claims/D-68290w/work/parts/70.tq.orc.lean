/-! specifications, printed by gen/mks.py -/
set_option maxRecDepth 100000
/-- a part's objects: where a level begins, how many bands it has -/
def loN (r : Nat) : Nat := if r = 0 then 0 else 9 * r - 4
def nbN (r : Nat) : Nat := if r = 0 then 1 else 3
theorem nbN_r (r : Nat) : 1 ≤ nbN r ∧ nbN r ≤ 3 := by unfold nbN; split <;> omega
theorem loN_s (r : Nat) : loN (r + 1) = loN r + 3 + 2 * nbN r := by unfold loN nbN; split <;> split <;> omega
theorem loN_m {r s : Nat} (h : r < s) : loN r + 3 + 2 * nbN r ≤ loN s := by unfold loN nbN; split <;> split <;> omega
theorem loN_u {r : Nat} (h : r < 33) : loN r + 3 + 2 * nbN r ≤ 293 := by unfold loN nbN; split <;> omega
def LvOb (G : Gt) (l r : Nat) : Prop := z_P G 7401 l = l + 1 ∧ z_N G 7402 l = nbN r ∧ ∀ j : Nat, j < nbN r → z_E G 7402 l (j : Int) = l + 3 + 2 * j ∧ z_P G 7501 (l + 3 + 2 * j) = l + 4 + 2 * j
def LvDa (D : Dt) (l r : Nat) : Prop := d_I D 7400 l = (r : Int) ∧ ∀ j : Nat, j < nbN r → d_I D 7500 (l + 3 + 2 * j) = if r = 0 then 0 else (j : Int) + 1
def PtA (G : Gt) (pt : Nat) : Prop := z_P G 7300 pt = pt + 1 ∧ ∀ r : Nat, r < 33 → z_E G 7301 pt (r : Int) = pt + 3 + loN r ∧ LvOb G (pt + 3 + loN r) r
def PtD (D : Dt) (pt : Nat) : Prop := ∀ r : Nat, r < 33 → LvDa D (pt + 3 + loN r) r
/-- the same below b -/
def GtX (b : Nat) (G G' : Gt) : Prop := s_ G' = s_ G ∧ (∀ i a, a < b → z_P G' i a = z_P G i a) ∧ (∀ i a j, a < b → z_E G' i a j = z_E G i a j) ∧ (∀ i a, a < b → z_N G' i a = z_N G i a) ∧ ∀ i a j, z_Q G' i a j = z_Q G i a j
def DtX (b : Nat) (D D' : Dt) : Prop := ∀ i a, a < b → d_I D' i a = d_I D i a
theorem zP_w {G : Gt} {i a v k b : Nat} : z_P (w_P G i a v) k b = if k = i ∧ b = a then v else z_P G k b := rfl
theorem zE_w {G : Gt} {i a v k b : Nat} {j l : Int} : z_E (w_E G i a j v) k b l = if k = i ∧ b = a ∧ l = j then v else z_E G k b l := rfl
theorem zN_w {G : Gt} {i a v k b : Nat} : z_N (w_N G i a v) k b = if k = i ∧ b = a then v else z_N G k b := rfl
/-- bands laid out -/
theorem mkBands_s (l : Nat) (f : Nat → Int) (n : Nat) : ∀ (k : Nat) (D : Dt) (G : Gt) (c : Ct), 
    let R := mkBands l f n k D G c
    R.2.2.1 = c.1 + 2 * n ∧ (s_ R.2.1 = s_ G ∧ (∀ i a j, z_Q R.2.1 i a j = z_Q G i a j) ∧ (∀ i a, z_N R.2.1 i a = z_N G i a) ∧ (∀ i a, ¬ (i = 7501 ∧ c.1 ≤ a) → z_P R.2.1 i a = z_P G i a) ∧ (∀ i a j, ¬ (i = 7402 ∧ a = l ∧ (k : Int) ≤ j) → z_E R.2.1 i a j = z_E G i a j) ∧ (∀ i a, ¬ (i = 7500 ∧ c.1 ≤ a) → d_I R.1 i a = d_I D i a)) ∧
    ∀ j : Nat, j < n → z_E R.2.1 7402 l ((k + j : Nat) : Int) = c.1 + 2 * j ∧ z_P R.2.1 7501 (c.1 + 2 * j) = c.1 + 1 + 2 * j ∧ d_I R.1 7500 (c.1 + 2 * j) = f (k + j) := by
  induction n with
  | zero => intro k D G c; exact ⟨rfl, ⟨rfl, fun _ _ _ => rfl, fun _ _ => rfl, fun _ _ _ => rfl, fun _ _ _ _ => rfl, fun _ _ _ => rfl⟩, fun j h => absurd h (by omega)⟩
  | succ n ih =>
    intro k D G c
    have h := ih (k + 1) (mkBand D G c (f k)).1 (w_E (mkBand D G c (f k)).2.1 7402 l k c.1) (mkBand D G c (f k)).2.2
    have e : mkBands l f (n + 1) k D G c = mkBands l f n (k + 1) (mkBand D G c (f k)).1 (w_E (mkBand D G c (f k)).2.1 7402 l k c.1) (mkBand D G c (f k)).2.2 := rfl
    rw [e]
    have c1 : (mkBand D G c (f k)).2.2.1 = c.1 + 2 := rfl
    have gP : ∀ i a, z_P (w_E (mkBand D G c (f k)).2.1 7402 l k c.1) i a = if i = 7501 ∧ a = c.1 then c.1 + 1 else z_P G i a := fun _ _ => rfl
    have gE : ∀ i a j, z_E (w_E (mkBand D G c (f k)).2.1 7402 l k c.1) i a j = if i = 7402 ∧ a = l ∧ j = (k : Int) then c.1 else z_E G i a j := fun _ _ _ => rfl
    have gI : ∀ i a, d_I (mkBand D G c (f k)).1 i a = if i = 7500 ∧ a = c.1 then f k else d_I D i a := fun _ _ => rfl
    dsimp only at h ⊢
    obtain ⟨h1, ⟨h2, h3, h4, h5, h6, h7⟩, h8⟩ := h
    rw [c1] at h1 h5 h7 h8
    refine ⟨by rw [h1]; omega, ⟨h2, fun i a j => h3 i a j, fun i a => h4 i a, fun i a n => ?_, fun i a j n => ?_, fun i a n => ?_⟩, fun j hj => ?_⟩
    · rw [h5 i a (by omega), gP, if_neg (by omega)]
    · rw [h6 i a j (by omega), gE, if_neg (by omega)]
    · rw [h7 i a (by omega), gI, if_neg (by omega)]
    · cases j with
      | zero =>
        refine ⟨?_, ?_, ?_⟩
        · rw [h6 _ _ _ (by omega), gE, if_pos ⟨rfl, rfl, by omega⟩]; rfl
        · rw [h5 _ _ (by omega), gP, if_pos ⟨rfl, rfl⟩]
        · rw [h7 _ _ (by omega), gI, if_pos ⟨rfl, rfl⟩]; rfl
      | succ j =>
        have h := h8 j (by omega)
        rw [show k + 1 + j = k + (j + 1) by omega, show c.1 + 2 + 2 * j = c.1 + 2 * (j + 1) by omega, show c.1 + 2 + 1 + 2 * j = c.1 + 1 + 2 * (j + 1) by omega] at h
        exact h
theorem mkBands_T (l : Nat) (f : Nat → Int) (hf : ∀ k, k < 3 → 0 ≤ f k ∧ f k ≤ 3) (n : Nat) : ∀ (k : Nat) (D : Dt) (G : Gt) (c : Ct), k + n ≤ 3 → Ty D → Ty (mkBands l f n k D G c).1 := by
  induction n with
  | zero => intro k D G c _ h; exact h
  | succ n ih =>
    intro k D G c kn h
    exact ih (k + 1) _ _ _ (by omega) (tyI_7500 (v := f k) rfl h (by have := hf k (by omega); omega))
/-- one level laid out -/
theorem mkLevel_s {D : Dt} {G : Gt} {c : Ct} {r : Nat} :
    let R := mkLevel D G c r
    R.2.2.1 = c.1 + 3 + 2 * nbN r ∧ (s_ R.2.1 = s_ G ∧ (∀ i a j, z_Q R.2.1 i a j = z_Q G i a j) ∧ (∀ i a, a < c.1 → z_N R.2.1 i a = z_N G i a) ∧ (∀ i a, a < c.1 → z_P R.2.1 i a = z_P G i a) ∧ (∀ i a j, a < c.1 → z_E R.2.1 i a j = z_E G i a j) ∧ DtX c.1 D R.1) ∧ LvOb R.2.1 c.1 r ∧ LvDa R.1 c.1 r := by
  have e : mkLevel D G c r = mkBands c.1 (fun k => if r = 0 then 0 else ((k : Int) + 1)) (nbN r) 0 (u_I D 7400 c.1 (r : Int)) (w_N (w_P (w_K (w_K G c.1 75) (c.1 + 1) 25) 7401 c.1 (c.1 + 1)) 7402 c.1 (nbN r)) (c_ar (c_al (c_al c 7) 4) (nbN r)) := rfl
  have h := mkBands_s c.1 (fun k => if r = 0 then 0 else ((k : Int) + 1)) (nbN r) 0 (u_I D 7400 c.1 (r : Int)) (w_N (w_P (w_K (w_K G c.1 75) (c.1 + 1) 25) 7401 c.1 (c.1 + 1)) 7402 c.1 (nbN r)) (c_ar (c_al (c_al c 7) 4) (nbN r))
  rw [← e] at h
  have c1 : (c_ar (c_al (c_al c 7) 4) (nbN r)).1 = c.1 + 3 := rfl
  have gP : ∀ i a, z_P (w_N (w_P (w_K (w_K G c.1 75) (c.1 + 1) 25) 7401 c.1 (c.1 + 1)) 7402 c.1 (nbN r)) i a = if i = 7401 ∧ a = c.1 then c.1 + 1 else z_P G i a := fun _ _ => rfl
  have gN : ∀ i a, z_N (w_N (w_P (w_K (w_K G c.1 75) (c.1 + 1) 25) 7401 c.1 (c.1 + 1)) 7402 c.1 (nbN r)) i a = if i = 7402 ∧ a = c.1 then nbN r else z_N G i a := fun _ _ => rfl
  have gI : ∀ i a, d_I (u_I D 7400 c.1 (r : Int)) i a = if i = 7400 ∧ a = c.1 then (r : Int) else d_I D i a := fun _ _ => rfl
  dsimp only at h ⊢
  obtain ⟨h1, ⟨h2, h3, h4, h5, h6, h7⟩, h8⟩ := h
  rw [c1] at h1 h5 h7 h8
  refine ⟨by rw [h1], ⟨h2, fun i a j => h3 i a j, fun i a l => ?_, fun i a l => ?_, fun i a j l => ?_, fun i a l => ?_⟩, ⟨?_, ?_, fun j hj => ?_⟩, ?_, fun j hj => ?_⟩
  · rw [h4, gN, if_neg (by omega)]
  · rw [h5 _ _ (by omega), gP, if_neg (by omega)]
  · rw [h6 _ _ _ (by omega)]; rfl
  · rw [h7 _ _ (by omega), gI, if_neg (by omega)]
  · rw [h5 _ _ (by omega), gP, if_pos ⟨rfl, rfl⟩]
  · rw [h4, gN, if_pos ⟨rfl, rfl⟩]
  · have h := h8 j hj
    rw [show 0 + j = j by omega] at h
    exact ⟨h.1, by rw [h.2.1]⟩
  · rw [h7 _ _ (by omega), gI, if_pos ⟨rfl, rfl⟩]
  · have h := h8 j hj
    rw [show 0 + j = j by omega] at h
    exact h.2.2
theorem mkLevel_T {D : Dt} {G : Gt} {c : Ct} {r : Nat} (hr : r < 33) (h : Ty D) : Ty (mkLevel D G c r).1 :=
  mkBands_T c.1 (fun k => if r = 0 then 0 else ((k : Int) + 1)) (fun k hk => by split <;> omega) (nbN r) 0 (u_I D 7400 c.1 (r : Int)) _ _ (by have := nbN_r r; omega) (tyI_7400 rfl h (by omega))
theorem LvOb.x {G G' : Gt} {l r b : Nat} (h : LvOb G l r) (hb : l + 3 + 2 * nbN r ≤ b) (eP : ∀ i a, a < b → z_P G' i a = z_P G i a) (eE : ∀ i a j, ¬ (i = 7301) → a < b → z_E G' i a j = z_E G i a j) (eN : ∀ i a, a < b → z_N G' i a = z_N G i a) : LvOb G' l r := by
  have nn := nbN_r r
  refine ⟨by rw [eP _ _ (by omega)]; exact h.1, by rw [eN _ _ (by omega)]; exact h.2.1, fun j hj => ?_⟩
  rw [eE _ _ _ (by decide) (by omega), eP _ _ (by omega)]
  exact h.2.2 j hj
theorem LvDa.x {D D' : Dt} {l r b : Nat} (h : LvDa D l r) (hb : l + 3 + 2 * nbN r ≤ b) (e : DtX b D D') : LvDa D' l r := by
  have nn := nbN_r r
  refine ⟨by rw [e _ _ (by omega)]; exact h.1, fun j hj => ?_⟩
  rw [e _ _ (by omega)]
  exact h.2 j hj
theorem mkLevels_s (a : Nat) (n : Nat) : ∀ (r : Nat) (D : Dt) (G : Gt) (c : Ct), a < c.1 →
    let R := mkLevels a n r D G c
    R.2.2.1 + loN r = c.1 + loN (r + n) ∧ (s_ R.2.1 = s_ G ∧ (∀ i a j, z_Q R.2.1 i a j = z_Q G i a j) ∧ (∀ i a, a < c.1 → z_N R.2.1 i a = z_N G i a) ∧ (∀ i a, a < c.1 → z_P R.2.1 i a = z_P G i a) ∧ (∀ i b j, ¬ (i = 7301 ∧ b = a ∧ (r : Int) ≤ j) → b < c.1 → z_E R.2.1 i b j = z_E G i b j) ∧ DtX c.1 D R.1) ∧
    ∀ j : Nat, r ≤ j → j < r + n → z_E R.2.1 7301 a (j : Int) + loN r = c.1 + loN j ∧ LvOb R.2.1 (z_E R.2.1 7301 a (j : Int)) j ∧ LvDa R.1 (z_E R.2.1 7301 a (j : Int)) j := by
  induction n with
  | zero => intro r D G c _; exact ⟨rfl, ⟨rfl, fun _ _ _ => rfl, fun _ _ _ => rfl, fun _ _ _ => rfl, fun _ _ _ _ _ => rfl, fun _ _ _ => rfl⟩, fun j h k => absurd k (by omega)⟩
  | succ n ih =>
    intro r D G c ac
    have e : mkLevels a (n + 1) r D G c = mkLevels a n (r + 1) (mkLevel D G c r).1 (w_E (mkLevel D G c r).2.1 7301 a r c.1) (mkLevel D G c r).2.2 := rfl
    rw [e]
    have k := mkLevel_s (D := D) (G := G) (c := c) (r := r)
    dsimp only at k
    obtain ⟨k1, ⟨k2, k3, k4, k5, k6, k7⟩, k8, k9⟩ := k
    have h := ih (r + 1) (mkLevel D G c r).1 (w_E (mkLevel D G c r).2.1 7301 a r c.1) (mkLevel D G c r).2.2 (by omega)
    dsimp only at h ⊢
    obtain ⟨h1, ⟨h2, h3, h4, h5, h6, h7⟩, h8⟩ := h
    have ls := loN_s r
    have gP : ∀ i b, z_P (w_E (mkLevel D G c r).2.1 7301 a r c.1) i b = z_P (mkLevel D G c r).2.1 i b := fun _ _ => rfl
    have gN : ∀ i b, z_N (w_E (mkLevel D G c r).2.1 7301 a r c.1) i b = z_N (mkLevel D G c r).2.1 i b := fun _ _ => rfl
    have gE : ∀ i b j, z_E (w_E (mkLevel D G c r).2.1 7301 a r c.1) i b j = if i = 7301 ∧ b = a ∧ j = (r : Int) then c.1 else z_E (mkLevel D G c r).2.1 i b j := fun _ _ _ => rfl
    refine ⟨by rw [show r + (n + 1) = r + 1 + n by omega]; omega, ⟨h2.trans k2, fun i a j => (h3 i a j).trans (k3 i a j), fun i b l => ?_, fun i b l => ?_, fun i b j z l => ?_, fun i b l => ?_⟩, fun j r0 r1 => ?_⟩
    · rw [h4 _ _ (by omega), gN]; exact k4 _ _ l
    · rw [h5 _ _ (by omega), gP]; exact k5 _ _ l
    · rw [h6 _ _ _ (by omega) (by omega), gE, if_neg (by omega)]; exact k6 _ _ _ l
    · rw [h7 _ _ (by omega)]; exact k7 _ _ l
    · by_cases y : j = r
      · subst y
        have ez : z_E (mkLevels a n (j + 1) (mkLevel D G c j).1 (w_E (mkLevel D G c j).2.1 7301 a j c.1) (mkLevel D G c j).2.2).2.1 7301 a (j : Int) = c.1 := by rw [h6 _ _ _ (by omega) (by omega), gE, if_pos ⟨rfl, rfl, rfl⟩]
        rw [ez]
        refine ⟨rfl, k8.x (b := (mkLevel D G c j).2.2.1) (by omega) (fun i b l => by rw [h5 _ _ l]; rfl) (fun i b m n7 l => by rw [h6 _ _ _ (by omega) l, gE, if_neg (by omega)]) (fun i b l => by rw [h4 _ _ l]; rfl), k9.x (b := (mkLevel D G c j).2.2.1) (by omega) h7⟩
      · have g := h8 j (by omega) (by omega)
        exact ⟨by omega, g.2⟩
theorem mkLevels_T (a : Nat) (n : Nat) : ∀ (r : Nat) (D : Dt) (G : Gt) (c : Ct), r + n ≤ 33 → Ty D → Ty (mkLevels a n r D G c).1 := by
  induction n with
  | zero => intro r D G c _ h; exact h
  | succ n ih =>
    intro r D G c rn h
    exact ih (r + 1) _ _ _ (by omega) (mkLevel_T (by omega) h)
theorem mk73_e {D : Dt} {G : Gt} {c : Ct} : mk_73 D G c = some (mkLevels c.1 33 0 D (w_P (w_K (w_K G c.1 74) (c.1 + 1) 25) 7300 c.1 (c.1 + 1)) (c_ar (c_al (c_al c 3) 4) 33)) := by
  unfold mk_73 mkArea mkA
  rfl
/-- what the laying out of levels gives, said without the levels' program -/
def LvSt7 (a n r : Nat) (D : Dt) (G : Gt) (c : Ct) (R : Dt × Gt × Ct) : Prop := R.2.2.1 + loN r = c.1 + loN (r + n) ∧ (s_ R.2.1 = s_ G ∧ (∀ i a j, z_Q R.2.1 i a j = z_Q G i a j) ∧ (∀ i a, a < c.1 → z_N R.2.1 i a = z_N G i a) ∧ (∀ i a, a < c.1 → z_P R.2.1 i a = z_P G i a) ∧ (∀ i b j, ¬ (i = 7301 ∧ b = a ∧ (r : Int) ≤ j) → b < c.1 → z_E R.2.1 i b j = z_E G i b j) ∧ DtX c.1 D R.1) ∧
    (∀ j : Nat, r ≤ j → j < r + n → z_E R.2.1 7301 a (j : Int) + loN r = c.1 + loN j ∧ LvOb R.2.1 (z_E R.2.1 7301 a (j : Int)) j ∧ LvDa R.1 (z_E R.2.1 7301 a (j : Int)) j) ∧ Fr [7400, 7500] D R.1 ∧ (r + n ≤ 33 → Ty D → Ty R.1)
theorem mkLevels_r {a n r : Nat} {D : Dt} {G : Gt} {c : Ct} (h : a < c.1) : LvSt7 a n r D G c (mkLevels a n r D G c) := by
  obtain ⟨h1, h2, h3⟩ := mkLevels_s a n r D G c h
  exact ⟨h1, h2, h3, fr_mkLevels n, mkLevels_T a n r D G c⟩
theorem mk73_x {D : Dt} {G : Gt} {c : Ct} {R : Dt × Gt × Ct} (h : LvSt7 c.1 33 0 D (w_P (w_K (w_K G c.1 74) (c.1 + 1) 25) 7300 c.1 (c.1 + 1)) (c_ar (c_al (c_al c 3) 4) 33) R) : R.2.2.1 = c.1 + 296 ∧ GtX c.1 G R.2.1 ∧ DtX c.1 D R.1 ∧ Fr [7400, 7500] D R.1 ∧ (Ty D → Ty R.1) ∧ PtA R.2.1 c.1 ∧ PtD R.1 c.1 := by
  have gP : ∀ i b, z_P (w_P (w_K (w_K G c.1 74) (c.1 + 1) 25) 7300 c.1 (c.1 + 1)) i b = if i = 7300 ∧ b = c.1 then c.1 + 1 else z_P G i b := fun _ _ => rfl
  have c1 : (c_ar (c_al (c_al c 3) 4) 33).1 = c.1 + 3 := rfl
  unfold LvSt7 at h
  rw [c1] at h
  obtain ⟨h1, ⟨h2, h3, h4, h5, h6, h7⟩, h8, hF, hT⟩ := h
  have l0 : loN 0 = 0 := rfl
  have l33 : loN (0 + 33) = 293 := rfl
  have ez : ∀ r : Nat, r < 33 → z_E R.2.1 7301 c.1 (r : Int) = c.1 + 3 + loN r := fun r hr => by have g := h8 r (by omega) (by omega); omega
  refine ⟨by omega, ⟨h2, fun i a l => ?_, fun i a j l => ?_, fun i a l => ?_, fun i a j => h3 i a j⟩, fun i a l => h7 i a (by omega), hF, hT (by omega), ⟨?_, fun r hr => ?_⟩, fun r hr => ?_⟩
  · refine (h5 i a (by omega)).trans ?_
    rw [gP, if_neg (by omega)]
  · exact h6 i a j (by omega) (by omega)
  · exact h4 i a (by omega)
  · refine (h5 7300 c.1 (by omega)).trans ?_
    rw [gP, if_pos ⟨rfl, rfl⟩]
  · have g := h8 r (by omega) (by omega)
    rw [ez r hr] at g
    exact ⟨ez r hr, g.2.1⟩
  · have g := h8 r (by omega) (by omega)
    rw [ez r hr] at g
    exact g.2.2
/-- a part made -/
theorem mk73_s {D : Dt} {G : Gt} {c : Ct} : ∃ R, mk_73 D G c = some R ∧ R.2.2.1 = c.1 + 296 ∧ GtX c.1 G R.2.1 ∧ DtX c.1 D R.1 ∧ Fr [7400, 7500] D R.1 ∧ (Ty D → Ty R.1) ∧ PtA R.2.1 c.1 ∧ PtD R.1 c.1 :=
  ⟨_, mk73_e, mk73_x (mkLevels_r (Nat.lt_of_lt_of_le (Nat.lt_succ_self _) (Nat.succ_le_succ (Nat.le_add_right c.1 2))))⟩
