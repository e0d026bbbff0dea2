/-! specifications, printed by gen/mks.py -/
set_option maxRecDepth 100000
/-- places grow with a stream's numbers -/
theorem ply_m {od : Od} (h : OdOk od) {c r p p' : Int} (v : PcV od c r p) (v' : PcV od c r p') (l : p < p') : opY od c r p < opY od c r p' ∨ opY od c r p = opY od c r p' ∧ opX od c r p < opX od c r p' := by
  have d := h.2.2.2.1 c v.1.1 v.1.2
  have wh := h.2.2.2.2 c r v.1.1 v.1.2 v.2.1.1 v.2.1.2
  have A := (op_b h v.1.1 v.1.2 v.2.1.1 v.2.1.2 v.2.2.1 v.2.2.2).1.1
  have m1 := Int.emod_nonneg p (show olA od c r ≠ 0 by omega)
  have q1 := Int.ediv_nonneg v.2.2.1 (show 0 ≤ olA od c r by omega)
  have mo : p / olA od c r ≤ p' / olA od c r := Int.ediv_le_ediv (by omega) (by omega)
  rcases Int.lt_or_eq_of_le mo with z | z
  · left
    unfold opY olJ
    exact opl_s (X0 := olY od (oY0 od) c r) rfl (by omega) ⟨wh.2.2.1, wh.2.2.2⟩ (by have := v.2.1; omega) (by omega) (by omega)
  · right
    have a := Int.mul_ediv_add_emod p (olA od c r)
    have b := Int.mul_ediv_add_emod p' (olA od c r)
    rw [← z] at b
    refine ⟨by unfold opY olJ; rw [z], ?_⟩
    unfold opX olI
    exact opl_s (X0 := olX od (oX0 od) c r) rfl (by omega) ⟨wh.1, wh.2.1⟩ (by have := v.2.1; omega) (by omega) (by omega)
theorem sqK_m {q : Sq} {o : Int} (h : 2 ≤ o ∧ o ≤ 4) {k : Int} : sqK q o k = if o = 2 then [sqV q k, sqY q k, sqX q k, sqC q k] else if o = 3 then [sqY q k, sqX q k, sqC q k, sqV q k] else [sqC q k, sqY q k, sqX q k, sqV q k] := by
  unfold sqK ktK
  rw [if_neg (by omega)]
theorem sqP_m {q : Sq} {o : Int} (h : 2 ≤ o ∧ o ≤ 4) {k l : Int} : sqP q o k l = sqK q o k ++ [l] := by
  unfold sqP
  rw [if_neg (by omega), if_neg (by omega)]
/-- the order of keys, in numbers -/
theorem sqK_2 {q : Sq} {a b : Int} : ll (sqK q 2 a) (sqK q 2 b) ↔ sqV q a < sqV q b ∨ sqV q a = sqV q b ∧ (sqY q a < sqY q b ∨ sqY q a = sqY q b ∧ (sqX q a < sqX q b ∨ sqX q a = sqX q b ∧ sqC q a < sqC q b)) := by
  rw [sqK_m (by decide), sqK_m (by decide), if_pos rfl, if_pos rfl, ll4]
theorem sqK_3 {q : Sq} {a b : Int} : ll (sqK q 3 a) (sqK q 3 b) ↔ sqY q a < sqY q b ∨ sqY q a = sqY q b ∧ (sqX q a < sqX q b ∨ sqX q a = sqX q b ∧ (sqC q a < sqC q b ∨ sqC q a = sqC q b ∧ sqV q a < sqV q b)) := by
  rw [sqK_m (by decide), sqK_m (by decide), if_neg (by decide), if_pos rfl, if_neg (by decide), if_pos rfl, ll4]
theorem sqK_4 {q : Sq} {a b : Int} : ll (sqK q 4 a) (sqK q 4 b) ↔ sqC q a < sqC q b ∨ sqC q a = sqC q b ∧ (sqY q a < sqY q b ∨ sqY q a = sqY q b ∧ (sqX q a < sqX q b ∨ sqX q a = sqX q b ∧ sqV q a < sqV q b)) := by
  rw [sqK_m (by decide), sqK_m (by decide), if_neg (by decide), if_neg (by decide), if_neg (by decide), if_neg (by decide), ll4]
/-- an entry a change takes -/
def tkK (g : Cg) (q : Sq) (w k : Int) : Prop := (0 ≤ k ∧ k < sqM q) ∧ cgT g q w k
/-- where an entry's stream stands -/
def atK (D : Dt) (G : Gt) (q : Sq) (k : Int) : Int := mtA D G (sqC q k) (sqV q k)
/-- what is to come in the merging -/
def BmC (D : Dt) (G : Gt) (q : Sq) (k l : Int) : Prop := atK D G q k < sqNm q k ∨ atK D G q k = sqNm q k ∧ (d_R D 2804 (s_ G 28) = z_Q G 2302 (s_ G 23) (sqC q k * 33 + sqV q k) → d_I D 2603 (s_ G 28) ≤ l)
/-- a group's end -/
def gEd (g : Cg) (w : Int) : Int := if cgO g w = 2 then cgB g w else if cgO g w = 4 then cgE g w else 1
/-- the merging's state but for the stream at hand -/
def MgT (D : Dt) (G : Gt) (od : Od) (g : Cg) (q : Sq) (w : Int) (ch : Nat) : Prop := MgP D G od g w ch ∧ StO q od ∧ (0 ≤ w ∧ w < cgW g) ∧ (0 ≤ cgA g w ∧ cgB g w ≤ 33 ∧ 0 ≤ cgC g w ∧ cgE g w ≤ 16) ∧ (∀ a b, tkK g q w a → tkK g q w b → sqNm q a < atK D G q a → atK D G q b ≤ sqNm q b → ll (sqK q (cgO g w) a) (sqK q (cgO g w) b)) ∧
  (0 ≤ d_I D 2805 (s_ G 28) ∧ d_I D 2805 (s_ G 28) ≤ 33 ∧ d_I D 2806 (s_ G 28) = gEd g w) ∧ ∀ k, tkK g q w k → atK D G q k ≤ sqNm q k → (cgO g w = 2 → d_I D 2805 (s_ G 28) ≤ sqV q k) ∧ (cgO g w = 4 → d_I D 2805 (s_ G 28) ≤ sqC q k) ∧ (cgO g w = 3 → d_I D 2805 (s_ G 28) = 0)
/-- the stream at hand -/
def MgC (D : Dt) (G : Gt) (od : Od) (g : Cg) (q : Sq) (w : Int) : Prop := d_R D 2804 (s_ G 28) = none ∨ ∃ st c r, d_R D 2804 (s_ G 28) = some st ∧ StrI D G od c r st ∧ Qfy D G od g w c r ∧ (0 ≤ d_I D 2603 (s_ G 28) ∧ d_I D 2603 (s_ G 28) ≤ cgL g w) ∧ ∀ k, tkK g q w k → atK D G q k ≤ sqNm q k → k = opF od c r + mtA D G c r ∨ ll (sqK q (cgO g w) (opF od c r + mtA D G c r)) (sqK q (cgO g w) k)
/-- nothing is to come behind the last group -/
theorem MgT.dn {D : Dt} {G : Gt} {od : Od} {g : Cg} {q : Sq} {w : Int} {ch : Nat} (h : MgT D G od g q w ch) (d : d_I D 2806 (s_ G 28) ≤ d_I D 2805 (s_ G 28)) {k l : Int} (v : VdT g q w k l) : ¬ BmC D G q k l := fun b => by
  obtain ⟨hM, hq, hw, hr, hc, hg, hk⟩ := h
  have t : tkK g q w k := ⟨⟨v.1.2.2.1, v.1.2.2.2.1⟩, v.2⟩
  have z := hk k t (by unfold BmC at b; omega)
  have ho := hM.2.2.1
  have u := v.2
  unfold cgT at u
  rw [hg.2.2] at d
  unfold gEd at d
  by_cases o2 : cgO g w = 2
  · rw [if_pos o2] at d; omega
  · rw [if_neg o2] at d
    by_cases o4 : cgO g w = 4
    · rw [if_pos o4] at d; omega
    · rw [if_neg o4] at d; omega
/-- the first of a group comes before all that is to come -/
theorem MgT.fs {D : Dt} {G : Gt} {od : Od} {g : Cg} {q : Sq} {w : Int} {ch st : Nat} {c r : Int} (h : MgT D G od g q w ch) (Q : Qfy D G od g w c r) (hf : ∀ c' r', Qfy D G od g w c' r' → ¬ ll (mhd D G od c' r') (mhd D G od c r)) {k : Int} (t : tkK g q w k) (l : atK D G q k ≤ sqNm q k) : k = opF od c r + mtA D G c r ∨ ll (sqK q (cgO g w) (opF od c r + mtA D G c r)) (sqK q (cgO g w) k) := by
  obtain ⟨hM, hq, hw, hr, hc, hg, hk⟩ := h
  have hod := hM.1.1
  have ho := hM.2.2.1
  obtain ⟨c', r', p', pv', e, f1, f2, f3, f4, f5⟩ := hq.k hod t.1.1 t.1.2
  have pv : PcV od c r (mtA D G c r) := ⟨Q.1.1, Q.1.2, (hM.2.2.2.2 c r Q.1).1, Q.2.2.2⟩
  have fq := hq.2 c r _ pv
  have z := hk k t l
  have u := t.2
  unfold cgT at u
  unfold atK at l
  rw [f1, f2] at l
  rw [f3] at l
  have Qg := Q.2.2.1
  have Qr := Q.2.1
  have Ql := Q.1
  by_cases ing : (cgO g w = 2 → r' = d_I D 2805 (s_ G 28)) ∧ (cgO g w = 4 → c' = d_I D 2805 (s_ G 28))
  · have Q' : Qfy D G od g w c' r' := ⟨⟨pv'.1, pv'.2.1⟩, by omega, ing, by have := pv'.2.2; omega⟩
    have n := hf c' r' Q'
    have ph : PcV od c' r' (mtA D G c' r') := ⟨pv'.1, pv'.2.1, (hM.2.2.2.2 c' r' Q'.1).1, Q'.2.2.2⟩
    have py : (mtA D G c' r' = p' ∧ opY od c' r' (mtA D G c' r') = opY od c' r' p' ∧ opX od c' r' (mtA D G c' r') = opX od c' r' p') ∨ opY od c' r' (mtA D G c' r') < opY od c' r' p' ∨ opY od c' r' (mtA D G c' r') = opY od c' r' p' ∧ opX od c' r' (mtA D G c' r') < opX od c' r' p' := by
      by_cases y : mtA D G c' r' = p'
      · exact .inl ⟨y, by rw [y], by rw [y]⟩
      · exact .inr (ply_m hod ph pv' (by omega))
    unfold mhd at n
    rw [ll4] at n
    clear hf hc hk hr hg hw hM hq u t l pv pv' ph Q Q'
    by_cases eq : c = c' ∧ r = r' ∧ mtA D G c' r' = p'
    · left
      rw [e, eq.1, eq.2.1, eq.2.2]
    · right
      generalize opF od c r + mtA D G c r = k0 at *
      generalize opY od c r (mtA D G c r) = Y0, opX od c r (mtA D G c r) = X0, opY od c' r' (mtA D G c' r') = Y1, opX od c' r' (mtA D G c' r') = X1, opY od c' r' p' = Y2, opX od c' r' p' = X2 at *
      have o3 : cgO g w = 2 ∨ cgO g w = 3 ∨ cgO g w = 4 := by omega
      rcases o3 with o | o | o
      · rw [o, sqK_2, fq.1, fq.2.1, fq.2.2.2.1, fq.2.2.2.2, f1, f2, f4, f5]
        have g1 := Qg.1 o
        have g2 := ing.1 o
        omega
      · rw [o, sqK_3, fq.1, fq.2.1, fq.2.2.2.1, fq.2.2.2.2, f1, f2, f4, f5]
        have g1 := Qg.2
        have g2 := ing.2
        omega
      · rw [o, sqK_4, fq.1, fq.2.1, fq.2.2.2.1, fq.2.2.2.2, f1, f2, f4, f5]
        have g1 := Qg.2
        have g2 := ing.2
        omega
  · right
    have o3 : cgO g w = 2 ∨ cgO g w = 3 ∨ cgO g w = 4 := by omega
    rcases o3 with o | o | o
    · rw [o, sqK_2, fq.1, fq.2.1, f1, f2]; left; omega
    · exfalso; exact ing ⟨fun y => by omega, fun y => by omega⟩
    · rw [o, sqK_4, fq.1, fq.2.1, f1, f2]; left; omega
