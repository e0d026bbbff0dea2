/-! specifications, printed by gen/mks.py -/
set_option maxRecDepth 100000
/-- a count -/
def cntK (f : Int → Int) : Nat → Int
  | 0 => 0
  | n + 1 => cntK f n + f n
theorem cntK_le {f f' : Int → Int} (n : Nat) (h : ∀ i, 0 ≤ i → i < (n : Int) → f' i ≤ f i) : cntK f' n ≤ cntK f n := by
  induction n with
  | zero => exact Int.le_refl _
  | succ n ih =>
    have a := ih (fun i i0 i1 => h i i0 (by omega))
    have b := h n (by omega) (by omega)
    show cntK f' n + f' n ≤ cntK f n + f n
    omega
theorem cntK_lt {f f' : Int → Int} {j : Int} (j0 : 0 ≤ j) (hj : f' j < f j) (n : Nat) (h : ∀ i, 0 ≤ i → i < (n : Int) → f' i ≤ f i) (j1 : j < (n : Int)) : cntK f' n < cntK f n := by
  induction n with
  | zero => omega
  | succ n ih =>
    show cntK f' n + f' n < cntK f n + f n
    have b := h n (by omega) (by omega)
    by_cases z : j = n
    · have a := cntK_le (f := f) (f' := f') n (fun i i0 i1 => h i i0 (by omega))
      rw [← z] at b ⊢
      omega
    · have a := ih (fun i i0 i1 => h i i0 (by omega)) (by omega)
      omega
theorem cntK_r {f : Int → Int} (h : ∀ i, 0 ≤ f i ∧ f i ≤ 1) (n : Nat) : 0 ≤ cntK f n ∧ cntK f n ≤ n := by
  induction n with
  | zero => exact ⟨Int.le_refl _, Int.le_refl _⟩
  | succ n ih =>
    have b := h n
    show 0 ≤ cntK f n + f n ∧ cntK f n + f n ≤ ((n + 1 : Nat) : Int)
    omega
/-- how many entries are to come -/
def toK (D : Dt) (G : Gt) (q : Sq) (k : Int) : Int := if atK D G q k ≤ sqNm q k then 1 else 0
theorem toK_r {D : Dt} {G : Gt} {q : Sq} (k : Int) : 0 ≤ toK D G q k ∧ toK D G q k ≤ 1 := by unfold toK; split <;> omega
/-- how far the merging has to go -/
def mMe (D : Dt) (G : Gt) (q : Sq) : Int := 2 * cntK (toK D G q) (sqM q).toNat + 2 * max 0 (d_I D 2806 (s_ G 28) - d_I D 2805 (s_ G 28)) + if d_R D 2804 (s_ G 28) = none then 1 else 0
theorem toK_fr {D D' : Dt} {G : Gt} {q : Sq} {S : List Nat} (F : Fr S D D') (hd : ([7604].all fun j => !S.contains j) = true) : toK D' G q = toK D G q := by
  funext k
  unfold toK atK
  rw [mtA_fr F hd]
/-- the layers of the stream at hand were tried in vain -/
theorem BmC.ly {D d2 : Dt} {G : Gt} {od : Od} {g : Cg} {q : Sq} {w : Int} {C0 : Fz} {S : List Nat} (hS : OrS D G od) (hq : StO q od) (F : Fr S D d2) (hd : ([7604, 2804].all fun j => !S.contains j) = true) (hS2 : OrS d2 G od) (hL : LyrI d2 G od g w (d_I D 2603 (s_ G 28)) C0) : (∀ k l, Cnd g q C0 w k l → BmC D G q k l → BmC d2 G q k l) ∧ ∀ k l, VdT g q w k l → BmC d2 G q k l → BmC D G q k l := by
  have e8 : d_R d2 2804 = d_R D 2804 := F.r (i := 2804) (dsO_o hd (by decide))
  have em : mtA d2 G = mtA D G := mtA_fr F (all_sub hd (by decide))
  have ea : ∀ k, atK d2 G q k = atK D G q k := fun k => by unfold atK; rw [em]
  rcases hL with h | ⟨st, c, r, h8, sI, lv, ml, lb, la⟩
  · have h' : d_R D 2804 (s_ G 28) = none := by rw [← e8]; exact h
    refine ⟨fun k l cn b => ?_, fun k l v b => ?_⟩
    · rw [BmC.non hS2 hq h cn.1.2.2.1 cn.1.2.2.2.1, ea]
      exact (BmC.non hS hq h' cn.1.2.2.1 cn.1.2.2.2.1).mp b
    · rw [BmC.non hS hq h' v.1.2.2.1 v.1.2.2.2.1, ← ea]
      exact (BmC.non hS2 hq h v.1.2.2.1 v.1.2.2.2.1).mp b
  · refine ⟨fun k l cn b => ?_, fun k l v b => ?_⟩
    · have ce := cur_e hS2 hq sI lv cn.1.2.2.1 cn.1.2.2.2.1
      unfold BmC at b ⊢
      rw [ea]
      rcases b with b | b
      · exact .inl b
      · refine .inr ⟨b.1, fun z => Decidable.byContradiction fun nl => ?_⟩
        rw [h8] at z
        have u := ce.mp z
        have bl := b.2 (by rw [← e8, h8]; exact z)
        have x := la l bl (by omega)
        have ek := cur_k hS.1 hq cn.1.2.2.1 cn.1.2.2.2.1 u.1 u.2
        have at' : atK D G q k = mtA d2 G c r := by rw [← ea]; unfold atK; rw [u.1, u.2]
        have cc := cn.2.2
        rw [ek, ← b.1, at'] at cc
        omega
    · unfold BmC at b ⊢
      rw [ea, e8] at b
      rcases b with b | b
      · exact .inl b
      · exact .inr ⟨b.1, fun z => by have := b.2 z; omega⟩
/-- a stream is at hand again -/
theorem MgT.go {D D' : Dt} {G : Gt} {od : Od} {g : Cg} {q : Sq} {w : Int} {ch : Nat} {b : Option Nat} (h : MgT D G od g q w ch) (hf : FsB D G od g w b (oNC od) 0) (e : D' = u_I (u_R D 2804 (s_ G 28) b) 2603 (s_ G 28) 0) : MgT D' G od g q w ch ∧ (b ≠ none → MgC D' G od g q w) ∧ atK D' G q = atK D G q ∧ d_R D' 2804 (s_ G 28) = b ∧ d_I D' 2603 (s_ G 28) = 0 ∧ d_I D' 2805 (s_ G 28) = d_I D 2805 (s_ G 28) ∧ d_I D' 2806 (s_ G 28) = d_I D 2806 (s_ G 28) ∧ toK D' G q = toK D G q := by
  have F : Fr [2804, 2603] D D' := by rw [e]; exact (Fr.rf.R rfl).I rfl
  have em : mtA D' G = mtA D G := mtA_fr F rfl
  have ea : atK D' G q = atK D G q := by funext k; unfold atK; rw [em]
  have e8 : d_R D' 2804 (s_ G 28) = b := by
    rw [e]
    show (if 2804 = 2804 ∧ s_ G 28 = s_ G 28 then b else _) = b
    rw [if_pos ⟨rfl, rfl⟩]
  have e3 : d_I D' 2603 (s_ G 28) = 0 := by rw [e, rI_I, if_pos ⟨rfl, rfl⟩]
  refine ⟨h.fr F rfl, fun nb => ?_, ea, e8, e3, by rw [F.i (i := 2805) rfl], by rw [F.i (i := 2806) rfl], toK_fr F rfl⟩
  rcases hf with ⟨h1, -⟩ | ⟨st, c, r, h1, h2, h3, h4, h5⟩
  · exact absurd h1 nb
  · have hf' : ∀ c' r', Qfy D G od g w c' r' → ¬ ll (mhd D G od c' r') (mhd D G od c r) := fun c' r' Q => h5 c' r' (.inl Q.1.1.2) Q
    refine .inr ⟨st, c, r, by rw [e8]; exact h1, h3.fr F rfl, ⟨h2.1, h2.2.1, by rw [F.i (i := 2805) rfl]; exact h2.2.2.1, by rw [em]; exact h2.2.2.2⟩, by rw [e3]; have := h.1.2.2.2.1; omega, fun k t l => ?_⟩
    rw [ea] at l
    rw [em]
    exact h.fs (st := 0) h2 hf' t l
/-- a group is at its end -/
theorem MgT.gn {D D' : Dt} {G : Gt} {od : Od} {g : Cg} {q : Sq} {w : Int} {ch : Nat} (h : MgT D G od g q w ch) (hf : ∀ c r, ¬ Qfy D G od g w c r) (h8 : d_R D 2804 (s_ G 28) = none) (hg : d_I D 2805 (s_ G 28) < d_I D 2806 (s_ G 28)) (e : D' = u_I D 2805 (s_ G 28) (d_I D 2805 (s_ G 28) + 1)) : MgT D' G od g q w ch ∧ MgC D' G od g q w ∧ atK D' G q = atK D G q ∧ d_R D' 2804 (s_ G 28) = none ∧ d_I D' 2603 (s_ G 28) = d_I D 2603 (s_ G 28) ∧ d_I D' 2805 (s_ G 28) = d_I D 2805 (s_ G 28) + 1 ∧ d_I D' 2806 (s_ G 28) = d_I D 2806 (s_ G 28) ∧ toK D' G q = toK D G q := by
  have F : Fr [2805] D D' := by rw [e]; exact Fr.rf.I rfl
  have em : mtA D' G = mtA D G := mtA_fr F rfl
  have ea : atK D' G q = atK D G q := by funext k; unfold atK; rw [em]
  have e8 : d_R D' 2804 (s_ G 28) = none := by rw [F.r (i := 2804) rfl]; exact h8
  have e5 : d_I D' 2805 (s_ G 28) = d_I D 2805 (s_ G 28) + 1 := by rw [e, rI_I, if_pos ⟨rfl, rfl⟩]
  have e6 : d_I D' 2806 (s_ G 28) = d_I D 2806 (s_ G 28) := by rw [F.i (i := 2806) rfl]
  obtain ⟨hM, hq, hw, hr, hc, hgg, hk⟩ := h
  have gb : gEd g w ≤ 33 := by unfold gEd; split; omega; split <;> omega
  refine ⟨⟨hM.fr F rfl, hq, hw, hr, by rw [ea]; exact hc, by rw [e5, e6]; omega, fun k t l => ?_⟩, .inl e8, ea, e8, by rw [F.i (i := 2603) rfl], e5, e6, toK_fr F rfl⟩
  rw [ea] at l
  have z := hk k t l
  obtain ⟨c', r', p', pv', ek, f1, f2, f3, -⟩ := hq.k hM.1.1 t.1.1 t.1.2
  have u := t.2
  unfold cgT at u
  unfold atK at l
  rw [f1, f2] at l u z ⊢
  rw [f3] at l
  have n := hf c' r'
  have nn : ¬ ((cgO g w = 2 → r' = d_I D 2805 (s_ G 28)) ∧ (cgO g w = 4 → c' = d_I D 2805 (s_ G 28))) := fun y => n ⟨⟨pv'.1, pv'.2.1⟩, by omega, y, by have := pv'.2.2; omega⟩
  have ho := hM.2.2.1
  rw [e5]
  omega
