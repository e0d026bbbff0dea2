/-! specifications, printed by gen/mks.py -/
set_option maxRecDepth 100000
/-- what stands around a group: M entries, L layers -/
def GrpF (o : Int) (V S : Fz) (a e M : Int) : Prop := GrpB o V S a e M ∧ 0 ≤ a ∧ a < M ∧ (o = 0 → a = 0) ∧ (o = 1 → (0 < a → V (S (a - 1)) ≠ V (S a)) ∧ ∀ i j, 0 ≤ i → i ≤ j → j < M → V (S i) ≤ V (S j))
theorem GrpF.m {V S : Fz} {a e M : Int} (h : GrpF 1 V S a e M) {i : Int} (i0 : 0 ≤ i) (i1 : i < M) : (a ≤ i → i < e → V (S i) = V (S a)) ∧ (e ≤ i → V (S a) < V (S i) ∧ V (S e) ≤ V (S i)) ∧ (i < a → V (S i) < V (S a)) ∧ (i < e → e < M → V (S i) < V (S e)) := by
  obtain ⟨⟨-, b1, b2, b3, -⟩, a0, a1, -, h4⟩ := h
  have b3 := b3 rfl
  have h4 := h4 rfl
  have be := b1 (by decide)
  have em := b2 (by omega)
  have ge : e < M → V (S a) < V (S e) := fun z => by
    have x := h4.2 a e a0 (by omega) z
    have y := b3.2 z
    omega
  refine ⟨fun x y => b3.1 i x y, fun x => ?_, fun x => ?_, fun x y => ?_⟩
  · have g := ge (by omega)
    have m := h4.2 e i (by omega) x i1
    omega
  · have p := h4.1 (by omega)
    have m := h4.2 i (a - 1) i0 (by omega) (by omega)
    have m2 := h4.2 (a - 1) a (by omega) (by omega) a1
    omega
  · have g := ge y
    by_cases z : a ≤ i
    · have := b3.1 i z x; omega
    · have p := h4.1 (by omega)
      have m := h4.2 i (a - 1) i0 (by omega) (by omega)
      have m2 := h4.2 (a - 1) a (by omega) (by omega) a1
      omega
theorem mv_a {o : Int} (ho : 0 ≤ o) {V S : Fz} {a e M n l : Int} (h : GrpF o V S a e M) (n0 : a ≤ n) (n1 : n + 1 < e) {i k : Int} (i0 : 0 ≤ i) (i1 : i < M) : PxO o V S n l i k ↔ ¬ PxO o V S i k (n + 1) l := by
  unfold PxO
  have em := h.1.2.2.1 (by have := h.2; omega)
  by_cases z : o = 0
  · rw [if_pos z, if_pos z]; omega
  · rw [if_neg z, if_neg z]
    by_cases y : o = 1
    · subst y
      rw [if_pos rfl, if_pos rfl]
      have m := h.m i0 i1
      have mn := (h.m (i := n) (by have := h.2; omega) (by omega)).1 n0 (by omega)
      have mn1 := (h.m (i := n + 1) (by have := h.2; omega) (by omega)).1 (by omega) (by omega)
      have tri : i < a ∨ (a ≤ i ∧ i < e) ∨ e ≤ i := by omega
      rcases tri with t | t | t
      · have := m.2.2.1 t; omega
      · have := m.1 t.1 t.2; omega
      · have := (m.2.1 t).1; omega
    · have := h.1.2.2.2.2 (by omega); omega
theorem mv_b {o : Int} (ho : 0 ≤ o) {V S : Fz} {a e M n l L : Int} (h : GrpF o V S a e M) (n0 : a ≤ n) (n1 : n + 1 = e) (l0 : 0 ≤ l) (lL : l + 1 < L) {i k : Int} (i0 : 0 ≤ i) (i1 : i < M) (k0 : 0 ≤ k) (k1 : k < L) : PxO o V S n l i k ↔ ¬ PxO o V S i k a (l + 1) := by
  unfold PxO
  have em := h.1.2.2.1 (by have := h.2; omega)
  by_cases z : o = 0
  · rw [if_pos z, if_pos z]
    have := h.2.2.2.1 z
    have := h.1.1 z
    omega
  · rw [if_neg z, if_neg z]
    by_cases y : o = 1
    · subst y
      rw [if_pos rfl, if_pos rfl]
      have m := h.m i0 i1
      have mn := (h.m (i := n) (by have := h.2; omega) (by omega)).1 n0 (by omega)
      have tri : i < a ∨ (a ≤ i ∧ i < e) ∨ e ≤ i := by omega
      rcases tri with t | t | t
      · have := m.2.2.1 t; omega
      · have := m.1 t.1 t.2; omega
      · have := (m.2.1 t).1; omega
    · rw [if_neg y, if_neg y]
      have := h.1.2.2.2.2 (by omega); omega
theorem mv_c {o : Int} (ho : 0 ≤ o) {V S : Fz} {a e M n l L : Int} (h : GrpF o V S a e M) (n0 : a ≤ n) (n1 : n + 1 = e) (lL : L ≤ l + 1) (eM : e < M) {i k : Int} (i0 : 0 ≤ i) (i1 : i < M) (k0 : 0 ≤ k) (k1 : k < L) : PxO o V S n l i k ↔ ¬ PxO o V S i k e 0 := by
  unfold PxO
  by_cases z : o = 0
  · have := h.1.1 z
    omega
  · rw [if_neg z, if_neg z]
    by_cases y : o = 1
    · subst y
      rw [if_pos rfl, if_pos rfl]
      have m := h.m i0 i1
      have mn := (h.m (i := n) (by have := h.2; omega) (by omega)).1 n0 (by omega)
      have tri : i < a ∨ (a ≤ i ∧ i < e) ∨ e ≤ i := by omega
      rcases tri with t | t | t
      · have := m.2.2.1 t; have := m.2.2.2 (by omega) eM; omega
      · have := m.1 t.1 t.2; have := m.2.2.2 (by omega) eM; omega
      · have := m.2.1 t; omega
    · rw [if_neg y, if_neg y]
      have := h.1.2.2.2.2 (by omega); omega
theorem mv_d {o : Int} (ho : 0 ≤ o) {V S : Fz} {a e M n l L : Int} (h : GrpF o V S a e M) (n0 : a ≤ n) (n1 : n + 1 = e) (lL : L ≤ l + 1) (eM : M ≤ e) {i k : Int} (i0 : 0 ≤ i) (i1 : i < M) (k0 : 0 ≤ k) (k1 : k < L) : ¬ PxO o V S n l i k := by
  unfold PxO
  have em := h.1.2.2.1 (by have := h.2; omega)
  by_cases z : o = 0
  · rw [if_pos z]; omega
  · rw [if_neg z]
    by_cases y : o = 1
    · subst y
      rw [if_pos rfl]
      have m := h.m i0 i1
      have mn := (h.m (i := n) (by have := h.2; omega) (by omega)).1 n0 (by omega)
      have tri : i < a ∨ (a ≤ i ∧ i < e) := by omega
      rcases tri with t | t
      · have := m.2.2.1 t; omega
      · have := m.1 t.1 t.2; omega
    · rw [if_neg y]
      omega
theorem mv_0 {o : Int} {V S : Fz} {M : Int} (h : o = 1 → ∀ i j, 0 ≤ i → i ≤ j → j < M → V (S i) ≤ V (S j)) {i k : Int} (i0 : 0 ≤ i) (i1 : i < M) (k0 : 0 ≤ k) : ¬ PxO o V S i k 0 0 := by
  unfold PxO
  by_cases z : o = 0
  · rw [if_pos z]; omega
  · rw [if_neg z]
    by_cases y : o = 1
    · rw [if_pos y]
      have := h y 0 i (by omega) i0 i1
      omega
    · rw [if_neg y]; omega
/-- the twin's cursor -/
def TPo (D : Dt) (G : Gt) (g : Cg) (q : Sq) : Prop := 0 ≤ d_I D 6325 (s_ G 63) ∧ (0 < sqM q → d_I D 6325 (s_ G 63) < cgW g → PmN (sqM q) (d_A D 6324 (s_ G 63)) ∧ AsN (sqK q (cgO g (d_I D 6325 (s_ G 63)))) (d_A D 6324 (s_ G 63)) (sqM q) ∧ GrpF (cgO g (d_I D 6325 (s_ G 63))) (sqV q) (d_A D 6324 (s_ G 63)) (d_I D 6328 (s_ G 63)) (d_I D 6327 (s_ G 63)) (sqM q) ∧ (d_I D 6328 (s_ G 63) ≤ d_I D 6329 (s_ G 63) ∧ d_I D 6329 (s_ G 63) < d_I D 6327 (s_ G 63)) ∧ 0 ≤ d_I D 6326 (s_ G 63) ∧ d_I D 6326 (s_ G 63) < cgL g (d_I D 6325 (s_ G 63)))
theorem TPo.fr {D D' : Dt} {G : Gt} {g : Cg} {q : Sq} {S : List Nat} (h : TPo D G g q) (F : Fr S D D') (hd : ([6324, 6325, 6326, 6327, 6328, 6329].all fun j => !S.contains j) = true) : TPo D' G g q := by
  unfold TPo at h ⊢
  rw [F.a (i := 6324) (dsO_o hd (by decide)), F.i (i := 6325) (dsO_o hd (by decide)), F.i (i := 6326) (dsO_o hd (by decide)), F.i (i := 6327) (dsO_o hd (by decide)), F.i (i := 6328) (dsO_o hd (by decide)), F.i (i := 6329) (dsO_o hd (by decide))]
  exact h
/-- what is to come for the twin -/
def BeT (D : Dt) (G : Gt) (g : Cg) (q : Sq) (w k l : Int) : Prop := w = d_I D 6325 (s_ G 63) ∧ ¬ ll (sqP q (cgO g (d_I D 6325 (s_ G 63))) k l) (sqP q (cgO g (d_I D 6325 (s_ G 63))) (d_A D 6324 (s_ G 63) (d_I D 6329 (s_ G 63))) (d_I D 6326 (s_ G 63))) ∨ d_I D 6325 (s_ G 63) < w
theorem BeT.fr {D D' : Dt} {G : Gt} {g : Cg} {q : Sq} {S : List Nat} (F : Fr S D D') (hd : ([6324, 6325, 6326, 6329].all fun j => !S.contains j) = true) : BeT D' G g q = BeT D G g q := by
  unfold BeT
  rw [F.a (i := 6324) (dsO_o hd (by decide)), F.i (i := 6325) (dsO_o hd (by decide)), F.i (i := 6326) (dsO_o hd (by decide)), F.i (i := 6329) (dsO_o hd (by decide))]
/-- how far the cursor has come -/
def TMe (D : Dt) (G : Gt) (g : Cg) : Int := if d_I D 6325 (s_ G 63) < cgW g then (cgW g - d_I D 6325 (s_ G 63)) * 1048576 - (d_I D 6328 (s_ G 63) * cgL g (d_I D 6325 (s_ G 63)) + d_I D 6326 (s_ G 63) * (d_I D 6327 (s_ G 63) - d_I D 6328 (s_ G 63)) + (d_I D 6329 (s_ G 63) - d_I D 6328 (s_ G 63))) else 0
theorem TMe.fr {D D' : Dt} {G : Gt} {g : Cg} {S : List Nat} (F : Fr S D D') (hd : ([6325, 6326, 6327, 6328, 6329].all fun j => !S.contains j) = true) : TMe D' G g = TMe D G g := by
  unfold TMe
  rw [F.i (i := 6325) (dsO_o hd (by decide)), F.i (i := 6326) (dsO_o hd (by decide)), F.i (i := 6327) (dsO_o hd (by decide)), F.i (i := 6328) (dsO_o hd (by decide)), F.i (i := 6329) (dsO_o hd (by decide))]
theorem idx_r {a e n l L M : Int} (a0 : 0 ≤ a) (an : a ≤ n) (ne : n < e) (eM : e ≤ M) (M1 : M ≤ 4096) (l0 : 0 ≤ l) (lL : l < L) (L1 : L ≤ 255) : 0 ≤ a * L + l * (e - a) + (n - a) ∧ a * L + l * (e - a) + (n - a) ≤ e * L - 1 ∧ e * L ≤ 1044480 := by
  have x := Int.mul_nonneg a0 (show 0 ≤ L by omega)
  have y := Int.mul_nonneg l0 (show 0 ≤ e - a by omega)
  have z := Int.mul_le_mul_of_nonneg_right (show l ≤ L - 1 by omega) (show 0 ≤ e - a by omega)
  have w := Int.mul_le_mul (show e ≤ 4096 by omega) L1 (show 0 ≤ L by omega) (by decide)
  have u : (L - 1) * (e - a) = e * L - a * L - (e - a) := by rw [Int.sub_mul, Int.one_mul, Int.mul_sub, Int.mul_comm L e, Int.mul_comm L a]
  omega
theorem TMe_r {D : Dt} {G : Gt} {g : Cg} {q : Sq} (hg : CgOk g) (h : TPo D G g q) (hn : d_I D 6325 (s_ G 63) < cgW g) (h0 : 0 < sqM q) (h1 : sqM q ≤ 4096) : (cgW g - d_I D 6325 (s_ G 63)) * 1048576 - 1044480 < TMe D G g ∧ TMe D G g ≤ (cgW g - d_I D 6325 (s_ G 63)) * 1048576 := by
  obtain ⟨-, -, f, n, l⟩ := h.2 h0 hn
  have em := f.1.2.2.1 h0
  have := idx_r f.2.1 n.1 n.2 em h1 l.1 l.2 (hg.2.2 _ h.1 hn).2.1.2
  unfold TMe
  rw [if_pos hn]
  omega
/-- behind a packet's place -/
theorem cu_ne {q : Sq} (hk : QiK q) {o k l kc lc : Int} (k0 : 0 ≤ k) (k1 : k < sqM q) (c0 : 0 ≤ kc) (c1 : kc < sqM q) : (¬ ll (sqP q o k l) (sqP q o kc lc) ∧ ¬ (k = kc ∧ l = lc)) ↔ ll (sqP q o kc lc) (sqP q o k l) := by
  refine ⟨fun z => ?_, fun z => ⟨ll_as z, fun y => ?_⟩⟩
  · rcases sqP_t hk (o := o) k0 k1 c0 c1 z.2 with x | x
    · exact absurd x z.1
    · exact x
  · rw [y.1, y.2] at z; exact ll_ir _ z
theorem BeT.st {D D' : Dt} {G : Gt} {g : Cg} {q : Sq} (hk : QiK q) {n l n' l' : Int} (e1 : d_I D' 6325 (s_ G 63) = d_I D 6325 (s_ G 63)) (e2 : d_A D' 6324 (s_ G 63) = d_A D 6324 (s_ G 63)) (en : d_I D 6329 (s_ G 63) = n) (el : d_I D 6326 (s_ G 63) = l) (en' : d_I D' 6329 (s_ G 63) = n') (el' : d_I D' 6326 (s_ G 63) = l')
    (hp : PmN (sqM q) (d_A D 6324 (s_ G 63))) (ha : AsN (sqK q (cgO g (d_I D 6325 (s_ G 63)))) (d_A D 6324 (s_ G 63)) (sqM q)) (n0 : 0 ≤ n) (n1 : n < sqM q) (n0' : 0 ≤ n') (n1' : n' < sqM q)
    (su : ∀ i k, 0 ≤ i → i < sqM q → 0 ≤ k → k < cgL g (d_I D 6325 (s_ G 63)) → (PxO (cgO g (d_I D 6325 (s_ G 63))) (sqV q) (d_A D 6324 (s_ G 63)) n l i k ↔ ¬ PxO (cgO g (d_I D 6325 (s_ G 63))) (sqV q) (d_A D 6324 (s_ G 63)) i k n' l')) :
    ∀ w k j, Vld g q w k j → (BeT D' G g q w k j ↔ BeT D G g q w k j ∧ ¬ (w = d_I D 6325 (s_ G 63) ∧ k = d_A D 6324 (s_ G 63) n ∧ j = l)) := by
  intro w k j v
  unfold BeT
  rw [e1, e2, en, el, en', el']
  by_cases z : w = d_I D 6325 (s_ G 63)
  · obtain ⟨i, i0, i1, ei⟩ := hp.sur v.2.2.1 v.2.2.2.1
    have r := hp.1 n n0 n1
    have c := cu_ne hk (o := cgO g (d_I D 6325 (s_ G 63))) (l := j) (lc := l) v.2.2.1 v.2.2.2.1 r.1 r.2
    have s := su i j i0 i1 v.2.2.2.2.1 (by rw [← z]; exact v.2.2.2.2.2)
    rw [← ll_px hk hp ha n0 n1 i0 i1, ← ll_px hk hp ha i0 i1 n0' n1', ei] at s
    refine ⟨fun x => ?_, fun x => ?_⟩
    · rcases x with x | x
      · have y := c.mpr (s.mpr x.2)
        exact ⟨.inl ⟨z, y.1⟩, fun u => y.2 u.2⟩
      · omega
    · rcases x.1 with y | y
      · exact .inl ⟨z, s.mp (c.mp ⟨y.2, fun u => x.2 ⟨z, u⟩⟩)⟩
      · omega
  · refine ⟨fun x => ?_, fun x => ?_⟩
    · rcases x with x | x
      · exact absurd x.1 z
      · exact ⟨.inr x, fun u => z u.1⟩
    · rcases x.1 with y | y
      · exact absurd y.1 z
      · exact .inr y
theorem BeT.nx {D D' : Dt} {G : Gt} {g : Cg} {q : Sq} (hk : QiK q) {n l : Int} (e1 : d_I D' 6325 (s_ G 63) = d_I D 6325 (s_ G 63) + 1) (en : d_I D 6329 (s_ G 63) = n) (el : d_I D 6326 (s_ G 63) = l)
    (hp : PmN (sqM q) (d_A D 6324 (s_ G 63))) (ha : AsN (sqK q (cgO g (d_I D 6325 (s_ G 63)))) (d_A D 6324 (s_ G 63)) (sqM q)) (n0 : 0 ≤ n) (n1 : n < sqM q)
    (su : ∀ i k, 0 ≤ i → i < sqM q → 0 ≤ k → k < cgL g (d_I D 6325 (s_ G 63)) → ¬ PxO (cgO g (d_I D 6325 (s_ G 63))) (sqV q) (d_A D 6324 (s_ G 63)) n l i k)
    (nx : ∀ w k j, Vld g q w k j → w = d_I D 6325 (s_ G 63) + 1 → ¬ ll (sqP q (cgO g (d_I D' 6325 (s_ G 63))) k j) (sqP q (cgO g (d_I D' 6325 (s_ G 63))) (d_A D' 6324 (s_ G 63) (d_I D' 6329 (s_ G 63))) (d_I D' 6326 (s_ G 63)))) :
    ∀ w k j, Vld g q w k j → (BeT D' G g q w k j ↔ BeT D G g q w k j ∧ ¬ (w = d_I D 6325 (s_ G 63) ∧ k = d_A D 6324 (s_ G 63) n ∧ j = l)) := by
  intro w k j v
  have nx := nx w k j v
  unfold BeT
  rw [en, el]
  refine ⟨fun x => ?_, fun x => ?_⟩
  · have : d_I D 6325 (s_ G 63) < w := by rcases x with x | x; have := x.1; omega; omega
    exact ⟨.inr this, fun u => by omega⟩
  · rcases x.1 with y | y
    · exfalso
      obtain ⟨i, i0, i1, ei⟩ := hp.sur v.2.2.1 v.2.2.2.1
      have r := hp.1 n n0 n1
      have c := (cu_ne hk (o := cgO g (d_I D 6325 (s_ G 63))) (l := j) (lc := l) v.2.2.1 v.2.2.2.1 r.1 r.2).mp ⟨y.2, fun u => x.2 ⟨y.1, u⟩⟩
      have s := su i j i0 i1 v.2.2.2.2.1 (by rw [← y.1]; exact v.2.2.2.2.2)
      rw [← ll_px hk hp ha n0 n1 i0 i1, ei] at s
      exact s c
    · by_cases z : w = d_I D 6325 (s_ G 63) + 1
      · exact .inl ⟨by omega, nx z⟩
      · exact .inr (by omega)
