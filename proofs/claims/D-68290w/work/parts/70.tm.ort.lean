/-! specifications, printed by gen/mks.py -/
set_option maxRecDepth 100000
/-- a precinct that there is -/
def PcV (o : Od) (c r p : Int) : Prop := (0 ≤ c ∧ c < oNC o) ∧ (0 ≤ r ∧ r ≤ oNL o c) ∧ 0 ≤ p ∧ p < olP o c r
def StO (q : Sq) (o : Od) : Prop := sqM q = opN o ∧ ∀ c r p, PcV o c r p → sqC q (opF o c r + p) = c ∧ sqV q (opF o c r + p) = r ∧ sqNm q (opF o c r + p) = p ∧ sqX q (opF o c r + p) = opX o c r p ∧ sqY q (opF o c r + p) = opY o c r p
theorem st_f {f : Nat → Int} {k : Int} (n : Nat) (h : k < f n) (h0 : f 0 ≤ k) : ∃ i, i < n ∧ f i ≤ k ∧ k < f (i + 1) := by
  induction n with
  | zero => omega
  | succ n ih =>
    by_cases z : k < f n
    · obtain ⟨i, a, b, c⟩ := ih z
      exact ⟨i, by omega, b, c⟩
    · exact ⟨n, by omega, by omega, h⟩
theorem opF_sur {o : Od} (h : OdOk o) {k : Int} (k0 : 0 ≤ k) (k1 : k < opN o) : ∃ c r p, PcV o c r p ∧ k = opF o c r + p := by
  obtain ⟨c, c1, a, b⟩ := st_f (f := fun n => ocF o n) (oNC o).toNat k1 k0
  have b : k < ocF o c + olF o c (oNL o c + 1).toNat := b
  have a : ocF o c ≤ k := a
  obtain ⟨r, r1, a2, b2⟩ := st_f (f := fun n => olF o c n) (k := k - ocF o c) (oNL o c + 1).toNat (by show k - ocF o c < olF o c (oNL o c + 1).toNat; omega) (by show (0 : Int) ≤ k - ocF o c; omega)
  have a2 : olF o c r ≤ k - ocF o c := a2
  have b2 : k - ocF o c < olF o c r + olP o c r := b2
  have nn := h.2.2.1
  have nl := h.2.2.2.1 c (by omega) (by omega)
  have e : opF o c r = ocF o c + olF o c r := by unfold opF; rw [show ((c : Nat) : Int).toNat = c by omega, show ((r : Nat) : Int).toNat = r by omega]
  exact ⟨c, r, k - opF o c r, ⟨⟨by omega, by omega⟩, ⟨by omega, by omega⟩, by omega, by omega⟩, by omega⟩
theorem opl_s {a d n w i j X0 : Int} (e : X0 = otU (otU a d) (p2l n)) (hd : 1 ≤ d) (hw : 0 ≤ w ∧ w ≤ 15) (hn : 0 ≤ n ∧ n ≤ 32) (hi : X0 / p2 w ≤ i) (ij : i < j) : max a (i * p2l (w + n) * d) < max a (j * p2l (w + n) * d) := by
  have pw := p2_pos w
  have pn := pl_pos (y := n)
  have pk := pl_pos (y := w + n)
  have x1 : X0 < (X0 / p2 w + 1) * p2 w := Int.lt_ediv_add_one_mul_self X0 (by omega)
  have x2 : (X0 / p2 w + 1) * p2 w ≤ j * p2 w := Int.mul_le_mul_of_nonneg_right (by omega) (by omega)
  have x3 : (X0 + 1) * p2l n ≤ j * p2 w * p2l n := Int.mul_le_mul_of_nonneg_right (by omega) (by omega)
  have ek : j * p2l (w + n) = j * p2 w * p2l n := by rw [Int.mul_assoc, ← pl_p2 (y := w) (by omega), pl_mul (by omega)]
  have x4 : otU a d ≤ X0 * p2l n := by rw [e]; exact otU_lb pn
  rw [Int.add_mul, Int.one_mul] at x3
  have x5 : (otU a d + 1) * d ≤ j * p2l (w + n) * d := Int.mul_le_mul_of_nonneg_right (by omega) (by omega)
  rw [Int.add_mul, Int.one_mul] at x5
  have x6 : a ≤ otU a d * d := otU_lb hd
  have x7 : i * (p2l (w + n) * d) < j * (p2l (w + n) * d) := Int.mul_lt_mul_of_pos_right ij (Int.mul_pos (by omega) (by omega))
  rw [← Int.mul_assoc, ← Int.mul_assoc] at x7
  omega
theorem opl_i {o : Od} (h : OdOk o) {c r p pb2 : Int} (v : PcV o c r p) (v2 : PcV o c r pb2) (ex : opX o c r p = opX o c r pb2) (ey : opY o c r p = opY o c r pb2) : p = pb2 := by
  have d := h.2.2.2.1 c v.1.1 v.1.2
  have wh := h.2.2.2.2 c r v.1.1 v.1.2 v.2.1.1 v.2.1.2
  have A := (op_b h v.1.1 v.1.2 v.2.1.1 v.2.1.2 v.2.2.1 v.2.2.2).1.1
  have m1 := Int.emod_nonneg p (show olA o c r ≠ 0 by omega)
  have m2 := Int.emod_nonneg pb2 (show olA o c r ≠ 0 by omega)
  have q1 := Int.ediv_nonneg v.2.2.1 (show 0 ≤ olA o c r by omega)
  have q2 := Int.ediv_nonneg v2.2.2.1 (show 0 ≤ olA o c r by omega)
  have cx : ∀ i j, olX o (oX0 o) c r / p2 (oWD o c r) ≤ i → i < j → max (oX0 o) (i * p2l (oWD o c r + (oNL o c - r)) * oDX o c) < max (oX0 o) (j * p2l (oWD o c r + (oNL o c - r)) * oDX o c) := fun i j a b => opl_s rfl (by omega) ⟨wh.1, wh.2.1⟩ (by have := v.2.1; omega) a b
  have cy : ∀ i j, olY o (oY0 o) c r / p2 (oHG o c r) ≤ i → i < j → max (oY0 o) (i * p2l (oHG o c r + (oNL o c - r)) * oDY o c) < max (oY0 o) (j * p2l (oHG o c r + (oNL o c - r)) * oDY o c) := fun i j a b => opl_s rfl (by omega) ⟨wh.2.2.1, wh.2.2.2⟩ (by have := v.2.1; omega) a b
  have e1 : p % olA o c r = pb2 % olA o c r := by
    unfold opX olI at ex
    rcases Int.lt_trichotomy (p % olA o c r) (pb2 % olA o c r) with z | z | z
    · have := cx (olX o (oX0 o) c r / p2 (oWD o c r) + p % olA o c r) (olX o (oX0 o) c r / p2 (oWD o c r) + pb2 % olA o c r) (by omega) (by omega); omega
    · exact z
    · have := cx (olX o (oX0 o) c r / p2 (oWD o c r) + pb2 % olA o c r) (olX o (oX0 o) c r / p2 (oWD o c r) + p % olA o c r) (by omega) (by omega); omega
  have e2 : p / olA o c r = pb2 / olA o c r := by
    unfold opY olJ at ey
    rcases Int.lt_trichotomy (p / olA o c r) (pb2 / olA o c r) with z | z | z
    · have := cy (olY o (oY0 o) c r / p2 (oHG o c r) + p / olA o c r) (olY o (oY0 o) c r / p2 (oHG o c r) + pb2 / olA o c r) (by omega) (by omega); omega
    · exact z
    · have := cy (olY o (oY0 o) c r / p2 (oHG o c r) + pb2 / olA o c r) (olY o (oY0 o) c r / p2 (oHG o c r) + p / olA o c r) (by omega) (by omega); omega
  have a := Int.mul_ediv_add_emod p (olA o c r)
  have b := Int.mul_ediv_add_emod pb2 (olA o c r)
  rw [e1, e2] at a
  omega
theorem StO.qik {q : Sq} {o : Od} (h : StO q o) (ho : OdOk o) : QiK q := by
  intro t a b a0 a1 b0 b1 e
  rw [h.1] at a1 b1
  obtain ⟨c, r, p, v, ea⟩ := opF_sur ho a0 a1
  obtain ⟨c', r', p', v', eb⟩ := opF_sur ho b0 b1
  have f := h.2 c r p v
  have f' := h.2 c' r' p' v'
  have fin : c = c' → r = r' → (p = p' ∨ opX o c r p = opX o c' r' p' ∧ opY o c r p = opY o c' r' p') → a = b := fun x y z => by
    subst x; subst y
    rcases z with z | z
    · rw [ea, eb, z]
    · rw [ea, eb, opl_i ho v v' z.1 z.2]
  rw [ea, eb] at e
  unfold sqK ktK at e
  rw [f.1, f.2.1, f.2.2.1, f.2.2.2.1, f.2.2.2.2, f'.1, f'.2.1, f'.2.2.1, f'.2.2.2.1, f'.2.2.2.2] at e
  split at e
  · simp only [List.cons.injEq] at e; exact fin e.2.1 e.1 (.inl e.2.2.1)
  · split at e
    · simp only [List.cons.injEq] at e; exact fin e.2.2.2.1 e.1 (.inr ⟨e.2.2.1, e.2.1⟩)
    · split at e
      · simp only [List.cons.injEq] at e; exact fin e.2.2.1 e.2.2.2.1 (.inr ⟨e.2.1, e.1⟩)
      · simp only [List.cons.injEq] at e; exact fin e.1 e.2.2.2.1 (.inr ⟨e.2.2.1, e.2.1⟩)
theorem StO.sqr {q : Sq} {o : Od} (h : StO q o) (ho : OdOk o) (m : opN o ≤ 4096) : SqR q := by
  have nn := ocF_r ho (c := oNC o) (by have := ho.2.2.1; omega) (by omega)
  refine ⟨⟨by rw [h.1]; unfold opN; exact nn.1, by rw [h.1]; exact m⟩, fun k k0 k1 => ?_⟩
  rw [h.1] at k1
  obtain ⟨c, r, p, v, e⟩ := opF_sur ho k0 k1
  have f := h.2 c r p v
  have nl := ho.2.2.2.1 c v.1.1 v.1.2
  have nc := ho.2.2.1
  rw [e, f.1, f.2.1]
  exact ⟨⟨v.2.1.1, by have := v.2.1; omega⟩, v.1.1, by have := v.1; omega⟩
/-- nothing has come; all is to come -/
def TSt (D : Dt) (G : Gt) (od : Od) (g : Cg) (q : Sq) : Prop := TCg D G g ∧ TSq D G q ∧ StO q od ∧ OdOk od ∧ opN od ≤ 4096 ∧ TPo D G g q ∧ CmI D G g q ∧ d_I D 6316 (s_ G 63) = 1
set_option maxHeartbeats 8000000 in
theorem s_X63_begin_67 {N : Nat} {od : Od} {g : Cg} (hN : 1099511627776 ≤ N) {k57 : Int → Gt → Dt → Option (Int × Dt)} {M57 : Int} (hk57 : ∀ {x2 : Int} {G : Gt} {D : Dt}, Ty D → (TOd D G od) → (TCg D G g) → (0 ≤ x2 ∧ x2 ≤ oNC od ∧ opN od ≤ 4096) → ((d_I D 6317 (s_ G 63)) = ocF od x2.toNat) → (∀ c r p, PcV od c r p → c < x2 → LsE D G od (opF od c r + p) c r p) → oNC od - x2 < M57 → Wp (k57 x2 G D) (fun o => (fun r D' => Ty D' ∧ (r = opN od * (d_I D' 6312 (s_ G 63)) ∧ (d_I D' 6330 (s_ G 63)) = 0 ∧ ∃ q, TSt D' G od g q ∧ (∀ w k l, Vld g q w k l → BeT D' G g q w k l) ∧ ∀ k, 0 ≤ k → k < sqM q → (d_A D' 6323 (s_ G 63) (k)) = 0)) o.1 o.2)) (n : Nat) : ∀ {x2 : Int} {x3 : Int} {G : Gt} {D : Dt}, Ty D → (TOd D G od) → (TCg D G g) → (0 ≤ x2 ∧ x2 < oNC od ∧ 0 ≤ x3 ∧ x3 ≤ oNL od x2 + 1 ∧ opN od ≤ 4096) → ((d_I D 6317 (s_ G 63)) = opF od x2 x3) → (∀ c r p, PcV od c r p → c < x2 ∨ c = x2 ∧ r < x3 → LsE D G od (opF od c r + p) c r p) → (oNC od - (x2 + 1) < M57) → oNL od x2 + 1 - x3 < n → Wp (q_X63_begin_67 N k57 n x2 x3 G D) (fun o => (fun r D' => Ty D' ∧ (r = opN od * (d_I D' 6312 (s_ G 63)) ∧ (d_I D' 6330 (s_ G 63)) = 0 ∧ ∃ q, TSt D' G od g q ∧ (∀ w k l, Vld g q w k l → BeT D' G g q w k l) ∧ ∀ k, 0 ≤ k → k < sqM q → (d_A D' 6323 (s_ G 63) (k)) = 0)) o.1 o.2) := by
  induction n with
  | zero =>
    intro x2 x3 G D hT hT0 hg h0 hm1 hL hM hm; exfalso; omega
  | succ n ih =>
    intro x2 x3 G D hT hT0 hg h0 hm1 hL hM hm
    show Wp (q_X63_begin_67 N k57 (n + 1) x2 x3 G D) _
    rw [q_X63_begin_67]
    have t1 := ty_6317 hT (s_ G 63)
    have nc := hT0.1.2.2.1
    have dd := hT0.1.2.2.2.1 x2 h0.1 h0.2.1
    have td := hT0.2.2.2.1 x2 h0.1 h0.2.1
    refine w_lA (by (first | omega | assumption | (subst_vars; first | omega | assumption) | done)) fun v2 e_v2 => ?_
    have t_v2 : 0 ≤ v2 ∧ v2 ≤ 32 := by rw [e_v2]; exact ty_6309 hT _ _
    have q2 : v2 = oNL od x2 := by rw [e_v2]; exact td.2.2
    refine w_ite (fun hc1 => ?_) (fun hc1 => ?_)
    · skip
      refine w_gd (by (first | omega | assumption | (subst_vars; first | omega | assumption) | done)) ?_
      refine w_let fun v3 e_v3 => ?_
      have j1_hT0 : TOd D G od := by
        (first | assumption)
      have j1_hg : TCg D G g := by
        (first | assumption)
      have j1_h0 : 0 ≤ v3 ∧ v3 ≤ oNC od ∧ opN od ≤ 4096 := by
        (first | omega | assumption | (subst_vars; first | omega | assumption) | done)
      have j1_hm1 : (d_I D 6317 (s_ G 63)) = ocF od v3.toNat := by
        rw [e_v3, hm1]; unfold opF; rw [ocF_s h0.1, show x3 = oNL od x2 + 1 by omega]
      have j1_hL : ∀ c r p, PcV od c r p → c < v3 → LsE D G od (opF od c r + p) c r p := by
        intro c r p v l
        rw [e_v3] at l
        exact hL c r p v (by have := v.2.1; by_cases z : c = x2; (right; refine ⟨z, ?_⟩; rw [z] at this; omega); (left; omega))
      have j1_hm : oNC od - v3 < M57 := by
        (first | omega | assumption | (subst_vars; first | omega | assumption) | done)
      exact hk57 hT j1_hT0 j1_hg j1_h0 j1_hm1 j1_hL j1_hm
    · skip
      have fb := opF_b hT0.1 h0.1 h0.2.1 h0.2.2.1 (show x3 ≤ oNL od x2 by omega)
      have c1_hT0 : TOd D G od := by
        (first | assumption)
      have c1_h0 : 0 ≤ x2 ∧ x2 < oNC od ∧ 0 ≤ x3 ∧ x3 ≤ oNL od x2 := by
        (first | omega | assumption | (subst_vars; first | omega | assumption) | done)
      have c1_h6 : 0 ≤ (d_I D 6317 (s_ G 63)) ∧ (d_I D 6317 (s_ G 63)) + olP od x2 x3 ≤ 4096 := by
        (first | omega | assumption | (subst_vars; first | omega | assumption) | done)
      refine w_b (Wp.fr (s_X63_list hN hT c1_hT0 c1_h0 c1_h6) fr_X63_list) fun d5 h_d5 => ?_
      obtain ⟨⟨T_d5, h_d5⟩, F_d5⟩ := h_d5
      refine w_gd (by (first | omega | assumption | (subst_vars; first | omega | assumption) | done)) ?_
      refine w_let fun v6 e_v6 => ?_
      have t2 := ty_6317 T_d5 (s_ G 63)
      have j2_hT0 : TOd d5 G od := by
        (first | assumption | exact (TOd.fr (by assumption) F_d5 rfl))
      have j2_hg : TCg d5 G g := by
        (first | assumption | exact (TCg.fr (by assumption) F_d5 rfl))
      have j2_h0 : 0 ≤ x2 ∧ x2 < oNC od ∧ 0 ≤ v6 ∧ v6 ≤ oNL od x2 + 1 ∧ opN od ≤ 4096 := by
        (first | omega | assumption | (subst_vars; first | omega | assumption) | done)
      have j2_hm1 : (d_I d5 6317 (s_ G 63)) = opF od x2 v6 := by
        rw [h_d5.1, hm1, e_v6]; unfold opF; rw [olF_s h0.2.2.1]; omega
      have j2_hL : ∀ c r p, PcV od c r p → c < x2 ∨ c = x2 ∧ r < v6 → LsE d5 G od (opF od c r + p) c r p := by
        intro c r p v l
        rw [e_v6] at l
        by_cases z : c = x2 ∧ r = x3
        · have u := h_d5.2.1 p v.2.2.1 (by have := v.2.2.2; rw [z.1, z.2] at this; exact this)
          rw [z.1, z.2, ← hm1]; exact u
        · have l2 : c < x2 ∨ c = x2 ∧ r < x3 := by omega
          have n := opF_n hT0.1 v.1.1 v.2.1.1 v.2.1.2 h0.1 h0.2.1 h0.2.2.1 (by omega) l2
          have fbb := opF_b hT0.1 v.1.1 v.1.2 v.2.1.1 v.2.1.2
          exact (hL c r p v l2).sm (h_d5.2.2 _ (by have := v.2.2.1; omega) (by have := v.2.2; omega))
      have j2_hM : oNC od - (x2 + 1) < M57 := by
        (first | omega | assumption | (subst_vars; first | omega | assumption) | done)
      have j2_hm : oNL od x2 + 1 - v6 < n := by
        (first | omega | assumption | (subst_vars; first | omega | assumption) | done)
      exact ih T_d5 j2_hT0 j2_hg j2_h0 j2_hm1 j2_hL j2_hM j2_hm
set_option maxHeartbeats 8000000 in
theorem s_X63_begin_57 {N : Nat} {od : Od} {g : Cg} (hN : 1099511627776 ≤ N) (n : Nat) : ∀ {x2 : Int} {G : Gt} {D : Dt}, Ty D → (TOd D G od) → (TCg D G g) → (0 ≤ x2 ∧ x2 ≤ oNC od ∧ opN od ≤ 4096) → ((d_I D 6317 (s_ G 63)) = ocF od x2.toNat) → (∀ c r p, PcV od c r p → c < x2 → LsE D G od (opF od c r + p) c r p) → oNC od - x2 < n → Wp (q_X63_begin_57 N n x2 G D) (fun o => (fun r D' => Ty D' ∧ (r = opN od * (d_I D' 6312 (s_ G 63)) ∧ (d_I D' 6330 (s_ G 63)) = 0 ∧ ∃ q, TSt D' G od g q ∧ (∀ w k l, Vld g q w k l → BeT D' G g q w k l) ∧ ∀ k, 0 ≤ k → k < sqM q → (d_A D' 6323 (s_ G 63) (k)) = 0)) o.1 o.2) := by
  induction n with
  | zero =>
    intro x2 G D hT hT0 hg h0 hm1 hL hm; exfalso; omega
  | succ n ih =>
    intro x2 G D hT hT0 hg h0 hm1 hL hm
    show Wp (q_X63_begin_57 N (n + 1) x2 G D) _
    rw [q_X63_begin_57]
    have t1 := ty_6317 hT (s_ G 63)
    have nc := hT0.1.2.2.1
    have n6 := hT0.2.2.1
    have t2 := ty_6306 hT (s_ G 63)
    refine w_ite (fun hc1 => ?_) (fun hc1 => ?_)
    · skip
      obtain ⟨q, hqd⟩ : ∃ q : Sq, q = (opN od, d_A D 6318 (s_ G 63), d_A D 6319 (s_ G 63), d_A D 6320 (s_ G 63), d_A D 6321 (s_ G 63), d_A D 6322 (s_ G 63)) := ⟨_, rfl⟩
      have eN : x2 = oNC od := by omega
      have mN : d_I D 6317 (s_ G 63) = opN od := by rw [hm1, eN]; rfl
      have hq : TSq D G q := by rw [hqd]; exact ⟨mN, rfl, rfl, rfl, rfl, rfl⟩
      have hL' : ∀ c r p, PcV od c r p → LsE D G od (opF od c r + p) c r p := fun c r p v => hL c r p v (by have := v.1; omega)
      have hs : StO q od := by
       rw [hqd]
       exact ⟨rfl, fun c r p v => by have l := hL' c r p v; exact ⟨l.1, l.2.1, l.2.2.1, l.2.2.2.1, l.2.2.2.2.1⟩⟩
      have hsr := hs.sqr hT0.1 h0.2.2
      have hqk := hs.qik hT0.1
      have mq : sqM q = opN od := hs.1
      have w32' := hg.1
      refine w_let fun d1 e_d1 => ?_
      have T_d1 : Ty d1 := tyI_6316 e_d1 hT (by (first | omega | assumption | (subst_vars; first | omega | assumption) | done))
      refine w_let fun d2 e_d2 => ?_
      have T_d2 : Ty d2 := tyI_6330 e_d2 T_d1 (by (first | omega | assumption | (subst_vars; first | omega | assumption) | done))
      refine w_let fun d3 e_d3 => ?_
      have T_d3 : Ty d3 := tyI_6325 e_d3 T_d2 (by (first | omega | assumption | (subst_vars; first | omega | assumption) | done))
      have rq1 : d_I d3 6325 (s_ G 63) = (0 : Int) := rdI_s e_d3
      have c1_hg : TCg d3 G g := by
        (first | assumption | exact (TCg.fr (by assumption) (Fr.uI e_d3) rfl) | exact (TCg.fr (TCg.fr (by assumption) (Fr.uI e_d2) rfl) (Fr.uI e_d3) rfl) | exact (TCg.fr (TCg.fr (TCg.fr (by assumption) (Fr.uI e_d1) rfl) (Fr.uI e_d2) rfl) (Fr.uI e_d3) rfl))
      have c1_hq : TSq d3 G q := by
        (first | assumption | exact (TSq.fr (by assumption) (Fr.uI e_d3) rfl) | exact (TSq.fr (TSq.fr (by assumption) (Fr.uI e_d2) rfl) (Fr.uI e_d3) rfl) | exact (TSq.fr (TSq.fr (TSq.fr (by assumption) (Fr.uI e_d1) rfl) (Fr.uI e_d2) rfl) (Fr.uI e_d3) rfl))
      have c1_hk : QiK q := by
        exact hqk
      have c1_h0 : 0 ≤ (d_I d3 6325 (s_ G 63)) ∧ (d_I d3 6325 (s_ G 63)) ≤ cgW g ∧ 0 ≤ sqM q ∧ sqM q ≤ 4096 := by
        try simp only [rq1]
        exact ⟨by omega, by have := w32'.1; omega, hsr.1.1, hsr.1.2⟩
      refine w_b (Wp.fr (s_X63_enter (g := g) (q := q) hN T_d3 c1_hg c1_hq c1_hk c1_h0) fr_X63_enter) fun d5 h_d5 => ?_
      obtain ⟨⟨T_d5, h_d5⟩, F_d5⟩ := h_d5
      try simp only [rq1] at h_d5
      have e3 : d_I d3 6325 (s_ G 63) = 0 := rdI_s e_d3
      have f5 : d_I d5 6325 (s_ G 63) = 0 := by rw [show d_I d5 6325 = d_I d3 6325 from F_d5.i rfl]; exact e3
      have k := h_d5.1 (by have := w32'.1; omega)
      have hq5 : TSq d5 G q := ((hq.fr (Fr.uI e_d1) rfl).fr (Fr.uI e_d2) rfl).fr (Fr.uI e_d3) rfl |>.fr F_d5 rfl
      have hg5 : TCg d5 G g := ((hg.fr (Fr.uI e_d1) rfl).fr (Fr.uI e_d2) rfl).fr (Fr.uI e_d3) rfl |>.fr F_d5 rfl
      have bt : ∀ w k l, Vld g q w k l → BeT d5 G g q w k l := fun w x l v => by
       by_cases z : w = 0
       · refine .inl ⟨by omega, ?_⟩
         obtain ⟨i, i0, i1, ei⟩ := k.2.2.2.1.sur v.2.2.1 v.2.2.2.1
         rw [f5, k.1, k.2.1, ← ei]
         rw [ll_px hqk k.2.2.2.1 k.2.2.2.2.1 i0 i1 (by omega) (by omega)]
         exact mv_0 (fun y a b a0 ab bM => (GrpF.z k.2.2.2.2.2 k.2.2.2.2.1 (by omega)).2.2.2.2 y |>.2 a b a0 ab bM) i0 i1 v.2.2.2.2.1
       · exact .inr (by have := v.1; omega)
      have tpo : TPo d5 G g q := by
       refine ⟨by omega, fun m z => ?_⟩
       have o2 := (w32'.2.2 0 (by omega) (by omega))
       rw [f5, k.1, k.2.1, k.2.2.1]
       refine ⟨k.2.2.2.1, k.2.2.2.2.1, GrpF.z k.2.2.2.2.2 k.2.2.2.2.1 m, ⟨by omega, ?_⟩, by omega, by omega⟩
       by_cases y : cgO g 0 = 0
       · rw [k.2.2.2.2.2.1 y]; exact m
       · have := k.2.2.2.2.2.2.1 y; omega
      have cm : CmI d5 G g q := fun w x l v t e n => absurd (bt w x l v) n
      have c6 : d_A d5 6323 = d_A D 6323 := by rw [show d_A d5 6323 = d_A d3 6323 from F_d5.a rfl, e_d3, e_d2, e_d1]; rfl
      have pr : 0 ≤ opN od * d_I D 6312 (s_ G 63) ∧ opN od * d_I D 6312 (s_ G 63) ≤ 1044480 := by
       have t12 := ty_6312 hT (s_ G 63)
       have p0 : 0 ≤ opN od := by rw [← mq]; exact hsr.1.1
       exact ⟨Int.mul_nonneg p0 t12.1, Int.mul_le_mul h0.2.2 t12.2 t12.1 (by decide)⟩
      rw [mN]
      have g16 : d_I d5 6316 (s_ G 63) = 1 := by rw [show d_I d5 6316 = d_I d3 6316 from F_d5.i rfl]; exact Eq.trans (rdI_I e_d3 rfl) (Eq.trans (rdI_I e_d2 rfl) (rdI_s e_d1))
      have t3 := ty_6312 hT (s_ G 63)
      refine w_gd (by (first | omega | assumption | (subst_vars; first | omega | assumption) | done)) ?_
      refine w_some ?_
      try dsimp only
      refine ⟨T_d5, ?_⟩
      have rq2 : d_I d5 6312 (s_ G 63) = d_I D 6312 (s_ G 63) := Eq.trans (congrFun (F_d5.i (i := 6312) rfl) (s_ G 63)) (Eq.trans (rdI_I e_d3 rfl) (Eq.trans (rdI_I e_d2 rfl) (rdI_I e_d1 rfl)))
      have rq3 : d_I d5 6330 (s_ G 63) = (0 : Int) := Eq.trans (congrFun (F_d5.i (i := 6330) rfl) (s_ G 63)) (Eq.trans (rdI_I e_d3 rfl) (rdI_s e_d2))
      have rq4 : d_A d5 6323 (s_ G 63) = d_A D 6323 (s_ G 63) := Eq.trans (congrFun (F_d5.a (i := 6323) rfl) (s_ G 63)) (Eq.trans (rdA_I e_d3) (Eq.trans (rdA_I e_d2) (rdA_I e_d1)))
      try simp only [rq2, rq3, rq4]
      refine ⟨?_, ?_, q, ⟨hg5, hq5, hs, hT0.1, h0.2.2, tpo, cm, g16⟩, bt, fun k k0 k1 => ?_⟩
      · first | trivial | rfl | rw [mN]
      · trivial
      · first | rw [c6] | skip
        obtain ⟨c, r, p, v, e⟩ := opF_sur hT0.1 k0 (by rw [← mq]; exact k1)
        rw [e]; exact (hL' c r p v).2.2.2.2.2
    · skip
      have dd := hT0.1.2.2.2.1 x2 h0.1 (by omega)
      have j1_hT0 : TOd D G od := by
        (first | assumption)
      have j1_hg : TCg D G g := by
        (first | assumption)
      have j1_h0 : 0 ≤ x2 ∧ x2 < oNC od ∧ 0 ≤ (0 : Int) ∧ (0 : Int) ≤ oNL od x2 + 1 ∧ opN od ≤ 4096 := by
        (first | omega | assumption | (subst_vars; first | omega | assumption) | done)
      have j1_hm1 : (d_I D 6317 (s_ G 63)) = opF od x2 (0 : Int) := by
        rw [hm1]; unfold opF; rw [olF_0, Int.add_zero]
      have j1_hL : ∀ c r p, PcV od c r p → c < x2 ∨ c = x2 ∧ r < (0 : Int) → LsE D G od (opF od c r + p) c r p := by
        intro c r p v l; exact hL c r p v (by have := v.2.1; omega)
      have j1_hM : oNC od - (x2 + 1) < n := by
        (first | omega | assumption | (subst_vars; first | omega | assumption) | done)
      have j1_hm : oNL od x2 + 1 - (0 : Int) < N := by
        (first | omega | assumption | (subst_vars; first | omega | assumption) | done)
      refine Wp.mo (s_X63_begin_67 hN (od := od) (g := g) (M57 := n) (fun T i0 i1 i2 i3 i4 hm => ih T i0 i1 i2 i3 i4 hm) _ hT j1_hT0 j1_hg j1_h0 j1_hm1 j1_hL j1_hM j1_hm) ?_
      intro o ho
      exact ho
set_option maxHeartbeats 8000000 in
theorem s_X63_begin {N : Nat} {G : Gt} {D : Dt} (hN : 1099511627776 ≤ N) {od : Od} {g : Cg} (hT : Ty D) (hT0 : TOd D G od) (hg : TCg D G g) (h0 : opN od ≤ 4096 ∧ (d_I D 6301 (s_ G 63)) = 1 ∧ 0 < oNC od) : Wp (q_X63_begin N G D) (fun o => (fun r D' => Ty D' ∧ (r = opN od * (d_I D' 6312 (s_ G 63)) ∧ (d_I D' 6330 (s_ G 63)) = 0 ∧ ∃ q, TSt D' G od g q ∧ (∀ w k l, Vld g q w k l → BeT D' G g q w k l) ∧ ∀ k, 0 ≤ k → k < sqM q → (d_A D' 6323 (s_ G 63) (k)) = 0)) o.1 o.2) := by
  refine w_un (q_X63_begin.eq_1 ..) ?_
  have t1 := ty_6301 hT (s_ G 63)
  have nc := hT0.1.2.2.1
  have n6 := hT0.2.2.1
  refine w_ite (fun hc1 => ?_) (fun hc1 => ?_)
  · skip
    exfalso; omega
  · skip
    have t2 := ty_6306 hT (s_ G 63)
    refine w_ite (fun hc2 => ?_) (fun hc2 => ?_)
    · skip
      exfalso; omega
    · skip
      refine w_un (q_X63_begin_19.eq_1 ..) ?_
      refine w_ite (fun hc3 => ?_) (fun hc3 => ?_)
      · skip
        have c1_hT0 : TOd D G od := by
          (first | assumption)
        refine w_b2 (Wp.fr (s_X63_count hN hT c1_hT0) fr_X63_count) fun v3 d2 h_v3 => ?_
        obtain ⟨⟨T_d2, h_v3⟩, F_d2⟩ := h_v3
        try dsimp only at T_d2 h_v3 F_d2
        refine w_ite (fun hc4 => ?_) (fun hc4 => ?_)
        · skip
          refine w_un (q_X63_begin_41.eq_1 ..) ?_
          refine w_un (q_X63_begin_42.eq_1 ..) ?_
          unfold q_X63_refuse q_X63_refuse_18
          generalize e_ts0 : (if (0 : Int) = (0 : Int) then (if (0 : Int) = (0 : Int) then (0 : Int) else (2 : Int)) else (1 : Int)) = ts0
          refine w_ll2 ?_
          refine w_let fun d1 e_d1 => ?_
          have T_d1 : Ty d1 := tyI_no e_d1 T_d2 rfl
          refine w_lif2 (fun hc5 => ?_) (fun hc5 => ?_)
          · skip
            refine w_let2 fun v3_2 d2_2 e_v3_2 e_d2_2 => ?_
            have T_d2_2 : Ty d2_2 := ty_e e_d2_2 T_d1
            refine w_ite (fun hc6 => ?_) (fun hc6 => ?_)
            · skip
              refine w_let fun d4 e_d4 => ?_
              have T_d4 : Ty d4 := tyI_6317 e_d4 T_d2_2 (by (first | omega | assumption | (subst_vars; first | omega | assumption) | done))
              have rq1 : d_I d4 6317 (s_ G 63) = (0 : Int) := rdI_s e_d4
              have j1_hT0 : TOd d4 G od := by
                (first | assumption | exact (TOd.fr (by assumption) (Fr.uI e_d4) rfl) | exact (TOd.fr (TOd.fr (by assumption) (Fr.eq0 e_d2_2) rfl) (Fr.uI e_d4) rfl) | exact (TOd.fr (TOd.fr (TOd.fr (by assumption) (Fr.uI e_d1) rfl) (Fr.eq0 e_d2_2) rfl) (Fr.uI e_d4) rfl) | exact (TOd.fr (TOd.fr (TOd.fr (TOd.fr (by assumption) F_d2 rfl) (Fr.uI e_d1) rfl) (Fr.eq0 e_d2_2) rfl) (Fr.uI e_d4) rfl))
              have j1_hg : TCg d4 G g := by
                (first | assumption | exact (TCg.fr (by assumption) (Fr.uI e_d4) rfl) | exact (TCg.fr (TCg.fr (by assumption) (Fr.eq0 e_d2_2) rfl) (Fr.uI e_d4) rfl) | exact (TCg.fr (TCg.fr (TCg.fr (by assumption) (Fr.uI e_d1) rfl) (Fr.eq0 e_d2_2) rfl) (Fr.uI e_d4) rfl) | exact (TCg.fr (TCg.fr (TCg.fr (TCg.fr (by assumption) F_d2 rfl) (Fr.uI e_d1) rfl) (Fr.eq0 e_d2_2) rfl) (Fr.uI e_d4) rfl))
              have j1_h0 : 0 ≤ (0 : Int) ∧ (0 : Int) ≤ oNC od ∧ opN od ≤ 4096 := by
                (first | omega | assumption | (subst_vars; first | omega | assumption) | done)
              have j1_hm1 : (d_I d4 6317 (s_ G 63)) = ocF od (0 : Int).toNat := by
                try simp only [rq1]
                rw [ocF_0]
              have j1_hL : ∀ c r p, PcV od c r p → c < (0 : Int) → LsE d4 G od (opF od c r + p) c r p := by
                intro c r p v l; have := v.1; omega
              have j1_hm : oNC od - (0 : Int) < N := by
                (first | omega | assumption | (subst_vars; first | omega | assumption) | done)
              refine Wp.mo (Wp.fr (s_X63_begin_57 hN (od := od) (g := g) _ T_d4 j1_hT0 j1_hg j1_h0 j1_hm1 j1_hL j1_hm) (fr_X63_begin_57 _)) ?_
              intro o ho
              obtain ⟨⟨hT', ho⟩, hF⟩ := ho
              try dsimp only at hF
              refine ⟨hT', ?_⟩
              have rq2 : d_I o.2 6312 (s_ G 63) = d_I D 6312 (s_ G 63) := Eq.trans (congrFun (hF.i (i := 6312) rfl) (s_ G 63)) (Eq.trans (rdI_I e_d4 rfl) (Eq.trans (rdI_e e_d2_2) (Eq.trans (rdI_I e_d1 rfl) (congrFun (F_d2.i (i := 6312) rfl) (s_ G 63)))))
              have t3 := ty_6312 hT (s_ G 63)
              have t4 := ty_6330 hT' (s_ G 63)
              try simp only [rq2]
              try simp only [rq2] at ho
              exact ho
            · skip
              exfalso; omega
          · skip
            exfalso; omega
        · skip
          exfalso; omega
      · skip
        exfalso; omega
