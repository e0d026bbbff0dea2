/-! specifications, printed by gen/mks.py -/
set_option maxRecDepth 100000
theorem olF_s {o : Od} {c r : Int} (h : 0 ≤ r) : olF o c (r + 1).toNat = olF o c r.toNat + olP o c r := by
  rw [show (r + 1).toNat = r.toNat + 1 by omega]
  show olF o c r.toNat + olP o c (r.toNat : Nat) = _
  rw [show ((r.toNat : Nat) : Int) = r by omega]
theorem ocF_s {o : Od} {c : Int} (h : 0 ≤ c) : ocF o (c + 1).toNat = ocF o c.toNat + olF o c (oNL o c + 1).toNat := by
  rw [show (c + 1).toNat = c.toNat + 1 by omega]
  show ocF o c.toNat + olF o (c.toNat : Nat) (oNL o (c.toNat : Nat) + 1).toNat = _
  rw [show ((c.toNat : Nat) : Int) = c by omega]
theorem olF_m {o : Od} (h : OdOk o) {c : Int} (c0 : 0 ≤ c) (c1 : c < oNC o) (k : Nat) : ∀ r : Int, 0 ≤ r → r + k ≤ oNL o c + 1 → 0 ≤ olF o c r.toNat → olF o c r.toNat ≤ olF o c (r + k).toNat ∧ olF o c (r + k).toNat ≤ olF o c r.toNat + 1073676289 * k := by
  induction k with
  | zero => intro r a b d; rw [show r + ((0 : Nat) : Int) = r by omega]; omega
  | succ k ih =>
    intro r a b d
    have z := ih r a (by omega) d
    have e := olF_s (o := o) (c := c) (r := r + k) (by omega)
    rw [show r + ((k + 1 : Nat) : Int) = r + k + 1 by omega, e]
    have p := olP_r h c0 c1 (show 0 ≤ r + k by omega) (show r + k ≤ oNL o c by omega)
    omega
theorem olF_0 {o : Od} {c : Int} : olF o c (0 : Int).toNat = 0 := rfl
theorem olF_r {o : Od} (h : OdOk o) {c r : Int} (c0 : 0 ≤ c) (c1 : c < oNC o) (r0 : 0 ≤ r) (r1 : r ≤ oNL o c + 1) : 0 ≤ olF o c r.toNat ∧ olF o c r.toNat ≤ 1073676289 * r ∧ olF o c r.toNat ≤ olF o c (oNL o c + 1).toNat := by
  have a := olF_m h c0 c1 r.toNat 0 (by omega) (by omega) (by rw [olF_0]; omega)
  rw [olF_0, show (0 : Int) + (r.toNat : Nat) = r by omega] at a
  have b := olF_m h c0 c1 (oNL o c + 1 - r).toNat r r0 (by omega) (by omega)
  rw [show r + ((oNL o c + 1 - r).toNat : Nat) = oNL o c + 1 by omega] at b
  omega
theorem ocF_m {o : Od} (h : OdOk o) (k : Nat) : ∀ c : Int, 0 ≤ c → c + k ≤ oNC o → 0 ≤ ocF o c.toNat → ocF o c.toNat ≤ ocF o (c + k).toNat ∧ ocF o (c + k).toNat ≤ ocF o c.toNat + 35431317537 * k := by
  induction k with
  | zero => intro c a b d; rw [show c + ((0 : Nat) : Int) = c by omega]; omega
  | succ k ih =>
    intro c a b d
    have z := ih c a (by omega) d
    have e := ocF_s (o := o) (c := c + k) (by omega)
    rw [show c + ((k + 1 : Nat) : Int) = c + k + 1 by omega, e]
    have n := h.2.2.2.1 (c + k) (by omega) (by omega)
    have p := olF_r h (show 0 ≤ c + k by omega) (show c + k < oNC o by omega) (show 0 ≤ oNL o (c + k) + 1 by omega) (by omega)
    omega
theorem ocF_0 {o : Od} : ocF o (0 : Int).toNat = 0 := rfl
theorem ocF_r {o : Od} (h : OdOk o) {c : Int} (c0 : 0 ≤ c) (c1 : c ≤ oNC o) : 0 ≤ ocF o c.toNat ∧ ocF o c.toNat ≤ 35431317537 * c ∧ ocF o c.toNat ≤ opN o := by
  have a := ocF_m h c.toNat 0 (by omega) (by omega) (by rw [ocF_0]; omega)
  rw [ocF_0, show (0 : Int) + (c.toNat : Nat) = c by omega] at a
  have b := ocF_m h (oNC o - c).toNat c c0 (by omega) (by omega)
  rw [show c + ((oNC o - c).toNat : Nat) = oNC o by omega] at b
  unfold opN
  omega
/-- a level's precincts stand before those of what follows -/
theorem opF_n {o : Od} (h : OdOk o) {c r c' r' : Int} (c0 : 0 ≤ c) (r0 : 0 ≤ r) (r1 : r ≤ oNL o c) (c0' : 0 ≤ c') (c1' : c' < oNC o) (r0' : 0 ≤ r') (r1' : r' ≤ oNL o c' + 1) (l : c < c' ∨ c = c' ∧ r < r') : opF o c r + olP o c r ≤ opF o c' r' := by
  unfold opF
  rw [Int.add_assoc, ← olF_s r0]
  rcases l with l | ⟨l, l2⟩
  · have a := ocF_m h (c' - (c + 1)).toNat (c + 1) (by omega) (by omega) (ocF_r h (by omega) (by omega)).1
    rw [show c + 1 + ((c' - (c + 1)).toNat : Nat) = c' by omega, ocF_s c0] at a
    have b := (olF_r h c0 (show c < oNC o by omega) (show 0 ≤ r + 1 by omega) (by omega)).2.2
    have d := (olF_r h c0' c1' r0' r1').1
    omega
  · subst l
    have a := olF_m h c0 c1' (r' - (r + 1)).toNat (r + 1) (by omega) (by omega) (olF_r h c0 c1' (by omega) (by omega)).1
    rw [show r + 1 + ((r' - (r + 1)).toNat : Nat) = r' by omega] at a
    omega
theorem opF_b {o : Od} (h : OdOk o) {c r : Int} (c0 : 0 ≤ c) (c1 : c < oNC o) (r0 : 0 ≤ r) (r1 : r ≤ oNL o c) : 0 ≤ opF o c r ∧ opF o c r + olP o c r ≤ opN o := by
  have a := ocF_r h c0 (show c ≤ oNC o by omega)
  have a2 := ocF_r h (show 0 ≤ c + 1 by omega) (show c + 1 ≤ oNC o by omega)
  rw [ocF_s c0] at a2
  have b := olF_r h c0 c1 (show 0 ≤ r + 1 by omega) (by omega)
  have b2 := olF_r h c0 c1 r0 (by omega)
  unfold opF
  rw [Int.add_assoc, ← olF_s r0]
  omega
set_option maxHeartbeats 8000000 in
theorem s_X63_count_15 {N : Nat} {od : Od} (hN : 1099511627776 ≤ N) {k4 : Int → Int → Gt → Dt → Option (Int × Dt)} {M4 : Int} (hk4 : ∀ {x1 : Int} {x3 : Int} {G : Gt} {D : Dt}, Ty D → (TOd D G od) → (0 ≤ x3 ∧ x3 ≤ oNC od) → (x1 = ocF od x3.toNat) → oNC od - x3 < M4 → Wp (k4 x1 x3 G D) (fun o => (fun r D' => Ty D' ∧ (r = opN od)) o.1 o.2)) (n : Nat) : ∀ {x1 : Int} {x3 : Int} {x4 : Int} {G : Gt} {D : Dt}, Ty D → (TOd D G od) → (0 ≤ x3 ∧ x3 < oNC od ∧ 0 ≤ x4 ∧ x4 ≤ oNL od x3 + 1) → (x1 = ocF od x3.toNat + olF od x3 x4.toNat) → (oNC od - (x3 + 1) < M4) → oNL od x3 + 1 - x4 < n → Wp (q_X63_count_15 N k4 n x1 x3 x4 G D) (fun o => (fun r D' => Ty D' ∧ (r = opN od)) o.1 o.2) := by
  induction n with
  | zero =>
    intro x1 x3 x4 G D hT hT0 h0 h1 hM hm; exfalso; omega
  | succ n ih =>
    intro x1 x3 x4 G D hT hT0 h0 h1 hM hm
    show Wp (q_X63_count_15 N k4 (n + 1) x1 x3 x4 G D) _
    rw [q_X63_count_15]
    have nc := hT0.1.2.2.1
    have dd := hT0.1.2.2.2.1 x3 h0.1 h0.2.1
    have td := hT0.2.2.2.1 x3 h0.1 h0.2.1
    have rr := olF_r hT0.1 h0.1 h0.2.1 h0.2.2.1 h0.2.2.2
    have rc := ocF_r hT0.1 h0.1 (show x3 ≤ oNC od by omega)
    refine w_lA (by (first | omega | assumption | (subst_vars; first | omega | assumption) | done)) fun v2 e_v2 => ?_
    have t_v2 : 0 ≤ v2 ∧ v2 ≤ 32 := by rw [e_v2]; exact ty_6309 hT _ _
    have q2 : v2 = oNL od x3 := by rw [e_v2]; exact td.2.2
    refine w_ite (fun hc1 => ?_) (fun hc1 => ?_)
    · skip
      refine w_gd (by (first | omega | assumption | (subst_vars; first | omega | assumption) | done)) ?_
      refine w_let fun v3 e_v3 => ?_
      have j1_hT0 : TOd D G od := by
        (first | assumption)
      have j1_h0 : 0 ≤ v3 ∧ v3 ≤ oNC od := by
        (first | omega | assumption | (subst_vars; first | omega | assumption) | done)
      have j1_h1 : x1 = ocF od v3.toNat := by
        rw [e_v3, ocF_s h0.1, h1]; rw [show x4 = oNL od x3 + 1 by omega]
      have j1_hm : oNC od - v3 < M4 := by
        (first | omega | assumption | (subst_vars; first | omega | assumption) | done)
      exact hk4 hT j1_hT0 j1_h0 j1_h1 j1_hm
    · skip
      have hPr := olP_r hT0.1 h0.1 h0.2.1 h0.2.2.1 (show x4 ≤ oNL od x3 by omega)
      have hA := olA_r hT0.1 h0.1 h0.2.1 h0.2.2.1 (show x4 ≤ oNL od x3 by omega)
      have c1_hT0 : TOd D G od := by
        (first | assumption)
      have c1_h0 : 0 ≤ x3 ∧ x3 < oNC od ∧ 0 ≤ x4 ∧ x4 ≤ oNL od x3 := by
        (first | omega | assumption | (subst_vars; first | omega | assumption) | done)
      refine w_b (Wp.fr (s_X63_findLevel hN hT c1_hT0 c1_h0) fr_X63_findLevel) fun d5 h_d5 => ?_
      obtain ⟨⟨T_d5, h_d5⟩, F_d5⟩ := h_d5
      have t1 := ty_6334 T_d5 (s_ G 63)
      have t2 := ty_6335 T_d5 (s_ G 63)
      have t3 := ty_6336 T_d5 (s_ G 63)
      have t4 := ty_6337 T_d5 (s_ G 63)
      have c2_hT0 : TOd d5 G od := by
        (first | assumption | exact (TOd.fr (by assumption) F_d5 rfl))
      have c2_h0 : 0 ≤ x3 ∧ x3 < oNC od ∧ 0 ≤ x4 ∧ x4 ≤ oNL od x3 := by
        (first | omega | assumption | (subst_vars; first | omega | assumption) | done)
      have c2_hx : (d_I d5 6334 (s_ G 63)) = olX od (oX0 od) x3 x4 ∧ (d_I d5 6335 (s_ G 63)) = olY od (oY0 od) x3 x4 ∧ (d_I d5 6336 (s_ G 63)) = olX od (oX1 od) x3 x4 ∧ (d_I d5 6337 (s_ G 63)) = olY od (oY1 od) x3 x4 := by
        (first | omega | assumption | (subst_vars; first | omega | assumption) | done)
      refine w_b (s_X63_columns T_d5 c2_hT0 c2_h0 c2_hx) fun v6 h_v6 => ?_
      have c3_hT0 : TOd d5 G od := by
        (first | assumption | exact (TOd.fr (by assumption) F_d5 rfl))
      have c3_h0 : 0 ≤ x3 ∧ x3 < oNC od ∧ 0 ≤ x4 ∧ x4 ≤ oNL od x3 := by
        (first | omega | assumption | (subst_vars; first | omega | assumption) | done)
      have c3_hx : (d_I d5 6334 (s_ G 63)) = olX od (oX0 od) x3 x4 ∧ (d_I d5 6335 (s_ G 63)) = olY od (oY0 od) x3 x4 ∧ (d_I d5 6336 (s_ G 63)) = olX od (oX1 od) x3 x4 ∧ (d_I d5 6337 (s_ G 63)) = olY od (oY1 od) x3 x4 := by
        (first | omega | assumption | (subst_vars; first | omega | assumption) | done)
      refine w_b (s_X63_rows T_d5 c3_hT0 c3_h0 c3_hx) fun v7 h_v7 => ?_
      have e67 : v6 * v7 = olP od x3 x4 := by rw [h_v6, h_v7]; rfl
      rw [e67]
      refine w_gd (by (first | omega | assumption | (subst_vars; first | omega | assumption) | done)) ?_
      refine w_gd (by (first | omega | assumption | (subst_vars; first | omega | assumption) | done)) ?_
      refine w_let fun v8 e_v8 => ?_
      refine w_gd (by (first | omega | assumption | (subst_vars; first | omega | assumption) | done)) ?_
      refine w_let fun v9 e_v9 => ?_
      have j2_hT0 : TOd d5 G od := by
        (first | assumption | exact (TOd.fr (by assumption) F_d5 rfl))
      have j2_h0 : 0 ≤ x3 ∧ x3 < oNC od ∧ 0 ≤ v9 ∧ v9 ≤ oNL od x3 + 1 := by
        (first | omega | assumption | (subst_vars; first | omega | assumption) | done)
      have j2_h1 : v8 = ocF od x3.toNat + olF od x3 v9.toNat := by
        rw [e_v8, e_v9, olF_s h0.2.2.1, h1]; omega
      have j2_hM : oNC od - (x3 + 1) < M4 := by
        (first | omega | assumption | (subst_vars; first | omega | assumption) | done)
      have j2_hm : oNL od x3 + 1 - v9 < n := by
        (first | omega | assumption | (subst_vars; first | omega | assumption) | done)
      exact ih T_d5 j2_hT0 j2_h0 j2_h1 j2_hM j2_hm
set_option maxHeartbeats 8000000 in
theorem s_X63_count_4 {N : Nat} {od : Od} (hN : 1099511627776 ≤ N) (n : Nat) : ∀ {x1 : Int} {x3 : Int} {G : Gt} {D : Dt}, Ty D → (TOd D G od) → (0 ≤ x3 ∧ x3 ≤ oNC od) → (x1 = ocF od x3.toNat) → oNC od - x3 < n → Wp (q_X63_count_4 N n x1 x3 G D) (fun o => (fun r D' => Ty D' ∧ (r = opN od)) o.1 o.2) := by
  induction n with
  | zero =>
    intro x1 x3 G D hT hT0 h0 h1 hm; exfalso; omega
  | succ n ih =>
    intro x1 x3 G D hT hT0 h0 h1 hm
    show Wp (q_X63_count_4 N (n + 1) x1 x3 G D) _
    rw [q_X63_count_4]
    have nc := hT0.1.2.2.1
    have n6 := hT0.2.2.1
    have t1 := ty_6306 hT (s_ G 63)
    refine w_ite (fun hc1 => ?_) (fun hc1 => ?_)
    · skip
      refine w_some ?_
      try dsimp only
      refine ⟨hT, ?_⟩
      rw [h1, show x3 = oNC od by omega]; rfl
    · skip
      have rr := hT0.1.2.2.2.1 x3 h0.1 (by omega)
      have j1_hT0 : TOd D G od := by
        (first | assumption)
      have j1_h0 : 0 ≤ x3 ∧ x3 < oNC od ∧ 0 ≤ (0 : Int) ∧ (0 : Int) ≤ oNL od x3 + 1 := by
        (first | omega | assumption | (subst_vars; first | omega | assumption) | done)
      have j1_h1 : x1 = ocF od x3.toNat + olF od x3 (0 : Int).toNat := by
        rw [olF_0, Int.add_zero]; exact h1
      have j1_hM : oNC od - (x3 + 1) < n := by
        (first | omega | assumption | (subst_vars; first | omega | assumption) | done)
      have j1_hm : oNL od x3 + 1 - (0 : Int) < N := by
        (first | omega | assumption | (subst_vars; first | omega | assumption) | done)
      refine Wp.mo (s_X63_count_15 hN (od := od) (M4 := n) (fun T i0 i1 i2 hm => ih T i0 i1 i2 hm) _ hT j1_hT0 j1_h0 j1_h1 j1_hM j1_hm) ?_
      intro o ho
      exact ho
set_option maxHeartbeats 8000000 in
theorem s_X63_count {N : Nat} {G : Gt} {D : Dt} (hN : 1099511627776 ≤ N) {od : Od} (hT : Ty D) (hT0 : TOd D G od) : Wp (q_X63_count N G D) (fun o => (fun r D' => Ty D' ∧ (r = opN od)) o.1 o.2) := by
  refine w_un (q_X63_count.eq_1 ..) ?_
  have nc := hT0.1.2.2.1
  have j1_hT0 : TOd D G od := by
    (first | assumption)
  have j1_h0 : 0 ≤ (0 : Int) ∧ (0 : Int) ≤ oNC od := by
    (first | omega | assumption | (subst_vars; first | omega | assumption) | done)
  have j1_h1 : (0 : Int) = ocF od (0 : Int).toNat := by
    rw [ocF_0]
  have j1_hm : oNC od - (0 : Int) < N := by
    (first | omega | assumption | (subst_vars; first | omega | assumption) | done)
  refine Wp.mo (s_X63_count_4 hN (od := od) _ hT j1_hT0 j1_h0 j1_h1 j1_hm) ?_
  intro o ho
  exact ho
