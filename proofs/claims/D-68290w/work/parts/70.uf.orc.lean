/-! specifications, printed by gen/mks.py -/
set_option maxRecDepth 100000
theorem mulp {a b n : Int} (ha : 0 ≤ a) (hb : 1 ≤ b) (hn : 1 ≤ n) : 0 ≤ a * b ∧ a * b ≤ a * (b * n) := by
  refine ⟨Int.mul_nonneg ha (by omega), ?_⟩
  have : b * 1 ≤ b * n := Int.mul_le_mul_of_nonneg_left hn (by omega)
  rw [Int.mul_one] at this
  exact Int.mul_le_mul_of_nonneg_left this ha
set_option maxHeartbeats 8000000 in
theorem s_X74_column {a0 : Nat} {x1 : Int} {G : Gt} {D : Dt} {od : Od} {k : Int} {lv : Int} (hT : Ty D) (hod : OdOk od) (hL : LvC D G od k lv a0) (hv : PcV od k lv x1) : Wp (q_X74_column a0 x1 G D) (fun r => r = olI od k lv x1) := by
  refine w_un (q_X74_column.eq_1 ..) ?_
  have b := op_b hod hv.1.1 hv.1.2 hv.2.1.1 hv.2.1.2 hv.2.2.1 hv.2.2.2
  have tm : Int.tmod x1 (d_I D 7405 a0) = x1 % olA od k lv := by rw [hL.2.2.2.1]; exact Int.tmod_eq_emod_of_nonneg hv.2.2.1
  have e0 : d_I D 2400 (z_P G 7401 a0) / p2 (d_I D 7403 a0) = olX od (oX0 od) k lv / p2 (oWD od k lv) := by rw [hL.1.1, hL.2.1]
  have eI : olX od (oX0 od) k lv / p2 (oWD od k lv) + x1 % olA od k lv = olI od k lv x1 := rfl
  have e5 := hL.2.2.2.1
  have t1 := ty_7405 hT a0
  refine w_gd (by (first | omega | assumption | (subst_vars; first | omega | assumption) | done)) ?_
  have t2 := ty_2400 hT (z_P G 7401 a0)
  have t3 := ty_7403 hT a0
  refine w_gd (by (first | omega | assumption | (subst_vars; first | omega | assumption) | done)) ?_
  refine w_some ?_
  rw [e0, tm]; exact eI
set_option maxHeartbeats 8000000 in
theorem s_X74_row {a0 : Nat} {x1 : Int} {G : Gt} {D : Dt} {od : Od} {k : Int} {lv : Int} (hT : Ty D) (hod : OdOk od) (hL : LvC D G od k lv a0) (hv : PcV od k lv x1) : Wp (q_X74_row a0 x1 G D) (fun r => r = olJ od k lv x1) := by
  refine w_un (q_X74_row.eq_1 ..) ?_
  have b := op_b hod hv.1.1 hv.1.2 hv.2.1.1 hv.2.1.2 hv.2.2.1 hv.2.2.2
  have tm : Int.tdiv x1 (d_I D 7405 a0) = x1 / olA od k lv := by rw [hL.2.2.2.1]; exact Int.tdiv_eq_ediv_of_nonneg hv.2.2.1
  have q0 := Int.ediv_nonneg hv.2.2.1 (show 0 ≤ olA od k lv by omega)
  have q1 : olY od (oY0 od) k lv / p2 (oHG od k lv) ≥ 0 := Int.ediv_nonneg (ol_r hod hv.1.1 hv.1.2 hv.2.1.1 hv.2.1.2).2.2.1.1 (by have := p2_pos (oHG od k lv); omega)
  have e0 : d_I D 2401 (z_P G 7401 a0) / p2 (d_I D 7404 a0) = olY od (oY0 od) k lv / p2 (oHG od k lv) := by rw [hL.1.2.1, hL.2.2.1]
  have eI : olY od (oY0 od) k lv / p2 (oHG od k lv) + x1 / olA od k lv = olJ od k lv x1 := rfl
  have e5 := hL.2.2.2.1
  have t1 := ty_7405 hT a0
  refine w_gd (by (first | omega | assumption | (subst_vars; first | omega | assumption) | done)) ?_
  refine w_gd (by (first | omega | assumption | (subst_vars; first | omega | assumption) | done)) ?_
  have t2 := ty_2401 hT (z_P G 7401 a0)
  have t3 := ty_7404 hT a0
  refine w_gd (by (first | omega | assumption | (subst_vars; first | omega | assumption) | done)) ?_
  refine w_some ?_
  rw [e0, tm]; exact eI
set_option maxHeartbeats 8000000 in
theorem s_X76_x {a0 : Nat} {r1 : Nat} {G : Gt} {D : Dt} {od : Od} {k : Int} {lv : Int} (hT : Ty D) (hod : OdOk od) (hS : StrI D G od k lv a0) (hv : PcV od k lv (d_I D 7604 a0)) (ha : d_I D 2400 r1 = oX0 od) : Wp (q_X76_x a0 r1 G D) (fun r => r = opX od k lv (d_I D 7604 a0)) := by
  refine w_un (q_X76_x.eq_1 ..) ?_
  have b := op_b hod hv.1.1 hv.1.2 hv.2.1.1 hv.2.1.2 hv.2.2.1 hv.2.2.2
  have dd := hod.2.2.2.1 k hv.1.1 hv.1.2
  have wh := hod.2.2.2.2 k lv hv.1.1 hv.1.2 hv.2.1.1 hv.2.1.2
  have hl := hS.2.2.2.2.1
  have hc := hS.2.2.2.2.2
  have hr := hv.2.1
  have e3 := hl.2.1
  have e2 := hc.2.2.1
  have e1 := hc.1
  have e4 := hS.2.2.2.1
  have pm := pl_mul (x := oWD od k lv) (y := oNL od k - lv) (by omega)
  have mp := mulp (a := olI od k lv (d_I D 7604 a0)) (b := p2l (oWD od k lv)) (n := p2l (oNL od k - lv)) b.2.1.1 pl_pos pl_pos
  rw [pm] at mp
  have pq := pl_40 (y := oNL od k - lv) (by omega)
  have t1 := ty_7604 hT a0
  have c1_hod : OdOk od := by
    (first | omega | assumption | (subst_vars; first | omega | assumption) | done)
  have c1_hL : LvC D G od k lv (z_P G 7602 a0) := by
    (first | assumption)
  have c1_hv : PcV od k lv (d_I D 7604 a0) := by
    (first | omega | assumption | (subst_vars; first | omega | assumption) | done)
  refine w_b (s_X74_column hT c1_hod c1_hL c1_hv) fun v3 h_v3 => ?_
  have f1 : v3 * p2l (d_I D 7403 (z_P G 7602 a0)) = olI od k lv (d_I D 7604 a0) * p2l (oWD od k lv) := by rw [h_v3, e3]
  have f0 : d_I D 7202 (z_P G 7601 a0) - d_I D 7400 (z_P G 7602 a0) = oNL od k - lv := by rw [e2, e4]
  have f00 : p2l (d_I D 7202 (z_P G 7601 a0) - d_I D 7400 (z_P G 7602 a0)) = p2l (oNL od k - lv) := by rw [f0]
  have t2 := ty_7403 hT (z_P G 7602 a0)
  refine w_gd (by (first | omega | assumption | (subst_vars; first | omega | assumption) | done)) ?_
  refine w_bb ?_
  refine w_un (q_X76_scale.eq_1 ..) ?_
  have t3 := ty_7202 hT (z_P G 7601 a0)
  have t4 := ty_7400 hT (z_P G 7602 a0)
  refine w_gd (by (first | omega | assumption | (subst_vars; first | omega | assumption) | done)) ?_
  refine w_gd (by (first | omega | assumption | (subst_vars; first | omega | assumption) | done)) ?_
  refine w_some fun v5 e_v5 => ?_
  have f2 : v3 * p2l (d_I D 7403 (z_P G 7602 a0)) * v5 = olI od k lv (d_I D 7604 a0) * p2l (oWD od k lv + (oNL od k - lv)) := by rw [f1, e_v5, f00, Int.mul_assoc, pm]
  have f3 : v3 * p2l (d_I D 7403 (z_P G 7602 a0)) * v5 * d_I D 7200 (z_P G 7601 a0) = olI od k lv (d_I D 7604 a0) * p2l (oWD od k lv + (oNL od k - lv)) * oDX od k := by rw [f2, e1]
  refine w_gd (by (first | omega | assumption | (subst_vars; first | omega | assumption) | done)) ?_
  have t5 := ty_7200 hT (z_P G 7601 a0)
  refine w_gd (by (first | omega | assumption | (subst_vars; first | omega | assumption) | done)) ?_
  refine w_some ?_
  have t6 := ty_2400 hT r1
  rw [f3, ha]; rfl
set_option maxHeartbeats 8000000 in
theorem s_X76_y {a0 : Nat} {r1 : Nat} {G : Gt} {D : Dt} {od : Od} {k : Int} {lv : Int} (hT : Ty D) (hod : OdOk od) (hS : StrI D G od k lv a0) (hv : PcV od k lv (d_I D 7604 a0)) (ha : d_I D 2401 r1 = oY0 od) : Wp (q_X76_y a0 r1 G D) (fun r => r = opY od k lv (d_I D 7604 a0)) := by
  refine w_un (q_X76_y.eq_1 ..) ?_
  have b := op_b hod hv.1.1 hv.1.2 hv.2.1.1 hv.2.1.2 hv.2.2.1 hv.2.2.2
  have dd := hod.2.2.2.1 k hv.1.1 hv.1.2
  have wh := hod.2.2.2.2 k lv hv.1.1 hv.1.2 hv.2.1.1 hv.2.1.2
  have hl := hS.2.2.2.2.1
  have hc := hS.2.2.2.2.2
  have hr := hv.2.1
  have e3 := hl.2.2.1
  have e2 := hc.2.2.1
  have e1 := hc.2.1
  have e4 := hS.2.2.2.1
  have pm := pl_mul (x := oHG od k lv) (y := oNL od k - lv) (by omega)
  have mp := mulp (a := olJ od k lv (d_I D 7604 a0)) (b := p2l (oHG od k lv)) (n := p2l (oNL od k - lv)) b.2.2.1.1 pl_pos pl_pos
  rw [pm] at mp
  have pq := pl_40 (y := oNL od k - lv) (by omega)
  have t1 := ty_7604 hT a0
  have c1_hod : OdOk od := by
    (first | omega | assumption | (subst_vars; first | omega | assumption) | done)
  have c1_hL : LvC D G od k lv (z_P G 7602 a0) := by
    (first | assumption)
  have c1_hv : PcV od k lv (d_I D 7604 a0) := by
    (first | omega | assumption | (subst_vars; first | omega | assumption) | done)
  refine w_b (s_X74_row hT c1_hod c1_hL c1_hv) fun v3 h_v3 => ?_
  have f1 : v3 * p2l (d_I D 7404 (z_P G 7602 a0)) = olJ od k lv (d_I D 7604 a0) * p2l (oHG od k lv) := by rw [h_v3, e3]
  have f0 : d_I D 7202 (z_P G 7601 a0) - d_I D 7400 (z_P G 7602 a0) = oNL od k - lv := by rw [e2, e4]
  have f00 : p2l (d_I D 7202 (z_P G 7601 a0) - d_I D 7400 (z_P G 7602 a0)) = p2l (oNL od k - lv) := by rw [f0]
  have t2 := ty_7404 hT (z_P G 7602 a0)
  refine w_gd (by (first | omega | assumption | (subst_vars; first | omega | assumption) | done)) ?_
  refine w_bb ?_
  refine w_un (q_X76_scale.eq_1 ..) ?_
  have t3 := ty_7202 hT (z_P G 7601 a0)
  have t4 := ty_7400 hT (z_P G 7602 a0)
  refine w_gd (by (first | omega | assumption | (subst_vars; first | omega | assumption) | done)) ?_
  refine w_gd (by (first | omega | assumption | (subst_vars; first | omega | assumption) | done)) ?_
  refine w_some fun v5 e_v5 => ?_
  have f2 : v3 * p2l (d_I D 7404 (z_P G 7602 a0)) * v5 = olJ od k lv (d_I D 7604 a0) * p2l (oHG od k lv + (oNL od k - lv)) := by rw [f1, e_v5, f00, Int.mul_assoc, pm]
  have f3 : v3 * p2l (d_I D 7404 (z_P G 7602 a0)) * v5 * d_I D 7201 (z_P G 7601 a0) = olJ od k lv (d_I D 7604 a0) * p2l (oHG od k lv + (oNL od k - lv)) * oDY od k := by rw [f2, e1]
  refine w_gd (by (first | omega | assumption | (subst_vars; first | omega | assumption) | done)) ?_
  have t5 := ty_7201 hT (z_P G 7601 a0)
  refine w_gd (by (first | omega | assumption | (subst_vars; first | omega | assumption) | done)) ?_
  refine w_some ?_
  have t6 := ty_2401 hT r1
  rw [f3, ha]; rfl
