/-! specifications, printed by gen/mks.py -/
set_option maxRecDepth 100000
/-- divided upwards behind something taken off -/
def cuZ (a b : Int) : Int := if 0 < a then otU a b else 0
theorem cuZ_0 {a b : Int} (h : 0 ≤ a) (hb : 1 ≤ b) : cuZ a b = otU a b := by
  unfold cuZ
  split
  · rfl
  · rw [show a = 0 by omega, otU_0 hb]
theorem cuZ_r {a b : Int} (hb : 1 ≤ b) (h : a ≤ 65536) : 0 ≤ cuZ a b ∧ cuZ a b ≤ 65536 := by
  unfold cuZ
  split
  · have := otU_r (a := a) (b := b) (by omega) hb; omega
  · omega
def ArE (D D' : Dt) (b : Nat) : Prop := d_I D' 2400 b = d_I D 2400 b ∧ d_I D' 2401 b = d_I D 2401 b ∧ d_I D' 2402 b = d_I D 2402 b ∧ d_I D' 2403 b = d_I D 2403 b
theorem ArE.rf {D : Dt} {b : Nat} : ArE D D b := ⟨rfl, rfl, rfl, rfl⟩
theorem ArE.tr {D E F : Dt} {b : Nat} (h : ArE D E b) (k : ArE E F b) : ArE D F b := ⟨k.1.trans h.1, k.2.1.trans h.2.1, k.2.2.1.trans h.2.2.1, k.2.2.2.trans h.2.2.2⟩
theorem ArE.fr' {D D' : Dt} {b : Nat} {S : List Nat} (F : Fr S D D') (hd : ([2400, 2401, 2402, 2403].all fun j => !S.contains j) = true) : ArE D D' b := by
  unfold ArE
  rw [F.i (i := 2400) (dsO_o hd (by decide)), F.i (i := 2401) (dsO_o hd (by decide)), F.i (i := 2402) (dsO_o hd (by decide)), F.i (i := 2403) (dsO_o hd (by decide))]
  exact ⟨rfl, rfl, rfl, rfl⟩
theorem ar4 {D d1 d2 d3 d4 : Dt} {a : Nat} {x y z w : Int} (e1 : d1 = u_I D 2400 a x) (e2 : d2 = u_I d1 2401 a y) (e3 : d3 = u_I d2 2402 a z) (e4 : d4 = u_I d3 2403 a w) : (d_I d4 2400 a = x ∧ d_I d4 2401 a = y ∧ d_I d4 2402 a = z ∧ d_I d4 2403 a = w) ∧ ∀ b, b ≠ a → ArE D d4 b := by
  rw [e4, e3, e2, e1]
  refine ⟨⟨?_, ?_, ?_, ?_⟩, fun b hb => ⟨?_, ?_, ?_, ?_⟩⟩
  all_goals (simp only [rI_I]; simp)
  all_goals exact fun z => absurd z hb
set_option maxHeartbeats 8000000 in
theorem s_X24_up {x0 : Int} {x2 : Int} (h0 : x0 ≤ 65536 ∧ -1099511627776 ≤ x0 ∧ 1 ≤ x2 ∧ x2 ≤ 1099511627776) : Wp (q_X24_up x0 x2) (fun r => r = cuZ x0 x2) := by
  refine w_un (q_X24_up.eq_1 ..) ?_
  have rr := cuZ_r (a := x0) (b := x2) (by omega) (by omega)
  refine w_ite (fun hc1 => ?_) (fun hc1 => ?_)
  · skip
    have t := otU_t (a := x0) (b := x2) (by omega) (by omega)
    have e : cuZ x0 x2 = otU x0 x2 := by unfold cuZ; rw [if_pos hc1]
    refine w_gd (by (first | omega | assumption | (subst_vars; first | omega | assumption) | done)) ?_
    refine w_gd (by (first | omega | assumption | (subst_vars; first | omega | assumption) | done)) ?_
    refine w_gd (by (first | omega | assumption | (subst_vars; first | omega | assumption) | done)) ?_
    refine w_gd (by (first | omega | assumption | (subst_vars; first | omega | assumption) | done)) ?_
    refine w_gd (by (first | omega | assumption | (subst_vars; first | omega | assumption) | done)) ?_
    refine w_some ?_
    rw [e]; exact t
  · skip
    refine w_some ?_
    unfold cuZ; rw [if_neg hc1]
set_option maxHeartbeats 8000000 in
theorem s_X24_divide {a0 : Nat} {r1 : Nat} {x2 : Int} {x4 : Int} {x6 : Int} {x8 : Int} {G : Gt} {D : Dt} (hT : Ty D) (h0 : 0 ≤ x2 ∧ x2 ≤ 1099511627776 ∧ 0 ≤ x4 ∧ x4 ≤ 1099511627776 ∧ 1 ≤ x6 ∧ x6 ≤ 1099511627776 ∧ 1 ≤ x8 ∧ x8 ≤ 1099511627776) : Wp (q_X24_divide a0 r1 x2 x4 x6 x8 G D) (fun D' => Ty D' ∧ (((d_I D' 2400 a0) = cuZ (d_I D 2400 r1 - x2) x6 ∧ (d_I D' 2401 a0) = cuZ (d_I D 2401 r1 - x4) x8 ∧ (d_I D' 2402 a0) = cuZ (d_I D 2402 r1 - x2) x6 ∧ (d_I D' 2403 a0) = cuZ (d_I D 2403 r1 - x4) x8) ∧ ∀ bb, bb ≠ a0 → ArE D D' bb)) := by
  refine w_un (q_X24_divide.eq_1 ..) ?_
  have ta := ty_2400 hT r1
  have tb := ty_2401 hT r1
  have tc := ty_2402 hT r1
  have td := ty_2403 hT r1
  have ca := cuZ_r (a := d_I D 2400 r1 - x2) (b := x6) (by omega) (by omega)
  have cb := cuZ_r (a := d_I D 2401 r1 - x4) (b := x8) (by omega) (by omega)
  have cc := cuZ_r (a := d_I D 2402 r1 - x2) (b := x6) (by omega) (by omega)
  have cd := cuZ_r (a := d_I D 2403 r1 - x4) (b := x8) (by omega) (by omega)
  have t1 := ty_2400 hT r1
  refine w_gd (by (first | omega | assumption | (subst_vars; first | omega | assumption) | done)) ?_
  have c1_h0 : ((d_I D 2400 r1) - x2) ≤ 65536 ∧ -1099511627776 ≤ ((d_I D 2400 r1) - x2) ∧ 1 ≤ x6 ∧ x6 ≤ 1099511627776 := by
    (first | omega | assumption | (subst_vars; first | omega | assumption) | done)
  refine w_b (s_X24_up c1_h0) fun v2 h_v2 => ?_
  have t2 := ty_2401 hT r1
  refine w_gd (by (first | omega | assumption | (subst_vars; first | omega | assumption) | done)) ?_
  have c2_h0 : ((d_I D 2401 r1) - x4) ≤ 65536 ∧ -1099511627776 ≤ ((d_I D 2401 r1) - x4) ∧ 1 ≤ x8 ∧ x8 ≤ 1099511627776 := by
    (first | omega | assumption | (subst_vars; first | omega | assumption) | done)
  refine w_b (s_X24_up c2_h0) fun v3 h_v3 => ?_
  have t3 := ty_2402 hT r1
  refine w_gd (by (first | omega | assumption | (subst_vars; first | omega | assumption) | done)) ?_
  have c3_h0 : ((d_I D 2402 r1) - x2) ≤ 65536 ∧ -1099511627776 ≤ ((d_I D 2402 r1) - x2) ∧ 1 ≤ x6 ∧ x6 ≤ 1099511627776 := by
    (first | omega | assumption | (subst_vars; first | omega | assumption) | done)
  refine w_b (s_X24_up c3_h0) fun v4 h_v4 => ?_
  have t4 := ty_2403 hT r1
  refine w_gd (by (first | omega | assumption | (subst_vars; first | omega | assumption) | done)) ?_
  have c4_h0 : ((d_I D 2403 r1) - x4) ≤ 65536 ∧ -1099511627776 ≤ ((d_I D 2403 r1) - x4) ∧ 1 ≤ x8 ∧ x8 ≤ 1099511627776 := by
    (first | omega | assumption | (subst_vars; first | omega | assumption) | done)
  refine w_b (s_X24_up c4_h0) fun v5 h_v5 => ?_
  unfold q_X24_set
  refine w_ll ?_
  refine w_let fun d1 e_d1 => ?_
  have T_d1 : Ty d1 := tyI_2400 e_d1 hT (by (first | omega | assumption | (subst_vars; first | omega | assumption) | done))
  refine w_ll ?_
  refine w_let fun d2 e_d2 => ?_
  have T_d2 : Ty d2 := tyI_2401 e_d2 T_d1 (by (first | omega | assumption | (subst_vars; first | omega | assumption) | done))
  refine w_ll ?_
  refine w_let fun d3 e_d3 => ?_
  have T_d3 : Ty d3 := tyI_2402 e_d3 T_d2 (by (first | omega | assumption | (subst_vars; first | omega | assumption) | done))
  refine w_ll ?_
  refine w_let fun d4 e_d4 => ?_
  have T_d4 : Ty d4 := tyI_2403 e_d4 T_d3 (by (first | omega | assumption | (subst_vars; first | omega | assumption) | done))
  refine w_let fun d7 e_d7 => ?_
  have T_d7 : Ty d7 := ty_e e_d7 T_d4
  refine w_some ?_
  refine ⟨T_d7, ?_⟩
  have rq1 : d_I d7 2400 a0 = v2 := Eq.trans (rdI_e e_d7) (Eq.trans (rdI_I e_d4 rfl) (Eq.trans (rdI_I e_d3 rfl) (Eq.trans (rdI_I e_d2 rfl) (rdI_s e_d1))))
  have rq2 : d_I d7 2401 a0 = v3 := Eq.trans (rdI_e e_d7) (Eq.trans (rdI_I e_d4 rfl) (Eq.trans (rdI_I e_d3 rfl) (rdI_s e_d2)))
  have rq3 : d_I d7 2402 a0 = v4 := Eq.trans (rdI_e e_d7) (Eq.trans (rdI_I e_d4 rfl) (rdI_s e_d3))
  have rq4 : d_I d7 2403 a0 = v5 := Eq.trans (rdI_e e_d7) (rdI_s e_d4)
  try simp only [rq1, rq2, rq3, rq4]
  refine ⟨⟨h_v2, h_v3, h_v4, h_v5⟩, fun bb h => ?_⟩
  rw [e_d7]; exact (ar4 e_d1 e_d2 e_d3 e_d4).2 bb h
set_option maxHeartbeats 8000000 in
theorem s_X24_columns {a0 : Nat} {x1 : Int} {G : Gt} {D : Dt} (hT : Ty D) (h0 : 0 ≤ x1 ∧ x1 ≤ 15) : Wp (q_X24_columns a0 x1 G D) (fun r => r = if d_I D 2402 a0 ≤ d_I D 2400 a0 ∨ d_I D 2403 a0 ≤ d_I D 2401 a0 then 0 else (d_I D 2402 a0 - 1) / p2 x1 - d_I D 2400 a0 / p2 x1 + 1) := by
  refine w_un (q_X24_columns.eq_1 ..) ?_
  have ta := ty_2400 hT a0
  have tc := ty_2402 hT a0
  have pp := p2_pos x1
  have q0 := Int.ediv_nonneg ta.1 (show 0 ≤ p2 x1 by omega)
  have q1 : d_I D 2400 a0 / p2 x1 ≤ d_I D 2400 a0 := Int.ediv_le_self _ ta.1
  refine w_let fun v1 e_v1 => ?_
  simp only [q_X24_isEmpty] at e_v1
  refine w_ite (fun hc1 => ?_) (fun hc1 => ?_)
  · skip
    have lt : ¬ (d_I D 2402 a0 ≤ d_I D 2400 a0 ∨ d_I D 2403 a0 ≤ d_I D 2401 a0) := by omega
    have q2 := Int.ediv_nonneg (show 0 ≤ d_I D 2402 a0 - 1 by omega) (show 0 ≤ p2 x1 by omega)
    have q3 : (d_I D 2402 a0 - 1) / p2 x1 ≤ d_I D 2402 a0 - 1 := Int.ediv_le_self _ (by omega)
    have t1 := ty_2402 hT a0
    refine w_gd (by (first | omega | assumption | (subst_vars; first | omega | assumption) | done)) ?_
    have t2 := ty_2400 hT a0
    refine w_gd (by (first | omega | assumption | (subst_vars; first | omega | assumption) | done)) ?_
    refine w_gd (by (first | omega | assumption | (subst_vars; first | omega | assumption) | done)) ?_
    refine w_some ?_
    exact (if_neg lt).symm
  · skip
    refine w_some ?_
    exact (if_pos (by omega)).symm
set_option maxHeartbeats 8000000 in
theorem s_X24_rows {a0 : Nat} {x1 : Int} {G : Gt} {D : Dt} (hT : Ty D) (h0 : 0 ≤ x1 ∧ x1 ≤ 15) : Wp (q_X24_rows a0 x1 G D) (fun r => r = if d_I D 2402 a0 ≤ d_I D 2400 a0 ∨ d_I D 2403 a0 ≤ d_I D 2401 a0 then 0 else (d_I D 2403 a0 - 1) / p2 x1 - d_I D 2401 a0 / p2 x1 + 1) := by
  refine w_un (q_X24_rows.eq_1 ..) ?_
  have ta := ty_2401 hT a0
  have tc := ty_2403 hT a0
  have pp := p2_pos x1
  have q0 := Int.ediv_nonneg ta.1 (show 0 ≤ p2 x1 by omega)
  have q1 : d_I D 2401 a0 / p2 x1 ≤ d_I D 2401 a0 := Int.ediv_le_self _ ta.1
  refine w_let fun v1 e_v1 => ?_
  simp only [q_X24_isEmpty] at e_v1
  refine w_ite (fun hc1 => ?_) (fun hc1 => ?_)
  · skip
    have lt : ¬ (d_I D 2402 a0 ≤ d_I D 2400 a0 ∨ d_I D 2403 a0 ≤ d_I D 2401 a0) := by omega
    have q2 := Int.ediv_nonneg (show 0 ≤ d_I D 2403 a0 - 1 by omega) (show 0 ≤ p2 x1 by omega)
    have q3 : (d_I D 2403 a0 - 1) / p2 x1 ≤ d_I D 2403 a0 - 1 := Int.ediv_le_self _ (by omega)
    have t1 := ty_2403 hT a0
    refine w_gd (by (first | omega | assumption | (subst_vars; first | omega | assumption) | done)) ?_
    have t2 := ty_2401 hT a0
    refine w_gd (by (first | omega | assumption | (subst_vars; first | omega | assumption) | done)) ?_
    refine w_gd (by (first | omega | assumption | (subst_vars; first | omega | assumption) | done)) ?_
    refine w_some ?_
    exact (if_neg lt).symm
  · skip
    refine w_some ?_
    exact (if_pos (by omega)).symm
