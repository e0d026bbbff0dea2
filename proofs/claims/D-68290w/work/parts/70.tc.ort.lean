/-! specifications, printed by gen/mks.py -/
set_option maxRecDepth 100000
def LsE (D : Dt) (G : Gt) (o : Od) (k c r p : Int) : Prop := d_A D 6318 (s_ G 63) k = c ∧ d_A D 6319 (s_ G 63) k = r ∧ d_A D 6320 (s_ G 63) k = p ∧ d_A D 6321 (s_ G 63) k = opX o c r p ∧ d_A D 6322 (s_ G 63) k = opY o c r p ∧ d_A D 6323 (s_ G 63) k = 0
def SmL (D D' : Dt) (G : Gt) (k : Int) : Prop := d_A D' 6318 (s_ G 63) k = d_A D 6318 (s_ G 63) k ∧ d_A D' 6319 (s_ G 63) k = d_A D 6319 (s_ G 63) k ∧ d_A D' 6320 (s_ G 63) k = d_A D 6320 (s_ G 63) k ∧ d_A D' 6321 (s_ G 63) k = d_A D 6321 (s_ G 63) k ∧ d_A D' 6322 (s_ G 63) k = d_A D 6322 (s_ G 63) k ∧ d_A D' 6323 (s_ G 63) k = d_A D 6323 (s_ G 63) k
theorem SmL.rf {D : Dt} {G : Gt} {k : Int} : SmL D D G k := ⟨rfl, rfl, rfl, rfl, rfl, rfl⟩
theorem SmL.tr {D E F : Dt} {G : Gt} {k : Int} (a : SmL D E G k) (b : SmL E F G k) : SmL D F G k := ⟨b.1.trans a.1, b.2.1.trans a.2.1, b.2.2.1.trans a.2.2.1, b.2.2.2.1.trans a.2.2.2.1, b.2.2.2.2.1.trans a.2.2.2.2.1, b.2.2.2.2.2.trans a.2.2.2.2.2⟩
theorem LsE.sm {D D' : Dt} {G : Gt} {o : Od} {k c r p : Int} (h : LsE D G o k c r p) (s : SmL D D' G k) : LsE D' G o k c r p := ⟨s.1.trans h.1, s.2.1.trans h.2.1, s.2.2.1.trans h.2.2.1, s.2.2.2.1.trans h.2.2.2.1, s.2.2.2.2.1.trans h.2.2.2.2.1, s.2.2.2.2.2.trans h.2.2.2.2.2⟩
theorem SmL.fr {D D' : Dt} {G : Gt} {k : Int} {S : List Nat} (F : Fr S D D') (hd : ([6318, 6319, 6320, 6321, 6322, 6323].all fun j => !S.contains j) = true) : SmL D D' G k := by
  unfold SmL
  rw [F.a (i := 6318) (dsO_o hd (by decide)), F.a (i := 6319) (dsO_o hd (by decide)), F.a (i := 6320) (dsO_o hd (by decide)), F.a (i := 6321) (dsO_o hd (by decide)), F.a (i := 6322) (dsO_o hd (by decide)), F.a (i := 6323) (dsO_o hd (by decide))]
  exact ⟨rfl, rfl, rfl, rfl, rfl, rfl⟩
theorem ls6 {D d1 d2 d3 d4 d5 d6 d7 : Dt} {G : Gt} {o : Od} {K c r p v w m : Int} (e1 : d1 = u_A D 6318 (s_ G 63) K c) (e2 : d2 = u_A d1 6319 (s_ G 63) K r) (e3 : d3 = u_A d2 6320 (s_ G 63) K p) (e4 : d4 = u_A d3 6321 (s_ G 63) K v) (e5 : d5 = u_A d4 6322 (s_ G 63) K w) (e6 : d6 = u_A d5 6323 (s_ G 63) K 0) (e7 : d7 = u_I d6 6317 (s_ G 63) m) (ev : v = opX o c r p) (ew : w = opY o c r p) : LsE d7 G o K c r p ∧ ∀ k, k ≠ K → SmL D d7 G k := by
  have a : d_A d7 = d_A d6 := by rw [e7]; rfl
  unfold LsE SmL
  rw [a, e6, e5, e4, e3, e2, e1]
  refine ⟨⟨?_, ?_, ?_, ?_, ?_, ?_⟩, fun k hk => ⟨?_, ?_, ?_, ?_, ?_, ?_⟩⟩
  all_goals (simp only [rA_A]; try rw [if_neg (fun z => absurd z.1 (by decide))])
  all_goals first | rfl | exact ev | exact ew | skip
  all_goals simp [hk, ev, ew]
set_option maxHeartbeats 8000000 in
theorem s_X63_columns {x1 : Int} {x2 : Int} {G : Gt} {D : Dt} {od : Od} (hT : Ty D) (hT0 : TOd D G od) (h0 : 0 ≤ x1 ∧ x1 < oNC od ∧ 0 ≤ x2 ∧ x2 ≤ oNL od x1) (hx : (d_I D 6334 (s_ G 63)) = olX od (oX0 od) x1 x2 ∧ (d_I D 6335 (s_ G 63)) = olY od (oY0 od) x1 x2 ∧ (d_I D 6336 (s_ G 63)) = olX od (oX1 od) x1 x2 ∧ (d_I D 6337 (s_ G 63)) = olY od (oY1 od) x1 x2) : Wp (q_X63_columns x1 x2 G D) (fun r => r = olA od x1 x2) := by
  refine w_un (q_X63_columns.eq_1 ..) ?_
  have t1 := ty_6334 hT (s_ G 63)
  have t2 := ty_6335 hT (s_ G 63)
  have t3 := ty_6336 hT (s_ G 63)
  have t4 := ty_6337 hT (s_ G 63)
  have nc := hT0.1.2.2.1
  have dd := hT0.1.2.2.2.1 x1 h0.1 h0.2.1
  have tt := hT0.2.2.2.2 x1 x2 h0.1 h0.2.1 h0.2.2.1 h0.2.2.2
  have b := ol_r hT0.1 h0.1 h0.2.1 h0.2.2.1 h0.2.2.2
  refine w_ite (fun hc1 => ?_) (fun hc1 => ?_)
  · skip
    refine w_un (q_X63_columns_22.eq_1 ..) ?_
    refine w_un (q_X63_columns_27.eq_1 ..) ?_
    refine w_ite (fun hc2 => ?_) (fun hc2 => ?_)
    · skip
      refine w_gd (by (first | omega | assumption | (subst_vars; first | omega | assumption) | done)) ?_
      refine w_gd (by (first | omega | assumption | (subst_vars; first | omega | assumption) | done)) ?_
      refine w_gd (by (first | omega | assumption | (subst_vars; first | omega | assumption) | done)) ?_
      refine w_lA (by (first | omega | assumption | (subst_vars; first | omega | assumption) | done)) fun v2 e_v2 => ?_
      have t_v2 : 0 ≤ v2 ∧ v2 ≤ 15 := by rw [e_v2]; exact ty_6310 hT _ _
      refine w_lA (by (first | omega | assumption | (subst_vars; first | omega | assumption) | done)) fun v4 e_v4 => ?_
      have t_v4 : 0 ≤ v4 ∧ v4 ≤ 15 := by rw [e_v4]; exact ty_6310 hT _ _
      have q2 : v2 = oWD od x1 x2 := by rw [e_v2]; exact tt.1
      have q4 : v4 = oWD od x1 x2 := by rw [e_v4]; exact tt.1
      have x := dv_r (w := p2 (oWD od x1 x2)) b.1.1 (show olX od (oX0 od) x1 x2 < olX od (oX1 od) x1 x2 by omega) b.2.1.2 (p2_pos _)
      rw [q2, q4, hx.1, hx.2.2.1]
      refine w_gd (by (first | omega | assumption | (subst_vars; first | omega | assumption) | done)) ?_
      refine w_gd (by (first | omega | assumption | (subst_vars; first | omega | assumption) | done)) ?_
      refine w_some ?_
      unfold olA; rw [← hx.1, ← hx.2.2.1, ← hx.2.1, ← hx.2.2.2]; first | exact (if_pos (by omega)).symm | exact (if_neg (by omega)).symm
    · skip
      refine w_some ?_
      unfold olA; rw [← hx.1, ← hx.2.2.1, ← hx.2.1, ← hx.2.2.2]; first | exact (if_pos (by omega)).symm | exact (if_neg (by omega)).symm
  · skip
    refine w_ite (fun hc3 => ?_) (fun hc3 => ?_)
    · skip
      refine w_un (q_X63_columns_27.eq_1 ..) ?_
      refine w_ite (fun hc4 => ?_) (fun hc4 => ?_)
      · skip
        refine w_gd (by (first | omega | assumption | (subst_vars; first | omega | assumption) | done)) ?_
        refine w_gd (by (first | omega | assumption | (subst_vars; first | omega | assumption) | done)) ?_
        refine w_gd (by (first | omega | assumption | (subst_vars; first | omega | assumption) | done)) ?_
        refine w_lA (by (first | omega | assumption | (subst_vars; first | omega | assumption) | done)) fun v2_2 e_v2_2 => ?_
        have t_v2_2 : 0 ≤ v2_2 ∧ v2_2 ≤ 15 := by rw [e_v2_2]; exact ty_6310 hT _ _
        refine w_lA (by (first | omega | assumption | (subst_vars; first | omega | assumption) | done)) fun v4_2 e_v4_2 => ?_
        have t_v4_2 : 0 ≤ v4_2 ∧ v4_2 ≤ 15 := by rw [e_v4_2]; exact ty_6310 hT _ _
        have q2 : v2_2 = oWD od x1 x2 := by rw [e_v2_2]; exact tt.1
        have q4 : v4_2 = oWD od x1 x2 := by rw [e_v4_2]; exact tt.1
        have x := dv_r (w := p2 (oWD od x1 x2)) b.1.1 (show olX od (oX0 od) x1 x2 < olX od (oX1 od) x1 x2 by omega) b.2.1.2 (p2_pos _)
        rw [q2, q4, hx.1, hx.2.2.1]
        refine w_gd (by (first | omega | assumption | (subst_vars; first | omega | assumption) | done)) ?_
        refine w_gd (by (first | omega | assumption | (subst_vars; first | omega | assumption) | done)) ?_
        refine w_some ?_
        unfold olA; rw [← hx.1, ← hx.2.2.1, ← hx.2.1, ← hx.2.2.2]; first | exact (if_pos (by omega)).symm | exact (if_neg (by omega)).symm
      · skip
        refine w_some ?_
        unfold olA; rw [← hx.1, ← hx.2.2.1, ← hx.2.1, ← hx.2.2.2]; first | exact (if_pos (by omega)).symm | exact (if_neg (by omega)).symm
    · skip
      refine w_un (q_X63_columns_22.eq_1 ..) ?_
      refine w_un (q_X63_columns_27.eq_1 ..) ?_
      refine w_ite (fun hc5 => ?_) (fun hc5 => ?_)
      · skip
        refine w_gd (by (first | omega | assumption | (subst_vars; first | omega | assumption) | done)) ?_
        refine w_gd (by (first | omega | assumption | (subst_vars; first | omega | assumption) | done)) ?_
        refine w_gd (by (first | omega | assumption | (subst_vars; first | omega | assumption) | done)) ?_
        refine w_lA (by (first | omega | assumption | (subst_vars; first | omega | assumption) | done)) fun v2_3 e_v2_3 => ?_
        have t_v2_3 : 0 ≤ v2_3 ∧ v2_3 ≤ 15 := by rw [e_v2_3]; exact ty_6310 hT _ _
        refine w_lA (by (first | omega | assumption | (subst_vars; first | omega | assumption) | done)) fun v4_3 e_v4_3 => ?_
        have t_v4_3 : 0 ≤ v4_3 ∧ v4_3 ≤ 15 := by rw [e_v4_3]; exact ty_6310 hT _ _
        have q2 : v2_3 = oWD od x1 x2 := by rw [e_v2_3]; exact tt.1
        have q4 : v4_3 = oWD od x1 x2 := by rw [e_v4_3]; exact tt.1
        have x := dv_r (w := p2 (oWD od x1 x2)) b.1.1 (show olX od (oX0 od) x1 x2 < olX od (oX1 od) x1 x2 by omega) b.2.1.2 (p2_pos _)
        rw [q2, q4, hx.1, hx.2.2.1]
        refine w_gd (by (first | omega | assumption | (subst_vars; first | omega | assumption) | done)) ?_
        refine w_gd (by (first | omega | assumption | (subst_vars; first | omega | assumption) | done)) ?_
        refine w_some ?_
        unfold olA; rw [← hx.1, ← hx.2.2.1, ← hx.2.1, ← hx.2.2.2]; first | exact (if_pos (by omega)).symm | exact (if_neg (by omega)).symm
      · skip
        refine w_some ?_
        unfold olA; rw [← hx.1, ← hx.2.2.1, ← hx.2.1, ← hx.2.2.2]; first | exact (if_pos (by omega)).symm | exact (if_neg (by omega)).symm
set_option maxHeartbeats 8000000 in
theorem s_X63_rows {x1 : Int} {x2 : Int} {G : Gt} {D : Dt} {od : Od} (hT : Ty D) (hT0 : TOd D G od) (h0 : 0 ≤ x1 ∧ x1 < oNC od ∧ 0 ≤ x2 ∧ x2 ≤ oNL od x1) (hx : (d_I D 6334 (s_ G 63)) = olX od (oX0 od) x1 x2 ∧ (d_I D 6335 (s_ G 63)) = olY od (oY0 od) x1 x2 ∧ (d_I D 6336 (s_ G 63)) = olX od (oX1 od) x1 x2 ∧ (d_I D 6337 (s_ G 63)) = olY od (oY1 od) x1 x2) : Wp (q_X63_rows x1 x2 G D) (fun r => r = olB od x1 x2) := by
  refine w_un (q_X63_rows.eq_1 ..) ?_
  have t1 := ty_6334 hT (s_ G 63)
  have t2 := ty_6335 hT (s_ G 63)
  have t3 := ty_6336 hT (s_ G 63)
  have t4 := ty_6337 hT (s_ G 63)
  have nc := hT0.1.2.2.1
  have dd := hT0.1.2.2.2.1 x1 h0.1 h0.2.1
  have tt := hT0.2.2.2.2 x1 x2 h0.1 h0.2.1 h0.2.2.1 h0.2.2.2
  have b := ol_r hT0.1 h0.1 h0.2.1 h0.2.2.1 h0.2.2.2
  refine w_ite (fun hc1 => ?_) (fun hc1 => ?_)
  · skip
    refine w_un (q_X63_rows_22.eq_1 ..) ?_
    refine w_un (q_X63_rows_27.eq_1 ..) ?_
    refine w_ite (fun hc2 => ?_) (fun hc2 => ?_)
    · skip
      refine w_gd (by (first | omega | assumption | (subst_vars; first | omega | assumption) | done)) ?_
      refine w_gd (by (first | omega | assumption | (subst_vars; first | omega | assumption) | done)) ?_
      refine w_gd (by (first | omega | assumption | (subst_vars; first | omega | assumption) | done)) ?_
      refine w_lA (by (first | omega | assumption | (subst_vars; first | omega | assumption) | done)) fun v2 e_v2 => ?_
      have t_v2 : 0 ≤ v2 ∧ v2 ≤ 15 := by rw [e_v2]; exact ty_6311 hT _ _
      refine w_lA (by (first | omega | assumption | (subst_vars; first | omega | assumption) | done)) fun v4 e_v4 => ?_
      have t_v4 : 0 ≤ v4 ∧ v4 ≤ 15 := by rw [e_v4]; exact ty_6311 hT _ _
      have q2 : v2 = oHG od x1 x2 := by rw [e_v2]; exact tt.2
      have q4 : v4 = oHG od x1 x2 := by rw [e_v4]; exact tt.2
      have x := dv_r (w := p2 (oHG od x1 x2)) b.2.2.1.1 (show olY od (oY0 od) x1 x2 < olY od (oY1 od) x1 x2 by omega) b.2.2.2.2 (p2_pos _)
      rw [q2, q4, hx.2.1, hx.2.2.2]
      refine w_gd (by (first | omega | assumption | (subst_vars; first | omega | assumption) | done)) ?_
      refine w_gd (by (first | omega | assumption | (subst_vars; first | omega | assumption) | done)) ?_
      refine w_some ?_
      unfold olB; rw [← hx.1, ← hx.2.2.1, ← hx.2.1, ← hx.2.2.2]; first | exact (if_pos (by omega)).symm | exact (if_neg (by omega)).symm
    · skip
      refine w_some ?_
      unfold olB; rw [← hx.1, ← hx.2.2.1, ← hx.2.1, ← hx.2.2.2]; first | exact (if_pos (by omega)).symm | exact (if_neg (by omega)).symm
  · skip
    refine w_ite (fun hc3 => ?_) (fun hc3 => ?_)
    · skip
      refine w_un (q_X63_rows_27.eq_1 ..) ?_
      refine w_ite (fun hc4 => ?_) (fun hc4 => ?_)
      · skip
        refine w_gd (by (first | omega | assumption | (subst_vars; first | omega | assumption) | done)) ?_
        refine w_gd (by (first | omega | assumption | (subst_vars; first | omega | assumption) | done)) ?_
        refine w_gd (by (first | omega | assumption | (subst_vars; first | omega | assumption) | done)) ?_
        refine w_lA (by (first | omega | assumption | (subst_vars; first | omega | assumption) | done)) fun v2_2 e_v2_2 => ?_
        have t_v2_2 : 0 ≤ v2_2 ∧ v2_2 ≤ 15 := by rw [e_v2_2]; exact ty_6311 hT _ _
        refine w_lA (by (first | omega | assumption | (subst_vars; first | omega | assumption) | done)) fun v4_2 e_v4_2 => ?_
        have t_v4_2 : 0 ≤ v4_2 ∧ v4_2 ≤ 15 := by rw [e_v4_2]; exact ty_6311 hT _ _
        have q2 : v2_2 = oHG od x1 x2 := by rw [e_v2_2]; exact tt.2
        have q4 : v4_2 = oHG od x1 x2 := by rw [e_v4_2]; exact tt.2
        have x := dv_r (w := p2 (oHG od x1 x2)) b.2.2.1.1 (show olY od (oY0 od) x1 x2 < olY od (oY1 od) x1 x2 by omega) b.2.2.2.2 (p2_pos _)
        rw [q2, q4, hx.2.1, hx.2.2.2]
        refine w_gd (by (first | omega | assumption | (subst_vars; first | omega | assumption) | done)) ?_
        refine w_gd (by (first | omega | assumption | (subst_vars; first | omega | assumption) | done)) ?_
        refine w_some ?_
        unfold olB; rw [← hx.1, ← hx.2.2.1, ← hx.2.1, ← hx.2.2.2]; first | exact (if_pos (by omega)).symm | exact (if_neg (by omega)).symm
      · skip
        refine w_some ?_
        unfold olB; rw [← hx.1, ← hx.2.2.1, ← hx.2.1, ← hx.2.2.2]; first | exact (if_pos (by omega)).symm | exact (if_neg (by omega)).symm
    · skip
      refine w_un (q_X63_rows_22.eq_1 ..) ?_
      refine w_un (q_X63_rows_27.eq_1 ..) ?_
      refine w_ite (fun hc5 => ?_) (fun hc5 => ?_)
      · skip
        refine w_gd (by (first | omega | assumption | (subst_vars; first | omega | assumption) | done)) ?_
        refine w_gd (by (first | omega | assumption | (subst_vars; first | omega | assumption) | done)) ?_
        refine w_gd (by (first | omega | assumption | (subst_vars; first | omega | assumption) | done)) ?_
        refine w_lA (by (first | omega | assumption | (subst_vars; first | omega | assumption) | done)) fun v2_3 e_v2_3 => ?_
        have t_v2_3 : 0 ≤ v2_3 ∧ v2_3 ≤ 15 := by rw [e_v2_3]; exact ty_6311 hT _ _
        refine w_lA (by (first | omega | assumption | (subst_vars; first | omega | assumption) | done)) fun v4_3 e_v4_3 => ?_
        have t_v4_3 : 0 ≤ v4_3 ∧ v4_3 ≤ 15 := by rw [e_v4_3]; exact ty_6311 hT _ _
        have q2 : v2_3 = oHG od x1 x2 := by rw [e_v2_3]; exact tt.2
        have q4 : v4_3 = oHG od x1 x2 := by rw [e_v4_3]; exact tt.2
        have x := dv_r (w := p2 (oHG od x1 x2)) b.2.2.1.1 (show olY od (oY0 od) x1 x2 < olY od (oY1 od) x1 x2 by omega) b.2.2.2.2 (p2_pos _)
        rw [q2, q4, hx.2.1, hx.2.2.2]
        refine w_gd (by (first | omega | assumption | (subst_vars; first | omega | assumption) | done)) ?_
        refine w_gd (by (first | omega | assumption | (subst_vars; first | omega | assumption) | done)) ?_
        refine w_some ?_
        unfold olB; rw [← hx.1, ← hx.2.2.1, ← hx.2.1, ← hx.2.2.2]; first | exact (if_pos (by omega)).symm | exact (if_neg (by omega)).symm
      · skip
        refine w_some ?_
        unfold olB; rw [← hx.1, ← hx.2.2.1, ← hx.2.1, ← hx.2.2.2]; first | exact (if_pos (by omega)).symm | exact (if_neg (by omega)).symm
set_option maxHeartbeats 8000000 in
theorem s_X63_place {x0 : Int} {x1 : Int} {x2 : Int} {x3 : Int} {x4 : Int} (h0 : 0 ≤ x1 ∧ x1 ≤ 15 ∧ 0 ≤ x2 ∧ x2 ≤ 32) (hb : 0 ≤ x0 * p2l (x1 + x2) ∧ x0 * p2l (x1 + x2) ≤ 32767 ∧ 0 ≤ x0 * p2l (x1 + x2) * x3 ∧ x0 * p2l (x1 + x2) * x3 ≤ 8355585) : Wp (q_X63_place x0 x1 x2 x3 x4) (fun r => r = max x4 (x0 * p2l (x1 + x2) * x3)) := by
  refine w_un (q_X63_place.eq_1 ..) ?_
  refine w_gd (by (first | omega | assumption | (subst_vars; first | omega | assumption) | done)) ?_
  refine w_gd (by (first | omega | assumption | (subst_vars; first | omega | assumption) | done)) ?_
  refine w_gd (by (first | omega | assumption | (subst_vars; first | omega | assumption) | done)) ?_
  refine w_let fun v1 e_v1 => ?_
  refine w_ite (fun hc1 => ?_) (fun hc1 => ?_)
  · skip
    refine w_some ?_
    (first | omega | assumption | (subst_vars; first | omega | assumption) | done)
  · skip
    refine w_some ?_
    (first | omega | assumption | (subst_vars; first | omega | assumption) | done)
set_option maxHeartbeats 8000000 in
theorem s_X63_list_34 {N : Nat} {od : Od} {m0 : Int} {Dz : Dt} (hN : 1099511627776 ≤ N) (n : Nat) : ∀ {x1 : Int} {x2 : Int} {x3 : Int} {x4 : Int} {x5 : Int} {x6 : Int} {G : Gt} {D : Dt}, Ty D → (TOd D G od) → (0 ≤ x1 ∧ x1 < oNC od ∧ 0 ≤ x2 ∧ x2 ≤ oNL od x1) → ((d_I D 6334 (s_ G 63)) = olX od (oX0 od) x1 x2 ∧ (d_I D 6335 (s_ G 63)) = olY od (oY0 od) x1 x2 ∧ (d_I D 6336 (s_ G 63)) = olX od (oX1 od) x1 x2 ∧ (d_I D 6337 (s_ G 63)) = olY od (oY1 od) x1 x2) → (x3 = olA od x1 x2 ∧ x4 = olB od x1 x2 ∧ x5 = oNL od x1 - x2) → (0 ≤ x6 ∧ x6 ≤ olP od x1 x2 ∧ (d_I D 6317 (s_ G 63)) = m0 + x6 ∧ 0 ≤ m0 ∧ m0 + olP od x1 x2 ≤ 4096) → (∀ p, 0 ≤ p → p < x6 → LsE D G od (m0 + p) x1 x2 p) → (∀ k, 0 ≤ k → k < m0 → SmL Dz D G k) → olP od x1 x2 - x6 < n → Wp (q_X63_list_34 N n x1 x2 x3 x4 x5 x6 G D) (fun D' => Ty D' ∧ ((d_I D' 6317 (s_ G 63)) = m0 + olP od x1 x2 ∧ (∀ p, 0 ≤ p → p < olP od x1 x2 → LsE D' G od (m0 + p) x1 x2 p) ∧ (∀ k, 0 ≤ k → k < m0 → SmL Dz D' G k))) := by
  induction n with
  | zero =>
    intro x1 x2 x3 x4 x5 x6 G D hT hT0 h0 hx ha h6 hL hS hm; exfalso; omega
  | succ n ih =>
    intro x1 x2 x3 x4 x5 x6 G D hT hT0 h0 hx ha h6 hL hS hm
    show Wp (q_X63_list_34 N (n + 1) x1 x2 x3 x4 x5 x6 G D) _
    rw [q_X63_list_34]
    have t1 := ty_6334 hT (s_ G 63)
    have t2 := ty_6335 hT (s_ G 63)
    have t3 := ty_6336 hT (s_ G 63)
    have t4 := ty_6337 hT (s_ G 63)
    have t5 := ty_6317 hT (s_ G 63)
    have nc := hT0.1.2.2.1
    have dd := hT0.1.2.2.2.1 x1 h0.1 h0.2.1
    have td := hT0.2.2.2.1 x1 h0.1 h0.2.1
    have tt := hT0.2.2.2.2 x1 x2 h0.1 h0.2.1 h0.2.2.1 h0.2.2.2
    have wh := hT0.1.2.2.2.2 x1 x2 h0.1 h0.2.1 h0.2.2.1 h0.2.2.2
    have b := ol_r hT0.1 h0.1 h0.2.1 h0.2.2.1 h0.2.2.2
    have hP := olA_r hT0.1 h0.1 h0.2.1 h0.2.2.1 h0.2.2.2
    have hPr := olP_r hT0.1 h0.1 h0.2.1 h0.2.2.1 h0.2.2.2
    have e34 : x3 * x4 = olP od x1 x2 := by rw [ha.1, ha.2.1]; rfl
    refine w_gd (by (first | omega | assumption | (subst_vars; first | omega | assumption) | done)) ?_
    refine w_ite (fun hc1 => ?_) (fun hc1 => ?_)
    · skip
      refine w_some ?_
      refine ⟨hT, ?_⟩
      have ex : x6 = olP od x1 x2 := by omega
      rw [ex] at hL
      exact ⟨by omega, hL, hS⟩
    · skip
      have hpb := op_b hT0.1 h0.1 h0.2.1 h0.2.2.1 h0.2.2.2 h6.1 (show x6 < olP od x1 x2 by omega)
      have i0 := Int.emod_nonneg x6 (show olA od x1 x2 ≠ 0 by omega)
      have dq := Int.ediv_nonneg h6.1 (show 0 ≤ olA od x1 x2 by omega)
      have dq2 : x6 / olA od x1 x2 ≤ x6 := Int.ediv_le_self _ h6.1
      have tm : Int.tmod x6 x3 = x6 % olA od x1 x2 := by rw [ha.1]; exact Int.tmod_eq_emod_of_nonneg h6.1
      have td2 : Int.tdiv x6 x3 = x6 / olA od x1 x2 := by rw [ha.1]; exact Int.tdiv_eq_ediv_of_nonneg h6.1
      have eI : olI od x1 x2 x6 = olX od (oX0 od) x1 x2 / p2 (oWD od x1 x2) + x6 % olA od x1 x2 := rfl
      have eJ : olJ od x1 x2 x6 = olY od (oY0 od) x1 x2 / p2 (oHG od x1 x2) + x6 / olA od x1 x2 := rfl
      rw [tm, td2]
      refine w_gd (by (first | omega | assumption | (subst_vars; first | omega | assumption) | done)) ?_
      refine w_gd (by (first | omega | assumption | (subst_vars; first | omega | assumption) | done)) ?_
      refine w_lA (by (first | omega | assumption | (subst_vars; first | omega | assumption) | done)) fun v2 e_v2 => ?_
      have t_v2 : 0 ≤ v2 ∧ v2 ≤ 15 := by rw [e_v2]; exact ty_6310 hT _ _
      have q2 : v2 = oWD od x1 x2 := by rw [e_v2]; exact tt.1
      rw [q2, hx.1, ← eI]
      refine w_gd (by (first | omega | assumption | (subst_vars; first | omega | assumption) | done)) ?_
      refine w_gd (by (first | omega | assumption | (subst_vars; first | omega | assumption) | done)) ?_
      refine w_let fun v3 e_v3 => ?_
      refine w_lA (by (first | omega | assumption | (subst_vars; first | omega | assumption) | done)) fun v5 e_v5 => ?_
      have t_v5 : 0 ≤ v5 ∧ v5 ≤ 15 := by rw [e_v5]; exact ty_6311 hT _ _
      have q5 : v5 = oHG od x1 x2 := by rw [e_v5]; exact tt.2
      rw [q5, hx.2.1, ← eJ]
      refine w_gd (by (first | omega | assumption | (subst_vars; first | omega | assumption) | done)) ?_
      refine w_gd (by (first | omega | assumption | (subst_vars; first | omega | assumption) | done)) ?_
      refine w_gd (by (first | omega | assumption | (subst_vars; first | omega | assumption) | done)) ?_
      refine w_let fun v6 e_v6 => ?_
      refine w_tA (by (first | omega | assumption | (subst_vars; first | omega | assumption) | done)) fun d8 e_d8 => ?_
      have T_d8 : Ty d8 := tyA_6318 e_d8 hT (by (first | omega | assumption | (subst_vars; first | omega | assumption) | done))
      have w_d8 := wA e_d8
      refine w_tA (by (first | omega | assumption | (subst_vars; first | omega | assumption) | done)) fun d10 e_d10 => ?_
      have T_d10 : Ty d10 := tyA_6319 e_d10 T_d8 (by (first | omega | assumption | (subst_vars; first | omega | assumption) | done))
      have w_d10 := wA e_d10
      have rq1 : d_A d8 6319 (s_ G 63) = d_A D 6319 (s_ G 63) := rdA_A e_d8 rfl
      try simp only [rq1] at w_d10
      refine w_tA (by (first | omega | assumption | (subst_vars; first | omega | assumption) | done)) fun d12 e_d12 => ?_
      have T_d12 : Ty d12 := tyA_6320 e_d12 T_d10 (by (first | omega | assumption | (subst_vars; first | omega | assumption) | done))
      have w_d12 := wA e_d12
      have rq2 : d_A d10 6320 (s_ G 63) = d_A D 6320 (s_ G 63) := Eq.trans (rdA_A e_d10 rfl) (rdA_A e_d8 rfl)
      try simp only [rq2] at w_d12
      refine w_lA (by (first | omega | assumption | (subst_vars; first | omega | assumption) | done)) fun v14 e_v14 => ?_
      have t_v14 : 0 ≤ v14 ∧ v14 ≤ 15 := by rw [e_v14]; exact ty_6310 hT _ _
      have q14 : v14 = oWD od x1 x2 := by rw [e_v14]; exact tt.1
      refine w_lA (by (first | omega | assumption | (subst_vars; first | omega | assumption) | done)) fun v16 e_v16 => ?_
      have t_v16 : 0 ≤ v16 ∧ v16 ≤ 255 := by rw [e_v16]; exact ty_6307 hT _ _
      have q16 : v16 = oDX od x1 := by rw [e_v16]; exact td.1
      have t6 := ty_6302 hT (s_ G 63)
      have c1_h0 : 0 ≤ v14 ∧ v14 ≤ 15 ∧ 0 ≤ x5 ∧ x5 ≤ 32 := by
        (first | omega | assumption | (subst_vars; first | omega | assumption) | done)
      have c1_hb : 0 ≤ v3 * p2l (v14 + x5) ∧ v3 * p2l (v14 + x5) ≤ 32767 ∧ 0 ≤ v3 * p2l (v14 + x5) * v16 ∧ v3 * p2l (v14 + x5) * v16 ≤ 8355585 := by
        first | (rw [e_v3, q14, ha.2.2, q16]; exact hpb.2.2.2.1) | (rw [e_v6, q21, ha.2.2, q23]; exact hpb.2.2.2.2)
      refine w_b (s_X63_place c1_h0 c1_hb) fun v17 h_v17 => ?_
      refine w_tA (by (first | omega | assumption | (subst_vars; first | omega | assumption) | done)) fun d19 e_d19 => ?_
      have T_d19 : Ty d19 := tyA_no e_d19 T_d12 rfl
      have w_d19 := wA e_d19
      have rq3 : d_A d12 6321 (s_ G 63) = d_A D 6321 (s_ G 63) := Eq.trans (rdA_A e_d12 rfl) (Eq.trans (rdA_A e_d10 rfl) (rdA_A e_d8 rfl))
      try simp only [rq3] at w_d19
      refine w_lA (by (first | omega | assumption | (subst_vars; first | omega | assumption) | done)) fun v21 e_v21 => ?_
      have t_v21 : 0 ≤ v21 ∧ v21 ≤ 15 := by rw [e_v21]; exact ty_6311 hT _ _
      have q21 : v21 = oHG od x1 x2 := by rw [e_v21]; exact tt.2
      refine w_lA (by (first | omega | assumption | (subst_vars; first | omega | assumption) | done)) fun v23 e_v23 => ?_
      have t_v23 : 0 ≤ v23 ∧ v23 ≤ 255 := by rw [e_v23]; exact ty_6308 hT _ _
      have q23 : v23 = oDY od x1 := by rw [e_v23]; exact td.2.1
      have t7 := ty_6303 hT (s_ G 63)
      have c2_h0 : 0 ≤ v21 ∧ v21 ≤ 15 ∧ 0 ≤ x5 ∧ x5 ≤ 32 := by
        (first | omega | assumption | (subst_vars; first | omega | assumption) | done)
      have c2_hb : 0 ≤ v6 * p2l (v21 + x5) ∧ v6 * p2l (v21 + x5) ≤ 32767 ∧ 0 ≤ v6 * p2l (v21 + x5) * v23 ∧ v6 * p2l (v21 + x5) * v23 ≤ 8355585 := by
        first | (rw [e_v3, q14, ha.2.2, q16]; exact hpb.2.2.2.1) | (rw [e_v6, q21, ha.2.2, q23]; exact hpb.2.2.2.2)
      refine w_b (s_X63_place c2_h0 c2_hb) fun v24 h_v24 => ?_
      refine w_tA (by (first | omega | assumption | (subst_vars; first | omega | assumption) | done)) fun d26 e_d26 => ?_
      have T_d26 : Ty d26 := tyA_no e_d26 T_d19 rfl
      have w_d26 := wA e_d26
      have rq4 : d_A d19 6322 (s_ G 63) = d_A D 6322 (s_ G 63) := Eq.trans (rdA_A e_d19 rfl) (Eq.trans (rdA_A e_d12 rfl) (Eq.trans (rdA_A e_d10 rfl) (rdA_A e_d8 rfl)))
      try simp only [rq4] at w_d26
      refine w_tA (by (first | omega | assumption | (subst_vars; first | omega | assumption) | done)) fun d28 e_d28 => ?_
      have T_d28 : Ty d28 := tyA_6323 e_d28 T_d26 (by (first | omega | assumption | (subst_vars; first | omega | assumption) | done))
      have w_d28 := wA e_d28
      have rq5 : d_A d26 6323 (s_ G 63) = d_A D 6323 (s_ G 63) := Eq.trans (rdA_A e_d26 rfl) (Eq.trans (rdA_A e_d19 rfl) (Eq.trans (rdA_A e_d12 rfl) (Eq.trans (rdA_A e_d10 rfl) (rdA_A e_d8 rfl))))
      try simp only [rq5] at w_d28
      refine w_gd (by (first | omega | assumption | (subst_vars; first | omega | assumption) | done)) ?_
      refine w_let fun v30 e_v30 => ?_
      refine w_let fun d29 e_d29 => ?_
      have T_d29 : Ty d29 := tyI_6317 e_d29 T_d28 (by (first | omega | assumption | (subst_vars; first | omega | assumption) | done))
      have l6 := ls6 (o := od) e_d8 e_d10 e_d12 e_d19 e_d26 e_d28 e_d29 (by rw [h_v17, e_v3, q14, ha.2.2, q16, hT0.2.1.1]; rfl) (by rw [h_v24, e_v6, q21, ha.2.2, q23, hT0.2.1.2.1]; rfl)
      refine w_gd (by (first | omega | assumption | (subst_vars; first | omega | assumption) | done)) ?_
      refine w_let fun v31 e_v31 => ?_
      have rq6 : d_I d29 6334 (s_ G 63) = d_I D 6334 (s_ G 63) := Eq.trans (rdI_I e_d29 rfl) (Eq.trans (rdI_A e_d28) (Eq.trans (rdI_A e_d26) (Eq.trans (rdI_A e_d19) (Eq.trans (rdI_A e_d12) (Eq.trans (rdI_A e_d10) (rdI_A e_d8))))))
      have rq7 : d_I d29 6335 (s_ G 63) = d_I D 6335 (s_ G 63) := Eq.trans (rdI_I e_d29 rfl) (Eq.trans (rdI_A e_d28) (Eq.trans (rdI_A e_d26) (Eq.trans (rdI_A e_d19) (Eq.trans (rdI_A e_d12) (Eq.trans (rdI_A e_d10) (rdI_A e_d8))))))
      have rq8 : d_I d29 6336 (s_ G 63) = d_I D 6336 (s_ G 63) := Eq.trans (rdI_I e_d29 rfl) (Eq.trans (rdI_A e_d28) (Eq.trans (rdI_A e_d26) (Eq.trans (rdI_A e_d19) (Eq.trans (rdI_A e_d12) (Eq.trans (rdI_A e_d10) (rdI_A e_d8))))))
      have rq9 : d_I d29 6337 (s_ G 63) = d_I D 6337 (s_ G 63) := Eq.trans (rdI_I e_d29 rfl) (Eq.trans (rdI_A e_d28) (Eq.trans (rdI_A e_d26) (Eq.trans (rdI_A e_d19) (Eq.trans (rdI_A e_d12) (Eq.trans (rdI_A e_d10) (rdI_A e_d8))))))
      have rq10 : d_I d29 6317 (s_ G 63) = v30 := rdI_s e_d29
      have j1_hT0 : TOd d29 G od := by
        (first | assumption | exact (TOd.fr (by assumption) (Fr.uI e_d29) rfl) | exact (TOd.fr (TOd.fr (by assumption) (Fr.uA e_d28) rfl) (Fr.uI e_d29) rfl) | exact (TOd.fr (TOd.fr (TOd.fr (by assumption) (Fr.uA e_d26) rfl) (Fr.uA e_d28) rfl) (Fr.uI e_d29) rfl) | exact (TOd.fr (TOd.fr (TOd.fr (TOd.fr (by assumption) (Fr.uA e_d19) rfl) (Fr.uA e_d26) rfl) (Fr.uA e_d28) rfl) (Fr.uI e_d29) rfl) | exact (TOd.fr (TOd.fr (TOd.fr (TOd.fr (TOd.fr (by assumption) (Fr.uA e_d12) rfl) (Fr.uA e_d19) rfl) (Fr.uA e_d26) rfl) (Fr.uA e_d28) rfl) (Fr.uI e_d29) rfl) | exact (TOd.fr (TOd.fr (TOd.fr (TOd.fr (TOd.fr (TOd.fr (by assumption) (Fr.uA e_d10) rfl) (Fr.uA e_d12) rfl) (Fr.uA e_d19) rfl) (Fr.uA e_d26) rfl) (Fr.uA e_d28) rfl) (Fr.uI e_d29) rfl) | exact (TOd.fr (TOd.fr (TOd.fr (TOd.fr (TOd.fr (TOd.fr (TOd.fr (by assumption) (Fr.uA e_d8) rfl) (Fr.uA e_d10) rfl) (Fr.uA e_d12) rfl) (Fr.uA e_d19) rfl) (Fr.uA e_d26) rfl) (Fr.uA e_d28) rfl) (Fr.uI e_d29) rfl))
      have j1_h0 : 0 ≤ x1 ∧ x1 < oNC od ∧ 0 ≤ x2 ∧ x2 ≤ oNL od x1 := by
        (first | omega | assumption | (subst_vars; first | omega | assumption) | done)
      have j1_hx : (d_I d29 6334 (s_ G 63)) = olX od (oX0 od) x1 x2 ∧ (d_I d29 6335 (s_ G 63)) = olY od (oY0 od) x1 x2 ∧ (d_I d29 6336 (s_ G 63)) = olX od (oX1 od) x1 x2 ∧ (d_I d29 6337 (s_ G 63)) = olY od (oY1 od) x1 x2 := by
        try simp only [rq6, rq7, rq8, rq9]
        (first | omega | assumption | (subst_vars; first | omega | assumption) | done)
      have j1_ha : x3 = olA od x1 x2 ∧ x4 = olB od x1 x2 ∧ x5 = oNL od x1 - x2 := by
        (first | omega | assumption | (subst_vars; first | omega | assumption) | done)
      have j1_h6 : 0 ≤ v31 ∧ v31 ≤ olP od x1 x2 ∧ (d_I d29 6317 (s_ G 63)) = m0 + v31 ∧ 0 ≤ m0 ∧ m0 + olP od x1 x2 ≤ 4096 := by
        try simp only [rq10]
        (first | omega | assumption | (subst_vars; first | omega | assumption) | done)
      have j1_hL : ∀ p, 0 ≤ p → p < v31 → LsE d29 G od (m0 + p) x1 x2 p := by
        intro p a b
        by_cases z : p = x6
        · rw [z, ← h6.2.2.1]; exact l6.1
        · exact (hL p a (by omega)).sm (l6.2 _ (by omega))
      have j1_hS : ∀ k, 0 ≤ k → k < m0 → SmL Dz d29 G k := by
        exact fun k a b => (hS k a b).tr (l6.2 k (by omega))
      have j1_hm : olP od x1 x2 - v31 < n := by
        (first | omega | assumption | (subst_vars; first | omega | assumption) | done)
      exact ih T_d29 j1_hT0 j1_h0 j1_hx j1_ha j1_h6 j1_hL j1_hS j1_hm
set_option maxHeartbeats 8000000 in
theorem s_X63_list {N : Nat} {x1 : Int} {x2 : Int} {G : Gt} {D : Dt} (hN : 1099511627776 ≤ N) {od : Od} (hT : Ty D) (hT0 : TOd D G od) (h0 : 0 ≤ x1 ∧ x1 < oNC od ∧ 0 ≤ x2 ∧ x2 ≤ oNL od x1) (h6 : 0 ≤ (d_I D 6317 (s_ G 63)) ∧ (d_I D 6317 (s_ G 63)) + olP od x1 x2 ≤ 4096) : Wp (q_X63_list N x1 x2 G D) (fun D' => Ty D' ∧ ((d_I D' 6317 (s_ G 63)) = (d_I D 6317 (s_ G 63)) + olP od x1 x2 ∧ (∀ p, 0 ≤ p → p < olP od x1 x2 → LsE D' G od ((d_I D 6317 (s_ G 63)) + p) x1 x2 p) ∧ (∀ k, 0 ≤ k → k < (d_I D 6317 (s_ G 63)) → SmL D D' G k))) := by
  refine w_un (q_X63_list.eq_1 ..) ?_
  have t1 := ty_6317 hT (s_ G 63)
  have hPr := olP_r hT0.1 h0.1 h0.2.1 h0.2.2.1 h0.2.2.2
  have nc := hT0.1.2.2.2.1 x1 h0.1 h0.2.1
  have n16 := hT0.1.2.2.1
  have c1_hT0 : TOd D G od := by
    (first | assumption)
  have c1_h0 : 0 ≤ x1 ∧ x1 < oNC od ∧ 0 ≤ x2 ∧ x2 ≤ oNL od x1 := by
    (first | omega | assumption | (subst_vars; first | omega | assumption) | done)
  refine w_b (Wp.fr (s_X63_findLevel hN hT c1_hT0 c1_h0) fr_X63_findLevel) fun d2 h_d2 => ?_
  obtain ⟨⟨T_d2, h_d2⟩, F_d2⟩ := h_d2
  have t2 := ty_6334 T_d2 (s_ G 63)
  have t3 := ty_6335 T_d2 (s_ G 63)
  have t4 := ty_6336 T_d2 (s_ G 63)
  have t5 := ty_6337 T_d2 (s_ G 63)
  have c2_hT0 : TOd d2 G od := by
    (first | assumption | exact (TOd.fr (by assumption) F_d2 rfl))
  have c2_h0 : 0 ≤ x1 ∧ x1 < oNC od ∧ 0 ≤ x2 ∧ x2 ≤ oNL od x1 := by
    (first | omega | assumption | (subst_vars; first | omega | assumption) | done)
  have c2_hx : (d_I d2 6334 (s_ G 63)) = olX od (oX0 od) x1 x2 ∧ (d_I d2 6335 (s_ G 63)) = olY od (oY0 od) x1 x2 ∧ (d_I d2 6336 (s_ G 63)) = olX od (oX1 od) x1 x2 ∧ (d_I d2 6337 (s_ G 63)) = olY od (oY1 od) x1 x2 := by
    (first | omega | assumption | (subst_vars; first | omega | assumption) | done)
  refine w_b (s_X63_columns T_d2 c2_hT0 c2_h0 c2_hx) fun v3 h_v3 => ?_
  have c3_hT0 : TOd d2 G od := by
    (first | assumption | exact (TOd.fr (by assumption) F_d2 rfl))
  have c3_h0 : 0 ≤ x1 ∧ x1 < oNC od ∧ 0 ≤ x2 ∧ x2 ≤ oNL od x1 := by
    (first | omega | assumption | (subst_vars; first | omega | assumption) | done)
  have c3_hx : (d_I d2 6334 (s_ G 63)) = olX od (oX0 od) x1 x2 ∧ (d_I d2 6335 (s_ G 63)) = olY od (oY0 od) x1 x2 ∧ (d_I d2 6336 (s_ G 63)) = olX od (oX1 od) x1 x2 ∧ (d_I d2 6337 (s_ G 63)) = olY od (oY1 od) x1 x2 := by
    (first | omega | assumption | (subst_vars; first | omega | assumption) | done)
  refine w_b (s_X63_rows T_d2 c3_hT0 c3_h0 c3_hx) fun v4 h_v4 => ?_
  refine w_lA (by (first | omega | assumption | (subst_vars; first | omega | assumption) | done)) fun v6 e_v6 => ?_
  have t_v6 : 0 ≤ v6 ∧ v6 ≤ 32 := by rw [e_v6]; exact ty_6309 hT _ _
  have td := hT0.2.2.2.1 x1 h0.1 h0.2.1
  have q6 : v6 = oNL od x1 := by rw [e_v6]; exact td.2.2
  refine w_gd (by (first | omega | assumption | (subst_vars; first | omega | assumption) | done)) ?_
  refine w_let fun v7 e_v7 => ?_
  have rq1 : d_I d2 6317 (s_ G 63) = d_I D 6317 (s_ G 63) := congrFun (F_d2.i (i := 6317) rfl) (s_ G 63)
  have j1_hT0 : TOd d2 G od := by
    (first | assumption | exact (TOd.fr (by assumption) F_d2 rfl))
  have j1_h0 : 0 ≤ x1 ∧ x1 < oNC od ∧ 0 ≤ x2 ∧ x2 ≤ oNL od x1 := by
    try simp only [rq1]
    (first | omega | assumption | (subst_vars; first | omega | assumption) | done)
  have j1_hx : (d_I d2 6334 (s_ G 63)) = olX od (oX0 od) x1 x2 ∧ (d_I d2 6335 (s_ G 63)) = olY od (oY0 od) x1 x2 ∧ (d_I d2 6336 (s_ G 63)) = olX od (oX1 od) x1 x2 ∧ (d_I d2 6337 (s_ G 63)) = olY od (oY1 od) x1 x2 := by
    try simp only [rq1]
    (first | omega | assumption | (subst_vars; first | omega | assumption) | done)
  have j1_ha : v3 = olA od x1 x2 ∧ v4 = olB od x1 x2 ∧ v7 = oNL od x1 - x2 := by
    try simp only [rq1]
    (first | omega | assumption | (subst_vars; first | omega | assumption) | done)
  have j1_h6 : 0 ≤ (0 : Int) ∧ (0 : Int) ≤ olP od x1 x2 ∧ (d_I d2 6317 (s_ G 63)) = (d_I d2 6317 (s_ G 63)) + (0 : Int) ∧ 0 ≤ (d_I d2 6317 (s_ G 63)) ∧ (d_I d2 6317 (s_ G 63)) + olP od x1 x2 ≤ 4096 := by
    try simp only [rq1]
    (first | omega | assumption | (subst_vars; first | omega | assumption) | done)
  have j1_hL : ∀ p, 0 ≤ p → p < (0 : Int) → LsE d2 G od ((d_I d2 6317 (s_ G 63)) + p) x1 x2 p := by
    try simp only [rq1]
    intro p a b; omega
  have j1_hS : ∀ k, 0 ≤ k → k < (d_I d2 6317 (s_ G 63)) → SmL d2 d2 G k := by
    try simp only [rq1]
    exact fun k _ _ => SmL.rf
  have j1_hm : olP od x1 x2 - (0 : Int) < N := by
    try simp only [rq1]
    (first | omega | assumption | (subst_vars; first | omega | assumption) | done)
  refine Wp.mo (Wp.fr (s_X63_list_34 hN (od := od) (m0 := (d_I d2 6317 (s_ G 63))) (Dz := d2) _ T_d2 j1_hT0 j1_h0 j1_hx j1_ha j1_h6 j1_hL j1_hS j1_hm) (fr_X63_list_34 _)) ?_
  intro o ho
  obtain ⟨⟨hT', ho⟩, hF⟩ := ho
  try dsimp only at hF
  refine ⟨hT', ?_⟩
  try simp only [rq1] at ho
  have t6 := ty_6317 hT' (s_ G 63)
  refine ⟨ho.1, ho.2.1, fun k a b => ?_⟩
  exact (SmL.fr F_d2 rfl).tr (ho.2.2 k a b)
