/-! specifications, printed by gen/mks.py -/
set_option maxRecDepth 100000
/-- a component's object shows what was told of it -/
def CoD (D : Dt) (o : Od) (c : Int) (b : Nat) : Prop := d_I D 7200 b = oDX o c ∧ d_I D 7201 b = oDY o c ∧ d_I D 7202 b = oNL o c ∧ ∀ r, 0 ≤ r → r ≤ oNL o c → d_A D 7205 b r = oWD o c r ∧ d_A D 7206 b r = oHG o c r
theorem CoD.fr {D D' : Dt} {o : Od} {c : Int} {b : Nat} {S : List Nat} (h : CoD D o c b) (F : Fr S D D') (hd : ([7200, 7201, 7202, 7205, 7206].all fun j => !S.contains j) = true) : CoD D' o c b := by
  unfold CoD at h ⊢
  rw [F.i (i := 7200) (dsO_o hd (by decide)), F.i (i := 7201) (dsO_o hd (by decide)), F.i (i := 7202) (dsO_o hd (by decide)), F.a (i := 7205) (dsO_o hd (by decide)), F.a (i := 7206) (dsO_o hd (by decide))]
  exact h
/-- a level laid -/
def LvC (D : Dt) (G : Gt) (o : Od) (c r : Int) (l : Nat) : Prop := (d_I D 2400 (z_P G 7401 l) = olX o (oX0 o) c r ∧ d_I D 2401 (z_P G 7401 l) = olY o (oY0 o) c r ∧ d_I D 2402 (z_P G 7401 l) = olX o (oX1 o) c r ∧ d_I D 2403 (z_P G 7401 l) = olY o (oY1 o) c r) ∧ d_I D 7403 l = oWD o c r ∧ d_I D 7404 l = oHG o c r ∧ d_I D 7405 l = olA o c r ∧ d_I D 7406 l = olB o c r
def LwSm (D D' : Dt) (l : Nat) : Prop := d_I D' 7403 l = d_I D 7403 l ∧ d_I D' 7404 l = d_I D 7404 l ∧ d_I D' 7405 l = d_I D 7405 l ∧ d_I D' 7406 l = d_I D 7406 l
theorem LwSm.rf {D : Dt} {l : Nat} : LwSm D D l := ⟨rfl, rfl, rfl, rfl⟩
theorem LwSm.tr {D E F : Dt} {b : Nat} (h : LwSm D E b) (k : LwSm E F b) : LwSm D F b := ⟨k.1.trans h.1, k.2.1.trans h.2.1, k.2.2.1.trans h.2.2.1, k.2.2.2.trans h.2.2.2⟩
theorem LwSm.fr' {D D' : Dt} {b : Nat} {S : List Nat} (F : Fr S D D') (hd : ([7403, 7404, 7405, 7406].all fun j => !S.contains j) = true) : LwSm D D' b := by
  unfold LwSm
  rw [F.i (i := 7403) (dsO_o hd (by decide)), F.i (i := 7404) (dsO_o hd (by decide)), F.i (i := 7405) (dsO_o hd (by decide)), F.i (i := 7406) (dsO_o hd (by decide))]
  exact ⟨rfl, rfl, rfl, rfl⟩
theorem LvC.sm {D D' : Dt} {G : Gt} {o : Od} {c r : Int} {l : Nat} (h : LvC D G o c r l) (a : ArE D D' (z_P G 7401 l)) (s : LwSm D D' l) : LvC D' G o c r l := ⟨⟨a.1.trans h.1.1, a.2.1.trans h.1.2.1, a.2.2.1.trans h.1.2.2.1, a.2.2.2.trans h.1.2.2.2⟩, s.1.trans h.2.1, s.2.1.trans h.2.2.1, s.2.2.1.trans h.2.2.2.1, s.2.2.2.trans h.2.2.2.2⟩
theorem mul01 {a b : Int} (h : 0 ≤ a ∧ a ≤ 1) (k : 0 ≤ b) : 0 ≤ a * b ∧ a * b ≤ b := by
  have : a = 0 ∨ a = 1 := by omega
  rcases this with e | e <;> subst e <;> omega
set_option maxHeartbeats 8000000 in
theorem s_X75_lay {a0 : Nat} {r1 : Nat} {r2 : Nat} {x3 : Int} {G : Gt} {D : Dt} (hT : Ty D) (h0 : 0 ≤ x3 ∧ x3 ≤ d_I D 7202 r2) : Wp (q_X75_lay a0 r1 r2 x3 G D) (fun D' => Ty D' ∧ (∀ bb, bb ≠ z_P G 7501 a0 → ArE D D' bb)) := by
  refine w_un (q_X75_lay.eq_1 ..) ?_
  have t0 := ty_7202 hT r2
  have t1 := ty_7500 hT a0
  generalize e_ts0 : (if x3 = (0 : Int) then (0 : Int) else (1 : Int)) = ts0
  refine w_un (q_X75_lay_9.eq_1 ..) ?_
  have t1 := ty_7202 hT r2
  refine w_gd (by (first | omega | assumption | (subst_vars; first | omega | assumption) | done)) ?_
  refine w_gd (by (first | omega | assumption | (subst_vars; first | omega | assumption) | done)) ?_
  refine w_let fun v2 e_v2 => ?_
  have hp2 := pl_40 (y := v2) (by omega)
  refine w_ite (fun hc1 => ?_) (fun hc1 => ?_)
  · skip
    refine w_un (q_X75_lay_37.eq_1 ..) ?_
    refine w_let fun v1 e_v1 => ?_
    simp only [q_X75_oddX] at e_v1
    have m1 := mul01 (a := v1) (b := (0 : Int)) (by omega) (by omega)
    refine w_gd (by (first | omega | assumption | (subst_vars; first | omega | assumption) | done)) ?_
    refine w_let fun v2_2 e_v2_2 => ?_
    simp only [q_X75_oddY] at e_v2_2
    have m2 := mul01 (a := v2_2) (b := (0 : Int)) (by omega) (by omega)
    refine w_gd (by (first | omega | assumption | (subst_vars; first | omega | assumption) | done)) ?_
    refine w_gd (by (first | omega | assumption | (subst_vars; first | omega | assumption) | done)) ?_
    have c3_h0 : 0 ≤ (v1 * (0 : Int)) ∧ (v1 * (0 : Int)) ≤ 1099511627776 ∧ 0 ≤ (v2_2 * (0 : Int)) ∧ (v2_2 * (0 : Int)) ≤ 1099511627776 ∧ 1 ≤ (p2l v2) ∧ (p2l v2) ≤ 1099511627776 ∧ 1 ≤ (p2l v2) ∧ (p2l v2) ≤ 1099511627776 := by
      (first | omega | assumption | (subst_vars; first | omega | assumption) | done)
    refine w_b (Wp.fr (s_X24_divide hT c3_h0) fr_X24_divide) fun d5 h_d5 => ?_
    obtain ⟨⟨T_d5, h_d5⟩, F_d5⟩ := h_d5
    refine w_lA (by (first | omega | assumption | (subst_vars; first | omega | assumption) | done)) fun v7 e_v7 => ?_
    have t_v7 : 0 ≤ v7 ∧ v7 ≤ 15 := by rw [e_v7]; exact ty_7205 hT _ _
    refine w_gd (by (first | omega | assumption | (subst_vars; first | omega | assumption) | done)) ?_
    refine w_let fun v9 e_v9 => ?_
    refine w_let fun d8 e_d8 => ?_
    have T_d8 : Ty d8 := tyI_7502 e_d8 T_d5 (by (first | omega | assumption | (subst_vars; first | omega | assumption) | done))
    refine w_lA (by (first | omega | assumption | (subst_vars; first | omega | assumption) | done)) fun v11 e_v11 => ?_
    have t_v11 : 0 ≤ v11 ∧ v11 ≤ 15 := by rw [e_v11]; exact ty_7206 hT _ _
    refine w_gd (by (first | omega | assumption | (subst_vars; first | omega | assumption) | done)) ?_
    refine w_let fun v13 e_v13 => ?_
    refine w_let fun d12 e_d12 => ?_
    have T_d12 : Ty d12 := tyI_7503 e_d12 T_d8 (by (first | omega | assumption | (subst_vars; first | omega | assumption) | done))
    have t2 := ty_7203 hT r2
    refine w_let fun v15 e_v15 => ?_
    refine w_let fun d14 e_d14 => ?_
    have T_d14 : Ty d14 := tyI_7504 e_d14 T_d12 (by (first | omega | assumption | (subst_vars; first | omega | assumption) | done))
    have t3 := ty_7204 hT r2
    refine w_let fun v17 e_v17 => ?_
    refine w_let fun d16 e_d16 => ?_
    have T_d16 : Ty d16 := tyI_7505 e_d16 T_d14 (by (first | omega | assumption | (subst_vars; first | omega | assumption) | done))
    refine w_some ?_
    refine ⟨T_d16, ?_⟩
    exact fun bb h => (((((h_d5.2 bb h).tr (ArE.fr' (Fr.uI e_d8) rfl)).tr (ArE.fr' (Fr.uI e_d12) rfl)).tr (ArE.fr' (Fr.uI e_d14) rfl)).tr (ArE.fr' (Fr.uI e_d16) rfl))
  · skip
    have hp := pl_40 (y := v2 - 1) (by omega)
    refine w_gd (by (first | omega | assumption | (subst_vars; first | omega | assumption) | done)) ?_
    refine w_gd (by (first | omega | assumption | (subst_vars; first | omega | assumption) | done)) ?_
    generalize e_ts0_2 : (p2l (v2 - (1 : Int))) = ts0_2
    refine w_un (q_X75_lay_37.eq_1 ..) ?_
    refine w_let fun v1_2 e_v1_2 => ?_
    simp only [q_X75_oddX] at e_v1_2
    have m1 := mul01 (a := v1_2) (b := ts0_2) (by omega) (by omega)
    refine w_gd (by (first | omega | assumption | (subst_vars; first | omega | assumption) | done)) ?_
    refine w_let fun v2_3 e_v2_3 => ?_
    simp only [q_X75_oddY] at e_v2_3
    have m2 := mul01 (a := v2_3) (b := ts0_2) (by omega) (by omega)
    refine w_gd (by (first | omega | assumption | (subst_vars; first | omega | assumption) | done)) ?_
    refine w_gd (by (first | omega | assumption | (subst_vars; first | omega | assumption) | done)) ?_
    have c6_h0 : 0 ≤ (v1_2 * ts0_2) ∧ (v1_2 * ts0_2) ≤ 1099511627776 ∧ 0 ≤ (v2_3 * ts0_2) ∧ (v2_3 * ts0_2) ≤ 1099511627776 ∧ 1 ≤ (p2l v2) ∧ (p2l v2) ≤ 1099511627776 ∧ 1 ≤ (p2l v2) ∧ (p2l v2) ≤ 1099511627776 := by
      (first | omega | assumption | (subst_vars; first | omega | assumption) | done)
    refine w_b (Wp.fr (s_X24_divide hT c6_h0) fr_X24_divide) fun d5_2 h_d5_2 => ?_
    obtain ⟨⟨T_d5_2, h_d5_2⟩, F_d5_2⟩ := h_d5_2
    refine w_lA (by (first | omega | assumption | (subst_vars; first | omega | assumption) | done)) fun v7_2 e_v7_2 => ?_
    have t_v7_2 : 0 ≤ v7_2 ∧ v7_2 ≤ 15 := by rw [e_v7_2]; exact ty_7205 hT _ _
    refine w_gd (by (first | omega | assumption | (subst_vars; first | omega | assumption) | done)) ?_
    refine w_let fun v9_2 e_v9_2 => ?_
    refine w_let fun d8_2 e_d8_2 => ?_
    have T_d8_2 : Ty d8_2 := tyI_7502 e_d8_2 T_d5_2 (by (first | omega | assumption | (subst_vars; first | omega | assumption) | done))
    refine w_lA (by (first | omega | assumption | (subst_vars; first | omega | assumption) | done)) fun v11_2 e_v11_2 => ?_
    have t_v11_2 : 0 ≤ v11_2 ∧ v11_2 ≤ 15 := by rw [e_v11_2]; exact ty_7206 hT _ _
    refine w_gd (by (first | omega | assumption | (subst_vars; first | omega | assumption) | done)) ?_
    refine w_let fun v13_2 e_v13_2 => ?_
    refine w_let fun d12_2 e_d12_2 => ?_
    have T_d12_2 : Ty d12_2 := tyI_7503 e_d12_2 T_d8_2 (by (first | omega | assumption | (subst_vars; first | omega | assumption) | done))
    have t4 := ty_7203 hT r2
    refine w_let fun v15_2 e_v15_2 => ?_
    refine w_let fun d14_2 e_d14_2 => ?_
    have T_d14_2 : Ty d14_2 := tyI_7504 e_d14_2 T_d12_2 (by (first | omega | assumption | (subst_vars; first | omega | assumption) | done))
    have t5 := ty_7204 hT r2
    refine w_let fun v17_2 e_v17_2 => ?_
    refine w_let fun d16_2 e_d16_2 => ?_
    have T_d16_2 : Ty d16_2 := tyI_7505 e_d16_2 T_d14_2 (by (first | omega | assumption | (subst_vars; first | omega | assumption) | done))
    refine w_some ?_
    refine ⟨T_d16_2, ?_⟩
    exact fun bb h => (((((h_d5_2.2 bb h).tr (ArE.fr' (Fr.uI e_d8_2) rfl)).tr (ArE.fr' (Fr.uI e_d12_2) rfl)).tr (ArE.fr' (Fr.uI e_d14_2) rfl)).tr (ArE.fr' (Fr.uI e_d16_2) rfl))
set_option maxHeartbeats 8000000 in
theorem s_X74_lay_94 {N : Nat} {l : Nat} {Dz : Dt} (hN : 1099511627776 ≤ N) (n : Nat) : ∀ {a0 : Nat} {r1 : Nat} {a2 : Nat} {a5 : Nat} {x6 : Int} {x7 : Int} {G : Gt} {D : Dt}, Ty D → (a5 = l ∧ a0 = l ∧ 0 ≤ x7 ∧ x7 ≤ x6 ∧ x6 = ((z_N G 7402 l : Nat) : Int) ∧ 0 ≤ (d_I D 7400 a0) ∧ (d_I D 7400 a0) ≤ (d_I D 7202 a2) ∧ x6 ≤ 3) → (∀ bb, (∀ j, 0 ≤ j → j < x6 → bb ≠ z_P G 7501 (z_E G 7402 l j)) → ArE Dz D bb) → x6 - x7 < n → Wp (q_X74_lay_94 N n a0 r1 a2 a5 x6 x7 G D) (fun D' => Ty D' ∧ (∀ bb, (∀ j, 0 ≤ j → j < ((z_N G 7402 l : Nat) : Int) → bb ≠ z_P G 7501 (z_E G 7402 l j)) → ArE Dz D' bb)) := by
  induction n with
  | zero =>
    intro a0 r1 a2 a5 x6 x7 G D hT h0 hA hm; exfalso; omega
  | succ n ih =>
    intro a0 r1 a2 a5 x6 x7 G D hT h0 hA hm
    show Wp (q_X74_lay_94 N (n + 1) a0 r1 a2 a5 x6 x7 G D) _
    rw [q_X74_lay_94]
    have t1 := ty_7400 hT a0
    have t2 := ty_7202 hT a2
    refine w_ite (fun hc1 => ?_) (fun hc1 => ?_)
    · skip
      refine w_some ?_
      refine ⟨hT, ?_⟩
      intro bb hb; exact hA bb (fun j j0 j1 => hb j j0 (by omega))
    · skip
      have z5 : ((z_N G 7402 a5 : Nat) : Int) = x6 := by rw [h0.1]; omega
      have z0 := h0.2.1
      refine w_lE (by (first | omega | assumption | (subst_vars; first | omega | assumption) | done)) fun w1 e_w1 => ?_
      have c1_h0 : 0 ≤ (d_I D 7400 a0) ∧ (d_I D 7400 a0) ≤ d_I D 7202 a2 := by
        omega
      refine w_b (Wp.fr (s_X75_lay hT c1_h0) fr_X75_lay) fun d4 h_d4 => ?_
      obtain ⟨⟨T_d4, h_d4⟩, F_d4⟩ := h_d4
      refine w_gd (by (first | omega | assumption | (subst_vars; first | omega | assumption) | done)) ?_
      refine w_let fun v5 e_v5 => ?_
      have rq1 : d_I d4 7400 a0 = d_I D 7400 a0 := congrFun (F_d4.i (i := 7400) rfl) a0
      have rq2 : d_I d4 7202 a2 = d_I D 7202 a2 := congrFun (F_d4.i (i := 7202) rfl) a2
      have j1_h0 : a5 = l ∧ a0 = l ∧ 0 ≤ v5 ∧ v5 ≤ x6 ∧ x6 = ((z_N G 7402 l : Nat) : Int) ∧ 0 ≤ (d_I d4 7400 a0) ∧ (d_I d4 7400 a0) ≤ (d_I d4 7202 a2) ∧ x6 ≤ 3 := by
        try simp only [rq1, rq2]
        (first | omega | assumption | (subst_vars; first | omega | assumption) | done)
      have j1_hA : ∀ bb, (∀ j, 0 ≤ j → j < x6 → bb ≠ z_P G 7501 (z_E G 7402 l j)) → ArE Dz d4 bb := by
        intro bb hb
        have e : w1 = z_E G 7402 l x7 := by rw [e_w1, h0.1]
        exact (hA bb hb).tr (h_d4 bb (by rw [e]; exact hb x7 (by omega) (by omega)))
      have j1_hm : x6 - v5 < n := by
        (first | omega | assumption | (subst_vars; first | omega | assumption) | done)
      exact ih T_d4 j1_h0 j1_hA j1_hm
set_option maxHeartbeats 8000000 in
theorem s_X74_lay {N : Nat} {a0 : Nat} {r1 : Nat} {r2 : Nat} {G : Gt} {D : Dt} (hN : 1099511627776 ≤ N) {od : Od} {c : Int} {r : Int} (hT : Ty D) (hod : OdOk od) (h0 : 0 ≤ c ∧ c < oNC od ∧ 0 ≤ r ∧ r ≤ oNL od c) (hl : d_I D 7400 a0 = r ∧ z_N G 7402 a0 ≤ 3) (hc : CoD D od c r2) (ha : d_I D 2400 r1 = otU (oX0 od) (oDX od c) ∧ d_I D 2401 r1 = otU (oY0 od) (oDY od c) ∧ d_I D 2402 r1 = otU (oX1 od) (oDX od c) ∧ d_I D 2403 r1 = otU (oY1 od) (oDY od c)) (hd1 : ∀ j, 0 ≤ j → j < ((z_N G 7402 a0 : Nat) : Int) → z_P G 7401 a0 ≠ z_P G 7501 (z_E G 7402 a0 j)) : Wp (q_X74_lay N a0 r1 r2 G D) (fun D' => Ty D' ∧ (LvC D' G od c r a0 ∧ (∀ bb, bb ≠ a0 → LwSm D D' bb) ∧ (∀ bb, bb ≠ z_P G 7401 a0 → (∀ j, 0 ≤ j → j < ((z_N G 7402 a0 : Nat) : Int) → bb ≠ z_P G 7501 (z_E G 7402 a0 j)) → ArE D D' bb))) := by
  refine w_un (q_X74_lay.eq_1 ..) ?_
  have t0 := ty_7202 hT r2
  have nl := hod.2.2.2.1 c h0.1 h0.2.1
  have hp := pl_40 (y := d_I D 7202 r2 - d_I D 7400 a0) (by have := hc.2.2.1; omega)
  have lr := ol_r hod h0.1 h0.2.1 h0.2.2.1 h0.2.2.2
  have la := olA_r hod h0.1 h0.2.1 h0.2.2.1 h0.2.2.2
  have cw := hc.2.2.2 r h0.2.2.1 h0.2.2.2
  have hx := hod.1
  have hy := hod.2.1
  have u1 := otU_r (a := oX0 od) (b := oDX od c) (by omega) (by omega)
  have u2 := otU_r (a := oY0 od) (b := oDY od c) (by omega) (by omega)
  have u3 := otU_r (a := oX1 od) (b := oDX od c) (by omega) (by omega)
  have u4 := otU_r (a := oY1 od) (b := oDY od c) (by omega) (by omega)
  have t1 := ty_7202 hT r2
  have t2 := ty_7400 hT a0
  refine w_gd (by (first | omega | assumption | (subst_vars; first | omega | assumption) | done)) ?_
  refine w_gd (by (first | omega | assumption | (subst_vars; first | omega | assumption) | done)) ?_
  refine w_let fun v2 e_v2 => ?_
  have ev2 : v2 = p2l (oNL od c - r) := by rw [e_v2, hc.2.2.1, hl.1]
  have c1_h0 : 0 ≤ (0 : Int) ∧ (0 : Int) ≤ 1099511627776 ∧ 0 ≤ (0 : Int) ∧ (0 : Int) ≤ 1099511627776 ∧ 1 ≤ v2 ∧ v2 ≤ 1099511627776 ∧ 1 ≤ v2 ∧ v2 ≤ 1099511627776 := by
    (first | omega | assumption | (subst_vars; first | omega | assumption) | done)
  refine w_b (Wp.fr (s_X24_divide hT c1_h0) fr_X24_divide) fun d5 h_d5 => ?_
  obtain ⟨⟨T_d5, h_d5⟩, F_d5⟩ := h_d5
  refine w_lA (by (first | omega | assumption | (subst_vars; first | omega | assumption) | done)) fun v7 e_v7 => ?_
  have t_v7 : 0 ≤ v7 ∧ v7 ≤ 15 := by rw [e_v7]; exact ty_7205 hT _ _
  have ar : d_I d5 2400 (z_P G 7401 a0) = olX od (oX0 od) c r ∧ d_I d5 2401 (z_P G 7401 a0) = olY od (oY0 od) c r ∧ d_I d5 2402 (z_P G 7401 a0) = olX od (oX1 od) c r ∧ d_I d5 2403 (z_P G 7401 a0) = olY od (oY1 od) c r := by
   rw [h_d5.1.1, h_d5.1.2.1, h_d5.1.2.2.1, h_d5.1.2.2.2, ha.1, ha.2.1, ha.2.2.1, ha.2.2.2, Int.sub_zero, Int.sub_zero, Int.sub_zero, Int.sub_zero, cuZ_0 u1.1 (by omega), cuZ_0 u2.1 (by omega), cuZ_0 u3.1 (by omega), cuZ_0 u4.1 (by omega), ev2]
   exact ⟨rfl, rfl, rfl, rfl⟩
  have f7205 : d_A d5 7205 = d_A D 7205 := F_d5.a rfl
  have q7 : v7 = oWD od c r := by first | (rw [e_v7, hl.1]; exact cw.1) | (rw [e_v7, f7205, hl.1]; exact cw.1)
  refine w_let fun d8 e_d8 => ?_
  have T_d8 : Ty d8 := tyI_7403 e_d8 T_d5 (by (first | omega | assumption | (subst_vars; first | omega | assumption) | done))
  refine w_lA (by (first | omega | assumption | (subst_vars; first | omega | assumption) | done)) fun v10 e_v10 => ?_
  have t_v10 : 0 ≤ v10 ∧ v10 ≤ 15 := by rw [e_v10]; exact ty_7206 hT _ _
  have q10 : v10 = oHG od c r := by rw [e_v10, hl.1]; exact cw.2
  refine w_let fun d11 e_d11 => ?_
  have T_d11 : Ty d11 := tyI_7404 e_d11 T_d8 (by (first | omega | assumption | (subst_vars; first | omega | assumption) | done))
  have c2_h0 : 0 ≤ v7 ∧ v7 ≤ 15 := by
    (first | omega | assumption | (subst_vars; first | omega | assumption) | done)
  refine w_b (s_X24_columns T_d11 c2_h0) fun v13 h_v13 => ?_
  have a11 : ArE d5 d11 (z_P G 7401 a0) := (ArE.fr' (Fr.uI e_d8) rfl).tr (ArE.fr' (Fr.uI e_d11) rfl)
  have q13 : v13 = olA od c r := by rw [h_v13, a11.1.trans ar.1, a11.2.1.trans ar.2.1, a11.2.2.1.trans ar.2.2.1, a11.2.2.2.trans ar.2.2.2, q7]; rfl
  refine w_let fun d14 e_d14 => ?_
  have T_d14 : Ty d14 := tyI_7405 e_d14 T_d11 (by (first | omega | assumption | (subst_vars; first | omega | assumption) | done))
  have c3_h0 : 0 ≤ v10 ∧ v10 ≤ 15 := by
    (first | omega | assumption | (subst_vars; first | omega | assumption) | done)
  refine w_b (s_X24_rows T_d14 c3_h0) fun v16 h_v16 => ?_
  have a14 : ArE d5 d14 (z_P G 7401 a0) := a11.tr (ArE.fr' (Fr.uI e_d14) rfl)
  have q16 : v16 = olB od c r := by rw [h_v16, a14.1.trans ar.1, a14.2.1.trans ar.2.1, a14.2.2.1.trans ar.2.2.1, a14.2.2.2.trans ar.2.2.2, q10]; rfl
  refine w_let fun d17 e_d17 => ?_
  have T_d17 : Ty d17 := tyI_7406 e_d17 T_d14 (by (first | omega | assumption | (subst_vars; first | omega | assumption) | done))
  refine w_let fun v20 e_v20 => ?_
  have rq1 : d_I d17 7400 a0 = d_I D 7400 a0 := Eq.trans (rdI_I e_d17 rfl) (Eq.trans (rdI_I e_d14 rfl) (Eq.trans (rdI_I e_d11 rfl) (Eq.trans (rdI_I e_d8 rfl) (congrFun (F_d5.i (i := 7400) rfl) a0))))
  have rq2 : d_I d17 7202 r2 = d_I D 7202 r2 := Eq.trans (rdI_I e_d17 rfl) (Eq.trans (rdI_I e_d14 rfl) (Eq.trans (rdI_I e_d11 rfl) (Eq.trans (rdI_I e_d8 rfl) (congrFun (F_d5.i (i := 7202) rfl) r2))))
  have j1_h0 : a0 = a0 ∧ a0 = a0 ∧ 0 ≤ (0 : Int) ∧ (0 : Int) ≤ v20 ∧ v20 = ((z_N G 7402 a0 : Nat) : Int) ∧ 0 ≤ (d_I d17 7400 a0) ∧ (d_I d17 7400 a0) ≤ (d_I d17 7202 r2) ∧ v20 ≤ 3 := by
    try simp only [rq1, rq2]
    refine ⟨by trivial, by trivial, ?_⟩; have z1 := hl; have z2 := h0; have z3 := hc.2.2.1; omega
  have j1_hA : ∀ bb, (∀ j, 0 ≤ j → j < v20 → bb ≠ z_P G 7501 (z_E G 7402 a0 j)) → ArE d17 d17 bb := by
    exact fun _ _ => ArE.rf
  have j1_hm : v20 - (0 : Int) < N := by
    (first | omega | assumption | (subst_vars; first | omega | assumption) | done)
  refine Wp.mo (Wp.fr (s_X74_lay_94 hN (l := a0) (Dz := d17) _ T_d17 j1_h0 j1_hA j1_hm) (fr_X74_lay_94 _)) ?_
  intro o ho
  obtain ⟨⟨hT', ho⟩, hF⟩ := ho
  try dsimp only at hF
  refine ⟨hT', ?_⟩
  have w : (d_I d17 7403 a0 = v7 ∧ d_I d17 7404 a0 = v10 ∧ d_I d17 7405 a0 = v13 ∧ d_I d17 7406 a0 = v16) ∧ ∀ bb, bb ≠ a0 → LwSm d5 d17 bb := by
   unfold LwSm
   rw [e_d17, e_d14, e_d11, e_d8]
   refine ⟨⟨?_, ?_, ?_, ?_⟩, fun bb hb => ⟨?_, ?_, ?_, ?_⟩⟩
   all_goals (simp only [rI_I]; simp)
   all_goals (intro z; exact absurd z hb)
  have a17 : ∀ bb, ArE d5 d17 bb := fun bb => (((ArE.fr' (Fr.uI e_d8) rfl).tr (ArE.fr' (Fr.uI e_d11) rfl)).tr (ArE.fr' (Fr.uI e_d14) rfl)).tr (ArE.fr' (Fr.uI e_d17) rfl)
  have aO := (a17 (z_P G 7401 a0)).tr (ho _ hd1)
  have sO : ∀ bb, LwSm d17 o bb := fun bb => LwSm.fr' hF rfl
  exact ⟨⟨⟨aO.1.trans ar.1, aO.2.1.trans ar.2.1, aO.2.2.1.trans ar.2.2.1, aO.2.2.2.trans ar.2.2.2⟩, (sO a0).1.trans (w.1.1.trans q7), (sO a0).2.1.trans (w.1.2.1.trans q10), (sO a0).2.2.1.trans (w.1.2.2.1.trans q13), (sO a0).2.2.2.trans (w.1.2.2.2.trans q16)⟩, fun bb hb => ((LwSm.fr' F_d5 rfl).tr (w.2 bb hb)).tr (sO bb), fun bb h1 h2 => ((h_d5.2 bb h1).tr (a17 bb)).tr (ho bb h2)⟩
