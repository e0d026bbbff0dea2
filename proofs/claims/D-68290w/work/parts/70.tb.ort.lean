/-! specifications, printed by gen/mks.py -/
set_option maxRecDepth 100000
/-- the twin was told what an order is told -/
def TOd (D : Dt) (G : Gt) (o : Od) : Prop := OdOk o ∧ (d_I D 6302 (s_ G 63) = oX0 o ∧ d_I D 6303 (s_ G 63) = oY0 o ∧ d_I D 6304 (s_ G 63) = oX1 o ∧ d_I D 6305 (s_ G 63) = oY1 o) ∧ d_I D 6306 (s_ G 63) = oNC o ∧ (∀ c, 0 ≤ c → c < oNC o → d_A D 6307 (s_ G 63) c = oDX o c ∧ d_A D 6308 (s_ G 63) c = oDY o c ∧ d_A D 6309 (s_ G 63) c = oNL o c) ∧ (∀ c r, 0 ≤ c → c < oNC o → 0 ≤ r → r ≤ oNL o c → d_A D 6310 (s_ G 63) (33 * c + r) = oWD o c r ∧ d_A D 6311 (s_ G 63) (33 * c + r) = oHG o c r)
theorem dsO_o {T S : List Nat} {i : Nat} (h : (T.all fun j => !S.contains j) = true) (hi : T.contains i = true) : S.contains i = false := by
  have a := List.all_eq_true.mp h i (List.contains_iff_mem.mp hi)
  simpa using a
theorem TOd.fr {D D' : Dt} {G : Gt} {o : Od} {S : List Nat} (h : TOd D G o) (F : Fr S D D') (hd : ([6302, 6303, 6304, 6305, 6306, 6307, 6308, 6309, 6310, 6311].all fun j => !S.contains j) = true) : TOd D' G o := by
  unfold TOd at h ⊢
  rw [F.i (i := 6302) (dsO_o hd (by decide)), F.i (i := 6303) (dsO_o hd (by decide)), F.i (i := 6304) (dsO_o hd (by decide)), F.i (i := 6305) (dsO_o hd (by decide)), F.i (i := 6306) (dsO_o hd (by decide)), F.a (i := 6307) (dsO_o hd (by decide)), F.a (i := 6308) (dsO_o hd (by decide)), F.a (i := 6309) (dsO_o hd (by decide)), F.a (i := 6310) (dsO_o hd (by decide)), F.a (i := 6311) (dsO_o hd (by decide))]
  exact h
set_option maxHeartbeats 8000000 in
theorem s_X63_up {x0 : Int} {x1 : Int} (h0 : 0 ≤ x0 ∧ x0 ≤ 65535 ∧ 1 ≤ x1 ∧ x1 ≤ 65535) : Wp (q_X63_up x0 x1) (fun r => r = otU x0 x1) := by
  refine w_un (q_X63_up.eq_1 ..) ?_
  have t := otU_t (a := x0) (b := x1) (by omega) (by omega)
  have q := otU_r (a := x0) (b := x1) (by omega) (by omega)
  refine w_gd (by (first | omega | assumption | (subst_vars; first | omega | assumption) | done)) ?_
  refine w_gd (by (first | omega | assumption | (subst_vars; first | omega | assumption) | done)) ?_
  refine w_gd (by (first | omega | assumption | (subst_vars; first | omega | assumption) | done)) ?_
  refine w_gd (by (first | omega | assumption | (subst_vars; first | omega | assumption) | done)) ?_
  refine w_some ?_
  exact t
set_option maxHeartbeats 8000000 in
theorem s_X63_findLevel_70 {N : Nat} {od : Od} {c : Int} {r0 : Int} (hN : 1099511627776 ≤ N) (n : Nat) : ∀ {x1 : Int} {x3 : Int} {G : Gt} {D : Dt}, Ty D → (TOd D G od) → (x1 = c ∧ 0 ≤ c ∧ c < oNC od ∧ 0 ≤ r0 ∧ r0 ≤ x3 ∧ x3 ≤ oNL od c) → ((d_I D 6334 (s_ G 63)) = otU (otU (oX0 od) (oDX od c)) (p2l (x3 - r0)) ∧ (d_I D 6335 (s_ G 63)) = otU (otU (oY0 od) (oDY od c)) (p2l (x3 - r0)) ∧ (d_I D 6336 (s_ G 63)) = otU (otU (oX1 od) (oDX od c)) (p2l (x3 - r0)) ∧ (d_I D 6337 (s_ G 63)) = otU (otU (oY1 od) (oDY od c)) (p2l (x3 - r0))) → oNL od c - x3 < n → Wp (q_X63_findLevel_70 N n x1 x3 G D) (fun D' => Ty D' ∧ ((d_I D' 6334 (s_ G 63)) = olX od (oX0 od) c r0 ∧ (d_I D' 6335 (s_ G 63)) = olY od (oY0 od) c r0 ∧ (d_I D' 6336 (s_ G 63)) = olX od (oX1 od) c r0 ∧ (d_I D' 6337 (s_ G 63)) = olY od (oY1 od) c r0)) := by
  induction n with
  | zero =>
    intro x1 x3 G D hT hT0 h0 hx hm; exfalso; omega
  | succ n ih =>
    intro x1 x3 G D hT hT0 h0 hx hm
    show Wp (q_X63_findLevel_70 N (n + 1) x1 x3 G D) _
    rw [q_X63_findLevel_70]
    have t1 := ty_6334 hT (s_ G 63)
    have t2 := ty_6335 hT (s_ G 63)
    have t3 := ty_6336 hT (s_ G 63)
    have t4 := ty_6337 hT (s_ G 63)
    have nc := hT0.1.2.2.1
    have dd := hT0.1.2.2.2.1 c h0.2.1 h0.2.2.1
    have tt := hT0.2.2.2.1 c h0.2.1 h0.2.2.1
    have e1 := h0.1
    have e2 : ∀ a, (otU a (p2l (x3 - r0)) + 1) / 2 = otU a (p2l (x3 + 1 - r0)) := fun a => by
     rw [otU_2 (by omega), show x3 - r0 + 1 = x3 + 1 - r0 by omega]
    refine w_lA (by (first | omega | assumption | (subst_vars; first | omega | assumption) | done)) fun v2 e_v2 => ?_
    have t_v2 : 0 ≤ v2 ∧ v2 ≤ 32 := by rw [e_v2]; exact ty_6309 hT _ _
    have e3 : v2 = oNL od c := by rw [e_v2, e1]; exact tt.2.2
    refine w_ite (fun hc1 => ?_) (fun hc1 => ?_)
    · skip
      refine w_some ?_
      refine ⟨hT, ?_⟩
      unfold olX olY; rw [show oNL od c - r0 = x3 - r0 by omega]; exact hx
    · skip
      refine w_gd (by (first | omega | assumption | (subst_vars; first | omega | assumption) | done)) ?_
      refine w_let fun v4 e_v4 => ?_
      refine w_let fun d3 e_d3 => ?_
      have T_d3 : Ty d3 := tyI_6334 e_d3 hT (by (first | omega | assumption | (subst_vars; first | omega | assumption) | done))
      refine w_gd (by (first | omega | assumption | (subst_vars; first | omega | assumption) | done)) ?_
      refine w_let fun v6 e_v6 => ?_
      refine w_let fun d5 e_d5 => ?_
      have T_d5 : Ty d5 := tyI_6335 e_d5 T_d3 (by (first | omega | assumption | (subst_vars; first | omega | assumption) | done))
      refine w_gd (by (first | omega | assumption | (subst_vars; first | omega | assumption) | done)) ?_
      refine w_let fun v8 e_v8 => ?_
      refine w_let fun d7 e_d7 => ?_
      have T_d7 : Ty d7 := tyI_6336 e_d7 T_d5 (by (first | omega | assumption | (subst_vars; first | omega | assumption) | done))
      refine w_gd (by (first | omega | assumption | (subst_vars; first | omega | assumption) | done)) ?_
      refine w_let fun v10 e_v10 => ?_
      refine w_let fun d9 e_d9 => ?_
      have T_d9 : Ty d9 := tyI_6337 e_d9 T_d7 (by (first | omega | assumption | (subst_vars; first | omega | assumption) | done))
      refine w_gd (by (first | omega | assumption | (subst_vars; first | omega | assumption) | done)) ?_
      refine w_let fun v11 e_v11 => ?_
      have rq1 : d_I d9 6334 (s_ G 63) = v4 := Eq.trans (rdI_I e_d9 rfl) (Eq.trans (rdI_I e_d7 rfl) (Eq.trans (rdI_I e_d5 rfl) (rdI_s e_d3)))
      have rq2 : d_I d9 6335 (s_ G 63) = v6 := Eq.trans (rdI_I e_d9 rfl) (Eq.trans (rdI_I e_d7 rfl) (rdI_s e_d5))
      have rq3 : d_I d9 6336 (s_ G 63) = v8 := Eq.trans (rdI_I e_d9 rfl) (rdI_s e_d7)
      have rq4 : d_I d9 6337 (s_ G 63) = v10 := rdI_s e_d9
      have j1_hT0 : TOd d9 G od := by
        (first | assumption | exact (TOd.fr (by assumption) (Fr.uI e_d9) rfl) | exact (TOd.fr (TOd.fr (by assumption) (Fr.uI e_d7) rfl) (Fr.uI e_d9) rfl) | exact (TOd.fr (TOd.fr (TOd.fr (by assumption) (Fr.uI e_d5) rfl) (Fr.uI e_d7) rfl) (Fr.uI e_d9) rfl) | exact (TOd.fr (TOd.fr (TOd.fr (TOd.fr (by assumption) (Fr.uI e_d3) rfl) (Fr.uI e_d5) rfl) (Fr.uI e_d7) rfl) (Fr.uI e_d9) rfl))
      have j1_h0 : x1 = c ∧ 0 ≤ c ∧ c < oNC od ∧ 0 ≤ r0 ∧ r0 ≤ v11 ∧ v11 ≤ oNL od c := by
        (first | omega | assumption | (subst_vars; first | omega | assumption) | done)
      have j1_hx : (d_I d9 6334 (s_ G 63)) = otU (otU (oX0 od) (oDX od c)) (p2l (v11 - r0)) ∧ (d_I d9 6335 (s_ G 63)) = otU (otU (oY0 od) (oDY od c)) (p2l (v11 - r0)) ∧ (d_I d9 6336 (s_ G 63)) = otU (otU (oX1 od) (oDX od c)) (p2l (v11 - r0)) ∧ (d_I d9 6337 (s_ G 63)) = otU (otU (oY1 od) (oDY od c)) (p2l (v11 - r0)) := by
        try simp only [rq1, rq2, rq3, rq4]
        rw [e_v4, e_v6, e_v8, e_v10, e_v11, hx.1, hx.2.1, hx.2.2.1, hx.2.2.2, e2, e2, e2, e2]; exact ⟨rfl, rfl, rfl, rfl⟩
      have j1_hm : oNL od c - v11 < n := by
        (first | omega | assumption | (subst_vars; first | omega | assumption) | done)
      exact ih T_d9 j1_hT0 j1_h0 j1_hx j1_hm
set_option maxHeartbeats 8000000 in
theorem s_X63_findLevel {N : Nat} {x1 : Int} {x2 : Int} {G : Gt} {D : Dt} (hN : 1099511627776 ≤ N) {od : Od} (hT : Ty D) (hT0 : TOd D G od) (h0 : 0 ≤ x1 ∧ x1 < oNC od ∧ 0 ≤ x2 ∧ x2 ≤ oNL od x1) : Wp (q_X63_findLevel N x1 x2 G D) (fun D' => Ty D' ∧ ((d_I D' 6334 (s_ G 63)) = olX od (oX0 od) x1 x2 ∧ (d_I D' 6335 (s_ G 63)) = olY od (oY0 od) x1 x2 ∧ (d_I D' 6336 (s_ G 63)) = olX od (oX1 od) x1 x2 ∧ (d_I D' 6337 (s_ G 63)) = olY od (oY1 od) x1 x2)) := by
  refine w_un (q_X63_findLevel.eq_1 ..) ?_
  have nc := hT0.1.2.2.1
  have dd := hT0.1.2.2.2.1 x1 h0.1 h0.2.1
  have tt := hT0.2.2.2.1 x1 h0.1 h0.2.1
  have xx := hT0.1.1
  have yy := hT0.1.2.1
  have ff := hT0.2.1
  obtain ⟨c, hc⟩ : ∃ c, c = x1 := ⟨_, rfl⟩
  refine w_lA (by (first | omega | assumption | (subst_vars; first | omega | assumption) | done)) fun v2 e_v2 => ?_
  have t_v2 : 0 ≤ v2 ∧ v2 ≤ 255 := by rw [e_v2]; exact ty_6307 hT _ _
  have e2 : v2 = oDX od x1 := by rw [e_v2]; exact tt.1
  have t1 := ty_6302 hT (s_ G 63)
  have c1_h0 : 0 ≤ (d_I D 6302 (s_ G 63)) ∧ (d_I D 6302 (s_ G 63)) ≤ 65535 ∧ 1 ≤ v2 ∧ v2 ≤ 65535 := by
    (first | omega | assumption | (subst_vars; first | omega | assumption) | done)
  refine w_b (s_X63_up c1_h0) fun v3 h_v3 => ?_
  have z3 := otU_r (a := oX0 od) (b := oDX od x1) (by omega) (by omega)
  rw [ff.1, e2] at h_v3
  refine w_let fun d4 e_d4 => ?_
  have T_d4 : Ty d4 := tyI_6334 e_d4 hT (by (first | omega | assumption | (subst_vars; first | omega | assumption) | done))
  refine w_lA (by (first | omega | assumption | (subst_vars; first | omega | assumption) | done)) fun v6 e_v6 => ?_
  have t_v6 : 0 ≤ v6 ∧ v6 ≤ 255 := by rw [e_v6]; exact ty_6308 hT _ _
  have e6 : v6 = oDY od x1 := by rw [e_v6]; exact tt.2.1
  have t2 := ty_6303 hT (s_ G 63)
  have c2_h0 : 0 ≤ (d_I D 6303 (s_ G 63)) ∧ (d_I D 6303 (s_ G 63)) ≤ 65535 ∧ 1 ≤ v6 ∧ v6 ≤ 65535 := by
    (first | omega | assumption | (subst_vars; first | omega | assumption) | done)
  refine w_b (s_X63_up c2_h0) fun v7 h_v7 => ?_
  have z7 := otU_r (a := oY0 od) (b := oDY od x1) (by omega) (by omega)
  rw [ff.2.1, e6] at h_v7
  refine w_let fun d8 e_d8 => ?_
  have T_d8 : Ty d8 := tyI_6335 e_d8 T_d4 (by (first | omega | assumption | (subst_vars; first | omega | assumption) | done))
  refine w_lA (by (first | omega | assumption | (subst_vars; first | omega | assumption) | done)) fun v10 e_v10 => ?_
  have t_v10 : 0 ≤ v10 ∧ v10 ≤ 255 := by rw [e_v10]; exact ty_6307 hT _ _
  have e10 : v10 = oDX od x1 := by rw [e_v10]; exact tt.1
  have t3 := ty_6304 hT (s_ G 63)
  have c3_h0 : 0 ≤ (d_I D 6304 (s_ G 63)) ∧ (d_I D 6304 (s_ G 63)) ≤ 65535 ∧ 1 ≤ v10 ∧ v10 ≤ 65535 := by
    (first | omega | assumption | (subst_vars; first | omega | assumption) | done)
  refine w_b (s_X63_up c3_h0) fun v11 h_v11 => ?_
  have z11 := otU_r (a := oX1 od) (b := oDX od x1) (by omega) (by omega)
  rw [ff.2.2.1, e10] at h_v11
  refine w_let fun d12 e_d12 => ?_
  have T_d12 : Ty d12 := tyI_6336 e_d12 T_d8 (by (first | omega | assumption | (subst_vars; first | omega | assumption) | done))
  refine w_lA (by (first | omega | assumption | (subst_vars; first | omega | assumption) | done)) fun v14 e_v14 => ?_
  have t_v14 : 0 ≤ v14 ∧ v14 ≤ 255 := by rw [e_v14]; exact ty_6308 hT _ _
  have e14 : v14 = oDY od x1 := by rw [e_v14]; exact tt.2.1
  have t4 := ty_6305 hT (s_ G 63)
  have c4_h0 : 0 ≤ (d_I D 6305 (s_ G 63)) ∧ (d_I D 6305 (s_ G 63)) ≤ 65535 ∧ 1 ≤ v14 ∧ v14 ≤ 65535 := by
    (first | omega | assumption | (subst_vars; first | omega | assumption) | done)
  refine w_b (s_X63_up c4_h0) fun v15 h_v15 => ?_
  have z15 := otU_r (a := oY1 od) (b := oDY od x1) (by omega) (by omega)
  rw [ff.2.2.2, e14] at h_v15
  refine w_let fun d16 e_d16 => ?_
  have T_d16 : Ty d16 := tyI_6337 e_d16 T_d12 (by (first | omega | assumption | (subst_vars; first | omega | assumption) | done))
  have rq1 : d_I d16 6334 (s_ G 63) = v3 := Eq.trans (rdI_I e_d16 rfl) (Eq.trans (rdI_I e_d12 rfl) (Eq.trans (rdI_I e_d8 rfl) (rdI_s e_d4)))
  have rq2 : d_I d16 6335 (s_ G 63) = v7 := Eq.trans (rdI_I e_d16 rfl) (Eq.trans (rdI_I e_d12 rfl) (rdI_s e_d8))
  have rq3 : d_I d16 6336 (s_ G 63) = v11 := Eq.trans (rdI_I e_d16 rfl) (rdI_s e_d12)
  have rq4 : d_I d16 6337 (s_ G 63) = v15 := rdI_s e_d16
  have j1_hT0 : TOd d16 G od := by
    (first | assumption | exact (TOd.fr (by assumption) (Fr.uI e_d16) rfl) | exact (TOd.fr (TOd.fr (by assumption) (Fr.uI e_d12) rfl) (Fr.uI e_d16) rfl) | exact (TOd.fr (TOd.fr (TOd.fr (by assumption) (Fr.uI e_d8) rfl) (Fr.uI e_d12) rfl) (Fr.uI e_d16) rfl) | exact (TOd.fr (TOd.fr (TOd.fr (TOd.fr (by assumption) (Fr.uI e_d4) rfl) (Fr.uI e_d8) rfl) (Fr.uI e_d12) rfl) (Fr.uI e_d16) rfl))
  have j1_h0 : x1 = c ∧ 0 ≤ c ∧ c < oNC od ∧ 0 ≤ x2 ∧ x2 ≤ x2 ∧ x2 ≤ oNL od c := by
    (first | omega | assumption | (subst_vars; first | omega | assumption) | done)
  have j1_hx : (d_I d16 6334 (s_ G 63)) = otU (otU (oX0 od) (oDX od c)) (p2l (x2 - x2)) ∧ (d_I d16 6335 (s_ G 63)) = otU (otU (oY0 od) (oDY od c)) (p2l (x2 - x2)) ∧ (d_I d16 6336 (s_ G 63)) = otU (otU (oX1 od) (oDX od c)) (p2l (x2 - x2)) ∧ (d_I d16 6337 (s_ G 63)) = otU (otU (oY1 od) (oDY od c)) (p2l (x2 - x2)) := by
    try simp only [rq1, rq2, rq3, rq4]
    rw [h_v3, h_v7, h_v11, h_v15, hc, Int.sub_self, pl_0, otU_1, otU_1, otU_1, otU_1]; exact ⟨rfl, rfl, rfl, rfl⟩
  have j1_hm : oNL od c - x2 < N := by
    (first | omega | assumption | (subst_vars; first | omega | assumption) | done)
  refine Wp.mo (Wp.fr (s_X63_findLevel_70 hN (od := od) (c := c) (r0 := x2) _ T_d16 j1_hT0 j1_h0 j1_hx j1_hm) (fr_X63_findLevel_70 _)) ?_
  intro o ho
  obtain ⟨⟨hT', ho⟩, hF⟩ := ho
  try dsimp only at hF
  refine ⟨hT', ?_⟩
  have t5 := ty_6334 hT' (s_ G 63)
  have t6 := ty_6335 hT' (s_ G 63)
  have t7 := ty_6336 hT' (s_ G 63)
  have t8 := ty_6337 hT' (s_ G 63)
  rw [hc] at ho; exact ho
