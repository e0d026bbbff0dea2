/-! specifications, printed by gen/mks.py -/
set_option maxRecDepth 100000
/-- where a stream stands -/
def mtA (D : Dt) (G : Gt) (c r : Int) : Int := d_I D 7604 ((z_Q G 2302 (s_ G 23) (c * 33 + r)).getD 0)
theorem StrI.at {D : Dt} {G : Gt} {od : Od} {c r : Int} {st : Nat} (h : StrI D G od c r st) : d_I D 7604 st = mtA D G c r := by
  unfold mtA; rw [h.1]; rfl
/-- what the merging may take next -/
def Qfy (D : Dt) (G : Gt) (od : Od) (g : Cg) (w c r : Int) : Prop := LvV od c r ∧ (cgA g w ≤ r ∧ r < cgB g w ∧ cgC g w ≤ c ∧ c < cgE g w) ∧ ((cgO g w = 2 → r = d_I D 2805 (s_ G 28)) ∧ (cgO g w = 4 → c = d_I D 2805 (s_ G 28))) ∧ mtA D G c r < olP od c r
/-- the merging's objects -/
def MgP (D : Dt) (G : Gt) (od : Od) (g : Cg) (w : Int) (ch : Nat) : Prop := OrS D G od ∧ (d_R D 2600 (s_ G 28) = some (s_ G 23) ∧ d_R D 2601 (s_ G 28) = some ch ∧ ChS D ch (cgA g w) (cgB g w) (cgC g w) (cgE g w) (cgL g w) (cgO g w)) ∧ (2 ≤ cgO g w ∧ cgO g w ≤ 4) ∧ (1 ≤ cgL g w ∧ cgL g w ≤ 255) ∧ ∀ c r, LvV od c r → 0 ≤ mtA D G c r ∧ mtA D G c r ≤ olP od c r
/-- a stream's head among all -/
def mhd (D : Dt) (G : Gt) (od : Od) (c r : Int) : List Int := [opY od c r (mtA D G c r), opX od c r (mtA D G c r), c, r]
theorem opXY_b {od : Od} (h : OdOk od) {c r p : Int} (v : PcV od c r p) : (0 ≤ opX od c r p ∧ opX od c r p ≤ 8355585) ∧ 0 ≤ opY od c r p ∧ opY od c r p ≤ 8355585 := by
  have b := op_b h v.1.1 v.1.2 v.2.1.1 v.2.1.2 v.2.2.1 v.2.2.2
  have x := h.1
  have y := h.2.1
  unfold opX opY
  omega
set_option maxHeartbeats 8000000 in
theorem s_X76_isDone {a0 : Nat} {G : Gt} {D : Dt} {od : Od} {k : Int} {lv : Int} (hT : Ty D) (hod : OdOk od) (hS : StrI D G od k lv a0) (hv : LvV od k lv) : Wp (q_X76_isDone a0 G D) (fun r => r = if mtA D G k lv < olP od k lv then 0 else 1) := by
  refine w_un (q_X76_isDone.eq_1 ..) ?_
  have lr := olP_r hod hv.1.1 hv.1.2 hv.2.1 hv.2.2
  have la : d_I D 7405 (z_P G 7602 a0) * d_I D 7406 (z_P G 7602 a0) = olP od k lv := by rw [hS.2.2.2.2.1.2.2.2.1, hS.2.2.2.2.1.2.2.2.2]; rfl
  have ea := hS.at
  refine w_bb ?_
  refine w_un (q_X74_precincts.eq_1 ..) ?_
  have t1 := ty_7405 hT (z_P G 7602 a0)
  have t2 := ty_7406 hT (z_P G 7602 a0)
  refine w_gd (by (first | omega | assumption | (subst_vars; first | omega | assumption) | done)) ?_
  refine w_some fun v2 e_v2 => ?_
  have e2 : v2 = olP od k lv := by rw [e_v2]; exact la
  have t3 := ty_7604 hT a0
  refine w_ite (fun hc1 => ?_) (fun hc1 => ?_)
  · skip
    refine w_some ?_
    exact (if_pos (by omega)).symm
  · skip
    refine w_some ?_
    exact (if_neg (by omega)).symm
set_option maxHeartbeats 8000000 in
theorem s_X28_isIn {r1 : Nat} {G : Gt} {D : Dt} {od : Od} {g : Cg} {w : Int} {ch : Nat} {k : Int} {lv : Int} (hT : Ty D) (hM : MgP D G od g w ch) (hS : StrI D G od k lv r1) : Wp (q_X28_isIn r1 G D) (fun r => r = if (cgO g w = 2 → lv = d_I D 2805 (s_ G 28)) ∧ (cgO g w = 4 → k = d_I D 2805 (s_ G 28)) then 1 else 0) := by
  refine w_un (q_X28_isIn.eq_1 ..) ?_
  have hw := hM.2.1.2.1
  have hs := hM.2.1.2.2.2.2.2.2.2
  have ho := hM.2.2.1
  have h4 := hS.2.2.2.1
  have h6 := hS.2.2.1
  refine w_on (by (rw [hw]; exact Option.some_ne_none _)) fun b1 e_b1 => ?_
  have E1 : b1 = ch := by rw [hw] at e_b1; exact (Option.some.inj e_b1).symm
  rw [← E1] at hs
  have t1 := ty_2205 hT b1
  refine w_ite (fun hc1 => ?_) (fun hc1 => ?_)
  · skip
    have t2 := ty_7400 hT (z_P G 7602 r1)
    have t3 := ty_2805 hT (s_ G 28)
    refine w_ite (fun hc2 => ?_) (fun hc2 => ?_)
    · skip
      refine w_some ?_
      exact (if_pos (by omega)).symm
    · skip
      refine w_some ?_
      exact (if_neg (by omega)).symm
  · skip
    refine w_on (by (rw [hw]; exact Option.some_ne_none _)) fun b4 e_b4 => ?_
    have E4 : b4 = b1 := by rw [hw] at e_b4; rw [E1]; exact (Option.some.inj e_b4).symm
    have t4 := ty_2205 hT b4
    refine w_ite (fun hc3 => ?_) (fun hc3 => ?_)
    · skip
      refine w_some ?_
      rw [E4] at *; exact (if_pos (by omega)).symm
    · skip
      have t5 := ty_7600 hT r1
      have t6 := ty_2805 hT (s_ G 28)
      refine w_ite (fun hc4 => ?_) (fun hc4 => ?_)
      · skip
        refine w_some ?_
        rw [E4] at *; exact (if_pos (by omega)).symm
      · skip
        refine w_some ?_
        rw [E4] at *; exact (if_neg (by omega)).symm
set_option maxHeartbeats 8000000 in
theorem s_X28_before {r1 : Nat} {r2 : Nat} {G : Gt} {D : Dt} {od : Od} {g : Cg} {w : Int} {ch : Nat} {k : Int} {lv : Int} {k2 : Int} {lv2 : Int} (hT : Ty D) (hM : MgP D G od g w ch) (hS : StrI D G od k lv r1) (hS2 : StrI D G od k2 lv2 r2) (hv : LvV od k lv ∧ mtA D G k lv < olP od k lv) (hv2 : LvV od k2 lv2 ∧ mtA D G k2 lv2 < olP od k2 lv2) : Wp (q_X28_before r1 r2 G D) (fun r => r = if opY od k lv (mtA D G k lv) < opY od k2 lv2 (mtA D G k2 lv2) ∨ opY od k lv (mtA D G k lv) = opY od k2 lv2 (mtA D G k2 lv2) ∧ opX od k lv (mtA D G k lv) < opX od k2 lv2 (mtA D G k2 lv2) then 1 else 0) := by
  refine w_un (q_X28_before.eq_1 ..) ?_
  have hw := hM.2.1.1
  have pv : PcV od k lv (d_I D 7604 r1) := ⟨hv.1.1, hv.1.2, by rw [hS.at]; exact ⟨(hM.2.2.2.2 _ _ hv.1).1, hv.2⟩⟩
  have pv2 : PcV od k2 lv2 (d_I D 7604 r2) := ⟨hv2.1.1, hv2.1.2, by rw [hS2.at]; exact ⟨(hM.2.2.2.2 _ _ hv2.1).1, hv2.2⟩⟩
  have y1 := opXY_b hM.1.1 pv
  have y2 := opXY_b hM.1.1 pv2
  rw [← hS.at, ← hS2.at]
  have hod := hM.1.1
  have hA := hM.1.2.2.2.2.2.2
  refine w_on (by (rw [hw]; exact Option.some_ne_none _)) fun b1 e_b1 => ?_
  have t1 := ty_7604 hT r1
  have c1_hod : OdOk od := by
    (first | omega | assumption | (subst_vars; first | omega | assumption) | done)
  have c1_hS : StrI D G od k lv r1 := by
    (first | assumption)
  have c1_hv : PcV od k lv (d_I D 7604 r1) := by
    (first | omega | assumption | (subst_vars; first | omega | assumption) | done)
  have c1_ha : d_I D 2401 (z_P G 2300 (s_ G 23)) = oY0 od := by
    exact hA.2.1
  refine w_b (s_X76_y (od := od) (k := k) (lv := lv) hT c1_hod c1_hS c1_hv c1_ha) fun v3 h_v3 => ?_
  refine w_on (by (rw [hw]; exact Option.some_ne_none _)) fun b4 e_b4 => ?_
  have t2 := ty_7604 hT r2
  have c2_hod : OdOk od := by
    (first | omega | assumption | (subst_vars; first | omega | assumption) | done)
  have c2_hS : StrI D G od k2 lv2 r2 := by
    (first | assumption)
  have c2_hv : PcV od k2 lv2 (d_I D 7604 r2) := by
    (first | omega | assumption | (subst_vars; first | omega | assumption) | done)
  have c2_ha : d_I D 2401 (z_P G 2300 (s_ G 23)) = oY0 od := by
    exact hA.2.1
  refine w_b (s_X76_y (od := od) (k := k2) (lv := lv2) hT c2_hod c2_hS c2_hv c2_ha) fun v6 h_v6 => ?_
  refine w_gd (by (first | omega | assumption | (subst_vars; first | omega | assumption) | done)) ?_
  refine w_let fun v7 e_v7 => ?_
  refine w_ite (fun hc1 => ?_) (fun hc1 => ?_)
  · skip
    refine w_on (by (rw [hw]; exact Option.some_ne_none _)) fun b8 e_b8 => ?_
    have c3_hod : OdOk od := by
      (first | omega | assumption | (subst_vars; first | omega | assumption) | done)
    have c3_hS : StrI D G od k lv r1 := by
      (first | assumption)
    have c3_hv : PcV od k lv (d_I D 7604 r1) := by
      (first | omega | assumption | (subst_vars; first | omega | assumption) | done)
    have c3_ha : d_I D 2400 (z_P G 2300 (s_ G 23)) = oX0 od := by
      exact hA.1
    refine w_b (s_X76_x (od := od) (k := k) (lv := lv) hT c3_hod c3_hS c3_hv c3_ha) fun v9 h_v9 => ?_
    refine w_on (by (rw [hw]; exact Option.some_ne_none _)) fun b10 e_b10 => ?_
    have c4_hod : OdOk od := by
      (first | omega | assumption | (subst_vars; first | omega | assumption) | done)
    have c4_hS : StrI D G od k2 lv2 r2 := by
      (first | assumption)
    have c4_hv : PcV od k2 lv2 (d_I D 7604 r2) := by
      (first | omega | assumption | (subst_vars; first | omega | assumption) | done)
    have c4_ha : d_I D 2400 (z_P G 2300 (s_ G 23)) = oX0 od := by
      exact hA.1
    refine w_b (s_X76_x (od := od) (k := k2) (lv := lv2) hT c4_hod c4_hS c4_hv c4_ha) fun v11 h_v11 => ?_
    refine w_ite (fun hc2 => ?_) (fun hc2 => ?_)
    · skip
      refine w_some ?_
      exact (if_neg (by omega)).symm
    · skip
      refine w_some ?_
      exact (if_pos (by omega)).symm
  · skip
    refine w_ite (fun hc3 => ?_) (fun hc3 => ?_)
    · skip
      refine w_some ?_
      exact (if_neg (by omega)).symm
    · skip
      refine w_some ?_
      exact (if_pos (by omega)).symm
