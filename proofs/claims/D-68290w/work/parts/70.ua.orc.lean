/-! specifications, printed by gen/mks.py -/
set_option maxRecDepth 100000
/-- streams before (K, R) stand at their beginning -/
def RwZ (D : Dt) (G : Gt) (od : Od) (K R : Int) : Prop := ∀ k r st, LvV od k r → (k < K ∨ k = K ∧ r < R) → z_Q G 2302 (s_ G 23) (k * 33 + r) = some st → d_I D 7604 st = 0
set_option maxHeartbeats 8000000 in
theorem s_X23_rewind_12 {N : Nat} {od : Od} (hN : 1099511627776 ≤ N) {k2 : Int → Gt → Dt → Option Dt} {M2 : Int} (hk2 : ∀ {x1 : Int} {G : Gt} {D : Dt}, Ty D → (OrS D G od) → (0 ≤ x1 ∧ x1 ≤ oNC od) → (RwZ D G od x1 0) → oNC od - x1 < M2 → Wp (k2 x1 G D) (fun D' => Ty D' ∧ (RwZ D' G od (oNC od) 0))) (n : Nat) : ∀ {x1 : Int} {x2 : Int} {G : Gt} {D : Dt}, Ty D → (OrS D G od) → (0 ≤ x1 ∧ x1 < oNC od ∧ 0 ≤ x2 ∧ x2 ≤ oNL od x1 + 1) → (RwZ D G od x1 x2) → (oNC od - (x1 + 1) < M2) → oNL od x1 + 1 - x2 < n → Wp (q_X23_rewind_12 N k2 n x1 x2 G D) (fun D' => Ty D' ∧ (RwZ D' G od (oNC od) 0)) := by
  induction n with
  | zero =>
    intro x1 x2 G D hT hS h0 hz hM hm; exfalso; omega
  | succ n ih =>
    intro x1 x2 G D hT hS h0 hz hM hm
    show Wp (q_X23_rewind_12 N k2 (n + 1) x1 x2 G D) _
    rw [q_X23_rewind_12]
    have nc := hS.1.2.2.1
    have nl := (hS.1.2.2.2.1 x1 h0.1 h0.2.1).2.2.2.2
    obtain ⟨pt, y1, y2⟩ := hS.2.2.2.1 x1 h0.1 h0.2.1
    refine w_lQ (by (first | omega | assumption | (subst_vars; first | omega | assumption) | done)) fun w2 e_w2 => ?_
    have q2 : w2 = some pt := by rw [e_w2]; exact y1
    refine w_on (by (first | (rw [q2]; exact Option.some_ne_none _) | (rcases h_w5 with y | ⟨s, y, z⟩ <;> first | (rw [y]; exact Option.some_ne_none _) | (exfalso; exact y.2 ⟨⟨by omega, by omega⟩, by omega, by omega⟩)))) fun b3 e_b3 => ?_
    have E3 : b3 = pt := by rw [q2] at e_b3; exact (Option.some.inj e_b3).symm
    rw [← E3] at y2
    have t1 := ty_7302 hT b3
    refine w_ite (fun hc1 => ?_) (fun hc1 => ?_)
    · skip
      refine w_gd (by (first | omega | assumption | (subst_vars; first | omega | assumption) | done)) ?_
      refine w_let fun v4 e_v4 => ?_
      have j1_hS : OrS D G od := by
        (first | assumption)
      have j1_h0 : 0 ≤ v4 ∧ v4 ≤ oNC od := by
        (first | omega | assumption | (subst_vars; first | omega | assumption) | done)
      have j1_hz : RwZ D G od v4 0 := by
        intro k r st v l e
        exact hz k r st v (by have := v.2; by_cases z : k = x1; exact .inr ⟨z, by rw [z] at this; omega⟩; exact .inl (by omega)) e
      have j1_hm : oNC od - v4 < M2 := by
        (first | omega | assumption | (subst_vars; first | omega | assumption) | done)
      exact hk2 hT j1_hS j1_h0 j1_hz j1_hm
    · skip
      have c1_hS : OrS D G od := by
        (first | assumption)
      have c1_h0 : x1 ≤ 100 ∧ -100 ≤ x2 ∧ x2 ≤ 100 := by
        (first | omega | assumption | (subst_vars; first | omega | assumption) | done)
      refine w_b (s_X23_of hT c1_hS c1_h0) fun w5 h_w5 => ?_
      refine w_on (by (first | (rw [q2]; exact Option.some_ne_none _) | (rcases h_w5 with y | ⟨s, y, z⟩ <;> first | (rw [y]; exact Option.some_ne_none _) | (exfalso; exact y.2 ⟨⟨by omega, by omega⟩, by omega, by omega⟩)))) fun b6 e_b6 => ?_
      refine w_let fun d7 e_d7 => ?_
      have T_d7 : Ty d7 := tyI_7604 e_d7 hT (by (first | omega | assumption | (subst_vars; first | omega | assumption) | done))
      refine w_gd (by (first | omega | assumption | (subst_vars; first | omega | assumption) | done)) ?_
      refine w_let fun v8 e_v8 => ?_
      have j2_hS : OrS d7 G od := by
        (first | assumption | exact (OrS.fr (by assumption) (Fr.uI e_d7) rfl))
      have j2_h0 : 0 ≤ x1 ∧ x1 < oNC od ∧ 0 ≤ v8 ∧ v8 ≤ oNL od x1 + 1 := by
        (first | omega | assumption | (subst_vars; first | omega | assumption) | done)
      have j2_hz : RwZ d7 G od x1 v8 := by
        intro k r st v l e
        rw [e_d7, rI_I]
        split
        · rfl
        · rename_i n
          rcases h_w5 with y | ⟨s, y, v5, z⟩
          · exfalso; exact y.2 ⟨⟨by omega, by omega⟩, by omega, by omega⟩
          · have eb : b6 = s := by rw [y] at e_b6; exact (Option.some.inj e_b6).symm
            by_cases u : k = x1 ∧ r = x2
            · exfalso
              rw [u.1, u.2, z.1] at e
              have := Option.some.inj e
              exact n ⟨rfl, by omega⟩
            · exact hz k r st v (by omega) e
      have j2_hM : oNC od - (x1 + 1) < M2 := by
        (first | omega | assumption | (subst_vars; first | omega | assumption) | done)
      have j2_hm : oNL od x1 + 1 - v8 < n := by
        (first | omega | assumption | (subst_vars; first | omega | assumption) | done)
      exact ih T_d7 j2_hS j2_h0 j2_hz j2_hM j2_hm
set_option maxHeartbeats 8000000 in
theorem s_X23_rewind_2 {N : Nat} {od : Od} (hN : 1099511627776 ≤ N) (n : Nat) : ∀ {x1 : Int} {G : Gt} {D : Dt}, Ty D → (OrS D G od) → (0 ≤ x1 ∧ x1 ≤ oNC od) → (RwZ D G od x1 0) → oNC od - x1 < n → Wp (q_X23_rewind_2 N n x1 G D) (fun D' => Ty D' ∧ (RwZ D' G od (oNC od) 0)) := by
  induction n with
  | zero =>
    intro x1 G D hT hS h0 hz hm; exfalso; omega
  | succ n ih =>
    intro x1 G D hT hS h0 hz hm
    show Wp (q_X23_rewind_2 N (n + 1) x1 G D) _
    rw [q_X23_rewind_2]
    have nc := hS.1.2.2.1
    have n3 := hS.2.2.1
    have t1 := ty_2303 hT (s_ G 23)
    refine w_ite (fun hc1 => ?_) (fun hc1 => ?_)
    · skip
      refine w_some ?_
      refine ⟨hT, ?_⟩
      rw [show oNC od = x1 by omega]; exact hz
    · skip
      have nl := (hS.1.2.2.2.1 x1 h0.1 (by omega)).2.2.2.2
      have j1_hS : OrS D G od := by
        (first | assumption)
      have j1_h0 : 0 ≤ x1 ∧ x1 < oNC od ∧ 0 ≤ (0 : Int) ∧ (0 : Int) ≤ oNL od x1 + 1 := by
        (first | omega | assumption | (subst_vars; first | omega | assumption) | done)
      have j1_hz : RwZ D G od x1 (0 : Int) := by
        (first | omega | assumption | (subst_vars; first | omega | assumption) | done)
      have j1_hM : oNC od - (x1 + 1) < n := by
        (first | omega | assumption | (subst_vars; first | omega | assumption) | done)
      have j1_hm : oNL od x1 + 1 - (0 : Int) < N := by
        (first | omega | assumption | (subst_vars; first | omega | assumption) | done)
      refine Wp.mo (s_X23_rewind_12 hN (od := od) (M2 := n) (fun T i0 i1 i2 hm => ih T i0 i1 i2 hm) _ hT j1_hS j1_h0 j1_hz j1_hM j1_hm) ?_
      intro o ho
      exact ho
set_option maxHeartbeats 8000000 in
theorem s_X23_rewind {N : Nat} {G : Gt} {D : Dt} (hN : 1099511627776 ≤ N) {od : Od} (hT : Ty D) (hS : OrS D G od) : Wp (q_X23_rewind N G D) (fun D' => Ty D' ∧ (RwZ D' G od (oNC od) 0)) := by
  refine w_un (q_X23_rewind.eq_1 ..) ?_
  have nc := hS.1.2.2.1
  have j1_hS : OrS D G od := by
    (first | assumption)
  have j1_h0 : 0 ≤ (0 : Int) ∧ (0 : Int) ≤ oNC od := by
    (first | omega | assumption | (subst_vars; first | omega | assumption) | done)
  have j1_hz : RwZ D G od (0 : Int) 0 := by
    intro k r st v l e; have := v.1; have := v.2; omega
  have j1_hm : oNC od - (0 : Int) < N := by
    (first | omega | assumption | (subst_vars; first | omega | assumption) | done)
  refine Wp.mo (s_X23_rewind_2 hN (od := od) _ hT j1_hS j1_h0 j1_hz j1_hm) ?_
  intro o ho
  exact ho
set_option maxHeartbeats 8000000 in
theorem s_X26_begin {N : Nat} {a0 : Nat} {r2 : Nat} {G : Gt} {D : Dt} (hN : 1099511627776 ≤ N) {od : Od} (hT : Ty D) (hS : OrS D G od) : Wp (q_X26_begin N a0 r2 G D) (fun D' => Ty D' ∧ (RwZ D' G od (oNC od) 0 ∧ d_R D' 2600 a0 = some (s_ G 23) ∧ d_R D' 2601 a0 = some r2 ∧ d_I D' 2603 a0 = 0)) := by
  refine w_un (q_X26_begin.eq_1 ..) ?_
  refine w_let fun d1 e_d1 => ?_
  have T_d1 : Ty d1 := tyR e_d1 hT
  refine w_let fun d2 e_d2 => ?_
  have T_d2 : Ty d2 := tyR e_d2 T_d1
  have c1_hS : OrS d2 G od := by
    (first | assumption | exact (OrS.fr (by assumption) (Fr.uR e_d2) rfl) | exact (OrS.fr (OrS.fr (by assumption) (Fr.uR e_d1) rfl) (Fr.uR e_d2) rfl))
  refine w_b (Wp.fr (s_X23_rewind hN T_d2 c1_hS) fr_X23_rewind) fun d5 h_d5 => ?_
  obtain ⟨⟨T_d5, h_d5⟩, F_d5⟩ := h_d5
  refine w_let fun d6 e_d6 => ?_
  have T_d6 : Ty d6 := tyI_2603 e_d6 T_d5 (by (first | omega | assumption | (subst_vars; first | omega | assumption) | done))
  refine w_some ?_
  refine ⟨T_d6, ?_⟩
  refine ⟨?_, ?_, ?_, by rw [e_d6, rI_I, if_pos ⟨rfl, rfl⟩]⟩
  · intro k r st v l e
    rw [e_d6]; exact h_d5 k r st v l e
  · rw [e_d6]
    show d_R d5 2600 a0 = _
    rw [F_d5.r (i := 2600) rfl, e_d2, e_d1]
    show (if 2600 = 2601 ∧ a0 = a0 then some r2 else if 2600 = 2600 ∧ a0 = a0 then some (s_ G 23) else _) = _
    rw [if_neg (by omega), if_pos ⟨rfl, rfl⟩]
  · rw [e_d6]
    show d_R d5 2601 a0 = _
    rw [F_d5.r (i := 2601) rfl, e_d2]
    show (if 2601 = 2601 ∧ a0 = a0 then some r2 else _) = _
    rw [if_pos ⟨rfl, rfl⟩]
set_option maxHeartbeats 8000000 in
theorem s_X26_take {a0 : Nat} {r1 : Nat} {x2 : Int} {x3 : Int} {G : Gt} {D : Dt} (hT : Ty D) (h0 : 0 ≤ d_I D 7603 r1 + x2 ∧ d_I D 7603 r1 + x2 < 4096 ∧ 0 ≤ x2 ∧ 0 ≤ x3 ∧ x3 ≤ 254) (hw : d_R D 2600 a0 = some (s_ G 23)) : Wp (q_X26_take a0 r1 x2 x3 G D) (fun o => (fun r D' => Ty D' ∧ (0 ≤ r ∧ r ≤ 1 ∧ (r = 0 → x3 < d_A D 2305 (s_ G 23) (d_I D 7603 r1 + x2) ∧ D' = D) ∧ (r ≠ 0 → d_A D 2305 (s_ G 23) (d_I D 7603 r1 + x2) ≤ x3 ∧ (∀ i, d_A D' 2305 (s_ G 23) i = if i = d_I D 7603 r1 + x2 then d_A D 2305 (s_ G 23) (d_I D 7603 r1 + x2) + 1 else d_A D 2305 (s_ G 23) i) ∧ d_R D' 2503 (s_ G 25) = some r1 ∧ d_I D' 2501 (s_ G 25) = x2 ∧ d_I D' 2500 (s_ G 25) = x3))) o.1 o.2) := by
  refine w_un (q_X26_take.eq_1 ..) ?_
  have t1 := ty_7603 hT r1
  refine w_gd (by (first | omega | assumption | (subst_vars; first | omega | assumption) | done)) ?_
  refine w_let fun v2 e_v2 => ?_
  refine w_on (by (rw [hw]; exact Option.some_ne_none _)) fun b3 e_b3 => ?_
  refine w_lA (by (first | omega | assumption | (subst_vars; first | omega | assumption) | done)) fun v5 e_v5 => ?_
  have t_v5 : 0 ≤ v5 ∧ v5 ≤ 255 := by rw [e_v5]; exact ty_2305 hT _ _
  refine w_ite (fun hc1 => ?_) (fun hc1 => ?_)
  · skip
    refine w_on (by (rw [hw]; exact Option.some_ne_none _)) fun b6 e_b6 => ?_
    refine w_lA (by (first | omega | assumption | (subst_vars; first | omega | assumption) | done)) fun v9 e_v9 => ?_
    have t_v9 : 0 ≤ v9 ∧ v9 ≤ 255 := by rw [e_v9]; exact ty_2305 hT _ _
    have ta := (ty_2305 hT (s_ G 23) v2).1
    have tt : tos (tos (v9 + 1)) = v9 + 1 := by
     have e5 : v5 = v9 := by rw [e_v5, e_v9]
     unfold tos; omega
    refine w_gd (by (first | omega | assumption | (subst_vars; first | omega | assumption) | done)) ?_
    refine w_tA (by (first | omega | assumption | (subst_vars; first | omega | assumption) | done)) fun d10 e_d10 => ?_
    have T_d10 : Ty d10 := tyA_2305 e_d10 hT (by (first | omega | assumption | (subst_vars; first | omega | assumption) | done))
    have w_d10 := wA e_d10
    refine w_let fun d12 e_d12 => ?_
    have T_d12 : Ty d12 := tyR e_d12 T_d10
    refine w_let fun d14 e_d14 => ?_
    have T_d14 : Ty d14 := tyI_2501 e_d14 T_d12 (by (first | omega | assumption | (subst_vars; first | omega | assumption) | done))
    refine w_let fun d16 e_d16 => ?_
    have T_d16 : Ty d16 := tyI_2500 e_d16 T_d14 (by (first | omega | assumption | (subst_vars; first | omega | assumption) | done))
    refine w_some ?_
    try dsimp only
    refine ⟨T_d16, ?_⟩
    refine ⟨by omega, by omega, fun z => absurd z (by omega), fun _ => ⟨by rw [← e_v2, ← e_v9]; omega, fun i => ?_, ?_, ?_, ?_⟩⟩
    · rw [e_d16, e_d14, e_d12]
      show d_A d10 2305 (s_ G 23) i = _
      rw [e_d10, rA_A, tt, ← e_v2, ← e_v9]
      by_cases z : i = v2
      · rw [if_pos ⟨rfl, rfl, z⟩, if_pos z]
      · rw [if_neg (fun y => z y.2.2), if_neg z]
    · rw [e_d16, e_d14, e_d12]
      show (if 2503 = 2503 ∧ s_ G 25 = s_ G 25 then some r1 else _) = _
      rw [if_pos ⟨rfl, rfl⟩]
    · rw [e_d16, rI_I, if_neg (by omega), e_d14, rI_I, if_pos ⟨rfl, rfl⟩]
    · rw [e_d16, rI_I, if_pos ⟨rfl, rfl⟩]
  · skip
    refine w_some ?_
    try dsimp only
    refine ⟨hT, ?_⟩
    exact ⟨by omega, by omega, fun _ => ⟨by rw [← e_v2, ← e_v5]; omega, rfl⟩, fun z => absurd rfl z⟩
