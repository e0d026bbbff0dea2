/-! specifications, printed by gen/mks.py -/
set_option maxRecDepth 100000
/-- one after the other: the first number that differs decides -/
def ll : List Int → List Int → Prop
  | a :: s, b :: t => a < b ∨ a = b ∧ ll s t
  | _, _ => False
theorem ll_ir (s : List Int) : ¬ ll s s := by
  induction s with
  | nil => exact id
  | cons a s ih => intro h; rcases h with h | h; omega; exact ih h.2
theorem ll_tr : ∀ (s t u : List Int), ll s t → ll t u → ll s u
  | [], _, _ => fun h => h.elim
  | _ :: _, [], _ => fun h => h.elim
  | _ :: _, _ :: _, [] => fun _ h => h.elim
  | a :: s, b :: t, c :: u => fun h k => by
    rcases h with h | h
    · rcases k with k | k
      · left; omega
      · left; omega
    · rcases k with k | k
      · left; omega
      · right; exact ⟨by omega, ll_tr s t u h.2 k.2⟩
theorem ll_as {s t : List Int} (h : ll s t) : ¬ ll t s := fun k => ll_ir s (ll_tr s t s h k)
theorem ll_tot : ∀ (s t : List Int), s.length = t.length → s ≠ t → ll s t ∨ ll t s
  | [], [] => fun _ h => absurd rfl h
  | [], _ :: _ => fun h _ => by simp at h
  | _ :: _, [] => fun h _ => by simp at h
  | a :: s, b :: t => fun h k => by
    by_cases e : a = b
    · subst e
      rcases ll_tot s t (by simpa using h) (fun z => k (by rw [z])) with x | x
      · exact .inl (.inr ⟨rfl, x⟩)
      · exact .inr (.inr ⟨rfl, x⟩)
    · rcases Int.lt_or_gt_of_ne e with x | x
      · exact .inl (.inl x)
      · exact .inr (.inl x)
/-- the key of an entry in an order -/
def ktK (o : Int) (CM LV NM PX PY : Fz) (k : Int) : List Int := if o < 2 then [LV k, CM k, NM k] else if o = 2 then [LV k, PY k, PX k, CM k] else if o = 3 then [PY k, PX k, CM k, LV k] else [CM k, PY k, PX k, LV k]
def kD (o : Int) (D : Dt) (G : Gt) (k : Int) : List Int := ktK o (d_A D 6318 (s_ G 63)) (d_A D 6319 (s_ G 63)) (d_A D 6320 (s_ G 63)) (d_A D 6321 (s_ G 63)) (d_A D 6322 (s_ G 63)) k
theorem ktK_l {o : Int} {CM LV NM PX PY : Fz} (a b : Int) : (ktK o CM LV NM PX PY a).length = (ktK o CM LV NM PX PY b).length := by
  unfold ktK
  split
  · rfl
  · split
    · rfl
    · split <;> rfl
theorem kD_fr {D D' : Dt} {G : Gt} {o : Int} {S : List Nat} (F : Fr S D D') (hd : ([6318, 6319, 6320, 6321, 6322].all fun j => !S.contains j) = true) : kD o D' G = kD o D G := by
  unfold kD
  rw [F.a (i := 6318) (dsO_o hd (by decide)), F.a (i := 6319) (dsO_o hd (by decide)), F.a (i := 6320) (dsO_o hd (by decide)), F.a (i := 6321) (dsO_o hd (by decide)), F.a (i := 6322) (dsO_o hd (by decide))]
def sgZ (a b : Int) : Int := if b ≤ a then if a ≤ b then 0 else 1 else -1
def thZ (a b : Int) : Int := if a = 0 then b else a
theorem th_s {a b s : Int} : thZ (sgZ a b) s < 0 ↔ a < b ∨ a = b ∧ s < 0 := by
  unfold thZ sgZ
  by_cases h : b ≤ a
  · rw [if_pos h]
    by_cases g : a ≤ b
    · rw [if_pos g, if_pos rfl]; omega
    · rw [if_neg g, if_neg (by decide)]; omega
  · rw [if_neg h, if_neg (by decide)]; omega
theorem th_a {a b c : Int} : thZ (thZ a b) c = thZ a (thZ b c) := by
  unfold thZ
  by_cases h : a = 0
  · rw [if_pos h, if_pos h]
  · rw [if_neg h, if_neg h, if_neg h]
theorem sg_0 {a b : Int} : sgZ a b < 0 ↔ a < b ∨ a = b ∧ False := by
  have e : (a < b ∨ a = b ∧ False) = (a < b) := by simp
  rw [e]
  unfold sgZ
  by_cases h : b ≤ a
  · rw [if_pos h]
    by_cases g : a ≤ b
    · rw [if_pos g]; omega
    · rw [if_neg g]; omega
  · rw [if_neg h]; omega
theorem c3L {a b c d e f : Int} : thZ (sgZ a d) (thZ (sgZ b e) (sgZ c f)) < 0 ↔ ll [a, b, c] [d, e, f] := by rw [th_s, th_s, sg_0]; exact Iff.rfl
theorem c4L {a b c g d e f h : Int} : thZ (sgZ a d) (thZ (sgZ b e) (thZ (sgZ c f) (sgZ g h))) < 0 ↔ ll [a, b, c, g] [d, e, f, h] := by rw [th_s, th_s, th_s, sg_0]; exact Iff.rfl
set_option maxHeartbeats 8000000 in
theorem s_X63_byPlace {x1 : Int} {x2 : Int} {G : Gt} {D : Dt} (hT : Ty D) (h0 : 0 ≤ x1 ∧ x1 < 4096 ∧ 0 ≤ x2 ∧ x2 < 4096) : Wp (q_X63_byPlace x1 x2 G D) (fun r => r = thZ (sgZ (d_A D 6322 (s_ G 63) x1) (d_A D 6322 (s_ G 63) x2)) (sgZ (d_A D 6321 (s_ G 63) x1) (d_A D 6321 (s_ G 63) x2))) := by
  refine w_un (q_X63_byPlace.eq_1 ..) ?_
  refine w_lA (by (first | omega | assumption | (subst_vars; first | omega | assumption) | done)) fun v2 e_v2 => ?_
  refine w_lA (by (first | omega | assumption | (subst_vars; first | omega | assumption) | done)) fun v4 e_v4 => ?_
  refine w_let fun v5 e_v5 => ?_
  simp only [q_X63_sign] at e_v5
  have s5 : v5 = sgZ v2 v4 := e_v5
  refine w_ite (fun hc1 => ?_) (fun hc1 => ?_)
  · skip
    refine w_lA (by (first | omega | assumption | (subst_vars; first | omega | assumption) | done)) fun v7 e_v7 => ?_
    refine w_lA (by (first | omega | assumption | (subst_vars; first | omega | assumption) | done)) fun v9 e_v9 => ?_
    refine w_let fun v10 e_v10 => ?_
    simp only [q_X63_sign] at e_v10
    have s10 : v10 = sgZ v7 v9 := e_v10
    refine w_some ?_
    rw [s10, e_v7, e_v9]; unfold thZ; rw [if_pos (by rw [← e_v2, ← e_v4, ← s5]; exact hc1)]
  · skip
    refine w_some ?_
    rw [← e_v2, ← e_v4, ← s5]; unfold thZ; rw [if_neg hc1]
set_option maxHeartbeats 8000000 in
theorem s_X63_byComponent {x1 : Int} {x2 : Int} {G : Gt} {D : Dt} (hT : Ty D) (h0 : 0 ≤ x1 ∧ x1 < 4096 ∧ 0 ≤ x2 ∧ x2 < 4096) : Wp (q_X63_byComponent x1 x2 G D) (fun r => r = sgZ (d_A D 6318 (s_ G 63) x1) (d_A D 6318 (s_ G 63) x2)) := by
  refine w_un (q_X63_byComponent.eq_1 ..) ?_
  refine w_lA (by (first | omega | assumption | (subst_vars; first | omega | assumption) | done)) fun v2 e_v2 => ?_
  have t_v2 : 0 ≤ v2 ∧ v2 ≤ 15 := by rw [e_v2]; exact ty_6318 hT _ _
  refine w_lA (by (first | omega | assumption | (subst_vars; first | omega | assumption) | done)) fun v4 e_v4 => ?_
  have t_v4 : 0 ≤ v4 ∧ v4 ≤ 15 := by rw [e_v4]; exact ty_6318 hT _ _
  refine w_let fun v5 e_v5 => ?_
  simp only [q_X63_sign] at e_v5
  have s5 : v5 = sgZ v2 v4 := e_v5
  refine w_some ?_
  rw [s5, e_v2, e_v4]
set_option maxHeartbeats 8000000 in
theorem s_X63_byLevel {x1 : Int} {x2 : Int} {G : Gt} {D : Dt} (hT : Ty D) (h0 : 0 ≤ x1 ∧ x1 < 4096 ∧ 0 ≤ x2 ∧ x2 < 4096) : Wp (q_X63_byLevel x1 x2 G D) (fun r => r = sgZ (d_A D 6319 (s_ G 63) x1) (d_A D 6319 (s_ G 63) x2)) := by
  refine w_un (q_X63_byLevel.eq_1 ..) ?_
  refine w_lA (by (first | omega | assumption | (subst_vars; first | omega | assumption) | done)) fun v2 e_v2 => ?_
  have t_v2 : 0 ≤ v2 ∧ v2 ≤ 32 := by rw [e_v2]; exact ty_6319 hT _ _
  refine w_lA (by (first | omega | assumption | (subst_vars; first | omega | assumption) | done)) fun v4 e_v4 => ?_
  have t_v4 : 0 ≤ v4 ∧ v4 ≤ 32 := by rw [e_v4]; exact ty_6319 hT _ _
  refine w_let fun v5 e_v5 => ?_
  simp only [q_X63_sign] at e_v5
  have s5 : v5 = sgZ v2 v4 := e_v5
  refine w_some ?_
  rw [s5, e_v2, e_v4]
set_option maxHeartbeats 8000000 in
theorem s_X63_compare {x1 : Int} {x2 : Int} {x3 : Int} {G : Gt} {D : Dt} (hT : Ty D) (h0 : 0 ≤ x1 ∧ x1 < 4096 ∧ 0 ≤ x2 ∧ x2 < 4096 ∧ 0 ≤ x3) : Wp (q_X63_compare x1 x2 x3 G D) (fun r => r < 0 ↔ ll (kD x3 D G x1) (kD x3 D G x2)) := by
  refine w_un (q_X63_compare.eq_1 ..) ?_
  refine w_lA (by (first | omega | assumption | (subst_vars; first | omega | assumption) | done)) fun v2 e_v2 => ?_
  have t_v2 : 0 ≤ v2 ∧ v2 ≤ 4095 := by rw [e_v2]; exact ty_6320 hT _ _
  refine w_lA (by (first | omega | assumption | (subst_vars; first | omega | assumption) | done)) fun v4 e_v4 => ?_
  have t_v4 : 0 ≤ v4 ∧ v4 ≤ 4095 := by rw [e_v4]; exact ty_6320 hT _ _
  refine w_let fun v5 e_v5 => ?_
  simp only [q_X63_sign] at e_v5
  have s5 : v5 = sgZ (d_A D 6320 (s_ G 63) x1) (d_A D 6320 (s_ G 63) x2) := by rw [← e_v2, ← e_v4]; exact e_v5
  refine w_ite (fun hc1 => ?_) (fun hc1 => ?_)
  · skip
    have c2_h0 : 0 ≤ x1 ∧ x1 < 4096 ∧ 0 ≤ x2 ∧ x2 < 4096 := by
      (first | omega | assumption | (subst_vars; first | omega | assumption) | done)
    refine w_b (s_X63_byLevel hT c2_h0) fun v6 h_v6 => ?_
    have c3_h0 : 0 ≤ x1 ∧ x1 < 4096 ∧ 0 ≤ x2 ∧ x2 < 4096 := by
      (first | omega | assumption | (subst_vars; first | omega | assumption) | done)
    refine w_b (s_X63_byComponent hT c3_h0) fun v7 h_v7 => ?_
    refine w_let fun v8 e_v8 => ?_
    simp only [q_X63_then] at e_v8
    refine w_let fun v9 e_v9 => ?_
    simp only [q_X63_then] at e_v9
    refine w_some ?_
    have e : v9 = thZ (thZ v6 v7) v5 := by rw [e_v9, e_v8]; rfl
    rw [e, th_a, h_v6, h_v7, s5, c3L]; unfold kD ktK; rw [if_pos (by omega), if_pos (by omega)]
  refine w_ite (fun hc2 => ?_) (fun hc2 => ?_)
  · skip
    have c6_h0 : 0 ≤ x1 ∧ x1 < 4096 ∧ 0 ≤ x2 ∧ x2 < 4096 := by
      (first | omega | assumption | (subst_vars; first | omega | assumption) | done)
    refine w_b (s_X63_byLevel hT c6_h0) fun v10 h_v10 => ?_
    have c7_h0 : 0 ≤ x1 ∧ x1 < 4096 ∧ 0 ≤ x2 ∧ x2 < 4096 := by
      (first | omega | assumption | (subst_vars; first | omega | assumption) | done)
    refine w_b (s_X63_byComponent hT c7_h0) fun v11 h_v11 => ?_
    refine w_let fun v12 e_v12 => ?_
    simp only [q_X63_then] at e_v12
    refine w_let fun v13 e_v13 => ?_
    simp only [q_X63_then] at e_v13
    refine w_some ?_
    have e : v13 = thZ (thZ v10 v11) v5 := by rw [e_v13, e_v12]; rfl
    rw [e, th_a, h_v10, h_v11, s5, c3L]; unfold kD ktK; rw [if_pos (by omega), if_pos (by omega)]
  refine w_ite (fun hc3 => ?_) (fun hc3 => ?_)
  · skip
    have c10_h0 : 0 ≤ x1 ∧ x1 < 4096 ∧ 0 ≤ x2 ∧ x2 < 4096 := by
      (first | omega | assumption | (subst_vars; first | omega | assumption) | done)
    refine w_b (s_X63_byLevel hT c10_h0) fun v14 h_v14 => ?_
    have c11_h0 : 0 ≤ x1 ∧ x1 < 4096 ∧ 0 ≤ x2 ∧ x2 < 4096 := by
      (first | omega | assumption | (subst_vars; first | omega | assumption) | done)
    refine w_b (s_X63_byPlace hT c11_h0) fun v15 h_v15 => ?_
    refine w_let fun v16 e_v16 => ?_
    simp only [q_X63_then] at e_v16
    have c13_h0 : 0 ≤ x1 ∧ x1 < 4096 ∧ 0 ≤ x2 ∧ x2 < 4096 := by
      (first | omega | assumption | (subst_vars; first | omega | assumption) | done)
    refine w_b (s_X63_byComponent hT c13_h0) fun v17 h_v17 => ?_
    refine w_let fun v18 e_v18 => ?_
    simp only [q_X63_then] at e_v18
    refine w_some ?_
    have e : v18 = thZ (thZ v14 v15) v17 := by rw [e_v18, e_v16]; rfl
    rw [e, th_a, h_v14, h_v15, h_v17, th_a, c4L]; unfold kD ktK; rw [if_neg (by omega), if_pos hc3, if_neg (by omega), if_pos hc3]
  refine w_ite (fun hc4 => ?_) (fun hc4 => ?_)
  · skip
    have c15_h0 : 0 ≤ x1 ∧ x1 < 4096 ∧ 0 ≤ x2 ∧ x2 < 4096 := by
      (first | omega | assumption | (subst_vars; first | omega | assumption) | done)
    refine w_b (s_X63_byPlace hT c15_h0) fun v19 h_v19 => ?_
    have c16_h0 : 0 ≤ x1 ∧ x1 < 4096 ∧ 0 ≤ x2 ∧ x2 < 4096 := by
      (first | omega | assumption | (subst_vars; first | omega | assumption) | done)
    refine w_b (s_X63_byComponent hT c16_h0) fun v20 h_v20 => ?_
    refine w_let fun v21 e_v21 => ?_
    simp only [q_X63_then] at e_v21
    have c18_h0 : 0 ≤ x1 ∧ x1 < 4096 ∧ 0 ≤ x2 ∧ x2 < 4096 := by
      (first | omega | assumption | (subst_vars; first | omega | assumption) | done)
    refine w_b (s_X63_byLevel hT c18_h0) fun v22 h_v22 => ?_
    refine w_let fun v23 e_v23 => ?_
    simp only [q_X63_then] at e_v23
    refine w_some ?_
    have e : v23 = thZ (thZ v19 v20) v22 := by rw [e_v23, e_v21]; rfl
    rw [e, th_a, h_v19, h_v20, h_v22, th_a, c4L]; unfold kD ktK; rw [if_neg (by omega), if_neg hc3, if_pos hc4, if_neg (by omega), if_neg hc3, if_pos hc4]
  have c20_h0 : 0 ≤ x1 ∧ x1 < 4096 ∧ 0 ≤ x2 ∧ x2 < 4096 := by
    (first | omega | assumption | (subst_vars; first | omega | assumption) | done)
  refine w_b (s_X63_byComponent hT c20_h0) fun v24 h_v24 => ?_
  have c21_h0 : 0 ≤ x1 ∧ x1 < 4096 ∧ 0 ≤ x2 ∧ x2 < 4096 := by
    (first | omega | assumption | (subst_vars; first | omega | assumption) | done)
  refine w_b (s_X63_byPlace hT c21_h0) fun v25 h_v25 => ?_
  refine w_let fun v26 e_v26 => ?_
  simp only [q_X63_then] at e_v26
  have c23_h0 : 0 ≤ x1 ∧ x1 < 4096 ∧ 0 ≤ x2 ∧ x2 < 4096 := by
    (first | omega | assumption | (subst_vars; first | omega | assumption) | done)
  refine w_b (s_X63_byLevel hT c23_h0) fun v27 h_v27 => ?_
  refine w_let fun v28 e_v28 => ?_
  simp only [q_X63_then] at e_v28
  refine w_some ?_
  have e : v28 = thZ (thZ v24 v25) v27 := by rw [e_v28, e_v26]; rfl
  rw [e, th_a, h_v24, h_v25, h_v27, th_a, c4L]; unfold kD ktK; rw [if_neg (by omega), if_neg hc3, if_neg hc4, if_neg (by omega), if_neg hc3, if_neg hc4]
