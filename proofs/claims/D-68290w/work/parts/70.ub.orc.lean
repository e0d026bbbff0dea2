/-! specifications, printed by gen/mks.py -/
set_option maxRecDepth 100000
/-- the keys of a change of order 0 or 1 -/
theorem sqP_c {q : Sq} {o : Int} (h : 0 ≤ o ∧ o < 2) {k l : Int} : sqP q o k l = if o = 0 then [l, sqV q k, sqC q k, sqNm q k] else [sqV q k, l, sqC q k, sqNm q k] := by
  unfold sqP
  by_cases z : o = 0
  · rw [if_pos z, if_pos z, z]; rfl
  · rw [if_neg z, if_neg z, if_pos (by omega)]
theorem ll4 {a b c d x y z w : Int} : ll [a, b, c, d] [x, y, z, w] ↔ a < x ∨ a = x ∧ (b < y ∨ b = y ∧ (c < z ∨ c = z ∧ d < w)) := by
  show (a < x ∨ a = x ∧ (b < y ∨ b = y ∧ (c < z ∨ c = z ∧ (d < w ∨ d = w ∧ False)))) ↔ _
  simp
/-- where the counting stands -/
def cnK (D : Dt) (G : Gt) (o : Int) : List Int := if o = 0 then [d_I D 2603 (s_ G 27), d_I D 2704 (s_ G 27), d_I D 2705 (s_ G 27), d_I D 2706 (s_ G 27)] else [d_I D 2704 (s_ G 27), d_I D 2603 (s_ G 27), d_I D 2705 (s_ G 27), d_I D 2706 (s_ G 27)]
/-- what is to come in the counting -/
def BnC (D : Dt) (G : Gt) (q : Sq) (o k l : Int) : Prop := ¬ ll (sqP q o k l) (cnK D G o)
theorem BnC.e {D : Dt} {G : Gt} {q : Sq} {o k l : Int} (h : 0 ≤ o ∧ o < 2) : BnC D G q o k l ↔ ¬ (if o = 0 then l < d_I D 2603 (s_ G 27) ∨ l = d_I D 2603 (s_ G 27) ∧ (sqV q k < d_I D 2704 (s_ G 27) ∨ sqV q k = d_I D 2704 (s_ G 27) ∧ (sqC q k < d_I D 2705 (s_ G 27) ∨ sqC q k = d_I D 2705 (s_ G 27) ∧ sqNm q k < d_I D 2706 (s_ G 27)))
    else sqV q k < d_I D 2704 (s_ G 27) ∨ sqV q k = d_I D 2704 (s_ G 27) ∧ (l < d_I D 2603 (s_ G 27) ∨ l = d_I D 2603 (s_ G 27) ∧ (sqC q k < d_I D 2705 (s_ G 27) ∨ sqC q k = d_I D 2705 (s_ G 27) ∧ sqNm q k < d_I D 2706 (s_ G 27)))) := by
  unfold BnC cnK
  rw [sqP_c h]
  by_cases z : o = 0
  · rw [if_pos z, if_pos z, if_pos z, ll4]
  · rw [if_neg z, if_neg z, if_neg z, ll4]
/-- the counting's state in change w -/
def CnS (D : Dt) (G : Gt) (od : Od) (g : Cg) (w : Int) (ch : Nat) : Prop :=
  (d_R D 2600 (s_ G 27) = some (s_ G 23) ∧ d_R D 2601 (s_ G 27) = some ch ∧ ChS D ch (cgA g w) (cgB g w) (cgC g w) (cgE g w) (cgL g w) (cgO g w)) ∧ (0 ≤ cgO g w ∧ cgO g w < 2) ∧ (1 ≤ cgL g w ∧ cgL g w ≤ 255) ∧ (0 ≤ cgA g w ∧ cgA g w < cgB g w ∧ cgB g w ≤ 33) ∧ (0 ≤ cgC g w ∧ cgC g w ≤ cgE g w ∧ cgE g w ≤ 16 ∧ cgC g w ≤ 15) ∧ (cgC g w < cgE g w ∨ oNC od ≤ cgC g w) ∧
  (0 ≤ d_I D 2603 (s_ G 27) ∧ d_I D 2603 (s_ G 27) ≤ cgL g w ∧ (cgO g w = 1 → d_I D 2603 (s_ G 27) < cgL g w)) ∧ (cgA g w ≤ d_I D 2704 (s_ G 27) ∧ d_I D 2704 (s_ G 27) ≤ cgB g w ∧ (cgO g w = 0 → d_I D 2704 (s_ G 27) < cgB g w)) ∧ (cgC g w ≤ d_I D 2705 (s_ G 27) ∧ (d_I D 2705 (s_ G 27) < cgE g w ∨ d_I D 2705 (s_ G 27) = cgC g w)) ∧ 0 ≤ d_I D 2706 (s_ G 27) ∧ d_I D 2706 (s_ G 27) ≤ 4096
/-- how far it is to its end -/
def mnC (D : Dt) (G : Gt) (g : Cg) (w : Int) : Int := (if cgO g w = 0 then (cgL g w - d_I D 2603 (s_ G 27)) * 64 + (cgB g w - d_I D 2704 (s_ G 27)) else (cgB g w - d_I D 2704 (s_ G 27)) * 256 + (cgL g w - d_I D 2603 (s_ G 27))) * 64 + (20 - d_I D 2705 (s_ G 27))
set_option maxHeartbeats 8000000 in
theorem s_X27_turn_144 {ch : Nat} {G : Gt} {D : Dt} (hT : Ty D) (hw : d_R D 2601 (s_ G 27) = some ch) : Wp (q_X27_turn_144 G D) (fun o => (fun r D' => Ty D' ∧ (D' = D ∧ r = if d_I D 2204 ch ≤ d_I D 2603 (s_ G 27) ∨ d_I D 2201 ch ≤ d_I D 2704 (s_ G 27) then 0 else 1)) o.1 o.2) := by
  refine w_un (q_X27_turn_144.eq_1 ..) ?_
  refine w_on (by (rw [hw]; exact Option.some_ne_none _)) fun b1 e_b1 => ?_
  have E1 : b1 = ch := by rw [hw] at e_b1; exact (Option.some.inj e_b1).symm
  have t1 := ty_2204 hT b1
  have t2 := ty_2603 hT (s_ G 27)
  refine w_ite (fun hc1 => ?_) (fun hc1 => ?_)
  · skip
    refine w_some ?_
    try dsimp only
    refine ⟨hT, ?_⟩
    rw [E1] at hc1; exact ⟨rfl, (if_pos (.inl hc1)).symm⟩
  · skip
    refine w_on (by (rw [hw]; exact Option.some_ne_none _)) fun b2 e_b2 => ?_
    have E2 : b2 = ch := by rw [hw] at e_b2; exact (Option.some.inj e_b2).symm
    have t3 := ty_2201 hT b2
    have t4 := ty_2704 hT (s_ G 27)
    refine w_ite (fun hc2 => ?_) (fun hc2 => ?_)
    · skip
      refine w_some ?_
      try dsimp only
      refine ⟨hT, ?_⟩
      rw [E2] at hc2; exact ⟨rfl, (if_pos (.inr hc2)).symm⟩
    · skip
      refine w_some ?_
      try dsimp only
      refine ⟨hT, ?_⟩
      rw [E1] at hc1; rw [E2] at hc2; exact ⟨rfl, (if_neg (by omega)).symm⟩
set_option maxHeartbeats 8000000 in
theorem s_X27_turn_111 {ch : Nat} {x1 : Int} {G : Gt} {D : Dt} (hT : Ty D) (hw : d_R D 2601 (s_ G 27) = some ch) (h0 : d_I D 2704 (s_ G 27) < 33 ∨ x1 ≠ 0) : Wp (q_X27_turn_111 x1 G D) (fun o => (fun r D' => Ty D' ∧ (((x1 = 0 ∧ d_I D 2603 (s_ G 27) = d_I D 2204 ch) ∧ d_I D' 2603 (s_ G 27) = 0 ∧ d_I D' 2704 (s_ G 27) = d_I D 2704 (s_ G 27) + 1 ∨ ¬ (x1 = 0 ∧ d_I D 2603 (s_ G 27) = d_I D 2204 ch) ∧ d_I D' 2603 (s_ G 27) = d_I D 2603 (s_ G 27) ∧ d_I D' 2704 (s_ G 27) = d_I D 2704 (s_ G 27)) ∧ d_I D' 2705 (s_ G 27) = d_I D 2705 (s_ G 27) ∧ d_I D' 2706 (s_ G 27) = d_I D 2706 (s_ G 27) ∧ r = if d_I D 2204 ch ≤ d_I D' 2603 (s_ G 27) ∨ d_I D 2201 ch ≤ d_I D' 2704 (s_ G 27) then 0 else 1)) o.1 o.2) := by
  refine w_un (q_X27_turn_111.eq_1 ..) ?_
  refine w_ite (fun hc1 => ?_) (fun hc1 => ?_)
  · skip
    refine w_on (by (rw [hw]; exact Option.some_ne_none _)) fun b1 e_b1 => ?_
    have E1 : b1 = ch := by rw [hw] at e_b1; exact (Option.some.inj e_b1).symm
    have t27 := ty_2704 hT (s_ G 27)
    have t1 := ty_2603 hT (s_ G 27)
    have t2 := ty_2204 hT b1
    refine w_ite (fun hc2 => ?_) (fun hc2 => ?_)
    · skip
      refine w_let fun d2 e_d2 => ?_
      have T_d2 : Ty d2 := tyI_2603 e_d2 hT (by (first | omega | assumption | (subst_vars; first | omega | assumption) | done))
      have t3 := ty_2704 hT (s_ G 27)
      refine w_gd (by (first | omega | assumption | (subst_vars; first | omega | assumption) | done)) ?_
      refine w_let fun v4 e_v4 => ?_
      refine w_let fun d3 e_d3 => ?_
      have T_d3 : Ty d3 := tyI_2704 e_d3 T_d2 (by (first | omega | assumption | (subst_vars; first | omega | assumption) | done))
      have j1_hw : d_R d3 2601 (s_ G 27) = some ch := by
        rw [e_d3, e_d2]; exact hw
      refine Wp.mo (Wp.fr (s_X27_turn_144 (ch := ch) T_d3 j1_hw) fr_X27_turn_144) ?_
      intro o ho
      obtain ⟨⟨hT', ho⟩, hF⟩ := ho
      try dsimp only at hF
      refine ⟨hT', ?_⟩
      obtain ⟨ho1, ho2⟩ := ho
      rw [ho1, ho2, E1] at *
      refine ⟨.inl ⟨⟨hc1, hc2⟩, ?_, ?_⟩, ?_, ?_, ?_⟩
      · rw [e_d3, rI_I, if_neg (by omega), e_d2, rI_I, if_pos ⟨rfl, rfl⟩]
      · rw [e_d3, rI_I, if_pos ⟨rfl, rfl⟩, e_v4]
      · rw [e_d3, rI_I, if_neg (by omega), e_d2, rI_I, if_neg (by omega)]
      · rw [e_d3, rI_I, if_neg (by omega), e_d2, rI_I, if_neg (by omega)]
      · rw [show d_I d3 2204 ch = d_I D 2204 ch by rw [e_d3, rI_I, if_neg (by omega), e_d2, rI_I, if_neg (by omega)], show d_I d3 2201 ch = d_I D 2201 ch by rw [e_d3, rI_I, if_neg (by omega), e_d2, rI_I, if_neg (by omega)]]
    · skip
      have j2_hw : d_R D 2601 (s_ G 27) = some ch := by
        (first | omega | assumption | (subst_vars; first | omega | assumption) | done)
      refine Wp.mo (Wp.fr (s_X27_turn_144 (ch := ch) hT j2_hw) fr_X27_turn_144) ?_
      intro o ho
      obtain ⟨⟨hT', ho⟩, hF⟩ := ho
      try dsimp only at hF
      refine ⟨hT', ?_⟩
      obtain ⟨ho1, ho2⟩ := ho
      rw [E1] at hc2
      rw [ho1, ho2]
      exact ⟨.inr ⟨fun z => hc2 z.2, rfl, rfl⟩, rfl, rfl, rfl⟩
  · skip
    have j3_hw : d_R D 2601 (s_ G 27) = some ch := by
      (first | omega | assumption | (subst_vars; first | omega | assumption) | done)
    refine Wp.mo (Wp.fr (s_X27_turn_144 (ch := ch) hT j3_hw) fr_X27_turn_144) ?_
    intro o ho
    obtain ⟨⟨hT', ho⟩, hF⟩ := ho
    try dsimp only at hF
    refine ⟨hT', ?_⟩
    obtain ⟨ho1, ho2⟩ := ho
    rw [ho1, ho2]
    exact ⟨.inr ⟨fun z => hc1 z.1, rfl, rfl⟩, rfl, rfl, rfl⟩
set_option maxHeartbeats 8000000 in
theorem s_X27_turn_69 {ch : Nat} {x1 : Int} {G : Gt} {D : Dt} (hT : Ty D) (hw : d_R D 2601 (s_ G 27) = some ch) (h0 : (d_I D 2704 (s_ G 27) < 33 ∨ x1 ≠ 0) ∧ (d_I D 2603 (s_ G 27) < 255 ∨ x1 = 0)) : Wp (q_X27_turn_69 x1 G D) (fun o => (fun r D' => Ty D' ∧ (((x1 = 0 ∧ d_I D 2603 (s_ G 27) = d_I D 2204 ch) ∧ d_I D' 2603 (s_ G 27) = 0 ∧ d_I D' 2704 (s_ G 27) = d_I D 2704 (s_ G 27) + 1 ∨ (x1 ≠ 0 ∧ d_I D 2704 (s_ G 27) = d_I D 2201 ch) ∧ d_I D' 2603 (s_ G 27) = d_I D 2603 (s_ G 27) + 1 ∧ d_I D' 2704 (s_ G 27) = d_I D 2200 ch ∨ ((x1 = 0 ∧ d_I D 2603 (s_ G 27) ≠ d_I D 2204 ch) ∨ x1 ≠ 0 ∧ d_I D 2704 (s_ G 27) ≠ d_I D 2201 ch) ∧ d_I D' 2603 (s_ G 27) = d_I D 2603 (s_ G 27) ∧ d_I D' 2704 (s_ G 27) = d_I D 2704 (s_ G 27)) ∧ d_I D' 2705 (s_ G 27) = d_I D 2705 (s_ G 27) ∧ d_I D' 2706 (s_ G 27) = d_I D 2706 (s_ G 27) ∧ r = if d_I D 2204 ch ≤ d_I D' 2603 (s_ G 27) ∨ d_I D 2201 ch ≤ d_I D' 2704 (s_ G 27) then 0 else 1)) o.1 o.2) := by
  refine w_un (q_X27_turn_69.eq_1 ..) ?_
  refine w_ite (fun hc1 => ?_) (fun hc1 => ?_)
  · skip
    have j1_hw : d_R D 2601 (s_ G 27) = some ch := by
      (first | omega | assumption | (subst_vars; first | omega | assumption) | done)
    have j1_h0 : d_I D 2704 (s_ G 27) < 33 ∨ x1 ≠ 0 := by
      (first | omega | assumption | (subst_vars; first | omega | assumption) | done)
    refine Wp.mo (Wp.fr (s_X27_turn_111 (ch := ch) hT j1_hw j1_h0) fr_X27_turn_111) ?_
    intro o ho
    obtain ⟨⟨hT', ho⟩, hF⟩ := ho
    try dsimp only at hF
    refine ⟨hT', ?_⟩
    refine ⟨?_, ho.2⟩
    rcases ho.1 with y | y
    · exact .inl y
    · exact .inr (.inr ⟨.inl ⟨hc1, fun z => y.1 ⟨hc1, z⟩⟩, y.2⟩)
  · skip
    refine w_on (by (rw [hw]; exact Option.some_ne_none _)) fun b1 e_b1 => ?_
    have E1 : b1 = ch := by rw [hw] at e_b1; exact (Option.some.inj e_b1).symm
    have t27 := ty_2704 hT (s_ G 27)
    have t1 := ty_2704 hT (s_ G 27)
    have t2 := ty_2201 hT b1
    refine w_ite (fun hc2 => ?_) (fun hc2 => ?_)
    · skip
      refine w_on (by (rw [hw]; exact Option.some_ne_none _)) fun b2 e_b2 => ?_
      have E2 : b2 = ch := by rw [hw] at e_b2; exact (Option.some.inj e_b2).symm
      have t3 := ty_2200 hT b2
      refine w_let fun v4 e_v4 => ?_
      refine w_let fun d3 e_d3 => ?_
      have T_d3 : Ty d3 := tyI_2704 e_d3 hT (by (first | omega | assumption | (subst_vars; first | omega | assumption) | done))
      have t4 := ty_2603 hT (s_ G 27)
      refine w_gd (by (first | omega | assumption | (subst_vars; first | omega | assumption) | done)) ?_
      refine w_let fun v6 e_v6 => ?_
      refine w_let fun d5 e_d5 => ?_
      have T_d5 : Ty d5 := tyI_2603 e_d5 T_d3 (by (first | omega | assumption | (subst_vars; first | omega | assumption) | done))
      have j2_hw : d_R d5 2601 (s_ G 27) = some ch := by
        rw [e_d5, e_d3]; exact hw
      refine Wp.mo (Wp.fr (s_X27_turn_144 (ch := ch) T_d5 j2_hw) fr_X27_turn_144) ?_
      intro o ho
      obtain ⟨⟨hT', ho⟩, hF⟩ := ho
      try dsimp only at hF
      refine ⟨hT', ?_⟩
      obtain ⟨ho1, ho2⟩ := ho
      have f3 : d_I d5 2603 (s_ G 27) = d_I D 2603 (s_ G 27) + 1 := by rw [e_d5, rI_I, if_pos ⟨rfl, rfl⟩, e_v6]
      have f4 : d_I d5 2704 (s_ G 27) = d_I D 2200 ch := by rw [e_d5, rI_I, if_neg (by omega), e_d3, rI_I, if_pos ⟨rfl, rfl⟩, e_v4, E2]
      rw [E1] at hc2
      rw [ho1]
      refine ⟨.inr (.inl ⟨⟨hc1, hc2⟩, f3, f4⟩), ?_, ?_, ?_⟩
      · rw [e_d5, rI_I, if_neg (by omega), e_d3, rI_I, if_neg (by omega)]
      · rw [e_d5, rI_I, if_neg (by omega), e_d3, rI_I, if_neg (by omega)]
      · rw [ho2, show d_I d5 2204 ch = d_I D 2204 ch by rw [e_d5, rI_I, if_neg (by omega), e_d3, rI_I, if_neg (by omega)], show d_I d5 2201 ch = d_I D 2201 ch by rw [e_d5, rI_I, if_neg (by omega), e_d3, rI_I, if_neg (by omega)]]
    · skip
      have j3_hw : d_R D 2601 (s_ G 27) = some ch := by
        (first | omega | assumption | (subst_vars; first | omega | assumption) | done)
      have j3_h0 : d_I D 2704 (s_ G 27) < 33 ∨ x1 ≠ 0 := by
        (first | omega | assumption | (subst_vars; first | omega | assumption) | done)
      refine Wp.mo (Wp.fr (s_X27_turn_111 (ch := ch) hT j3_hw j3_h0) fr_X27_turn_111) ?_
      intro o ho
      obtain ⟨⟨hT', ho⟩, hF⟩ := ho
      try dsimp only at hF
      refine ⟨hT', ?_⟩
      refine ⟨?_, ho.2⟩
      rw [E1] at hc2
      rcases ho.1 with y | y
      · exact absurd y.1.1 hc1
      · exact .inr (.inr ⟨.inr ⟨hc1, hc2⟩, y.2⟩)
