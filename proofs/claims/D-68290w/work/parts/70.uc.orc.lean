/-! specifications, printed by gen/mks.py -/
set_option maxRecDepth 100000
/-- a turn of the counting, in numbers -/
def TnR (o A B C E L ly lv co ly' lv' co' r : Int) : Prop :=
  (co + 1 < E ∧ ly' = ly ∧ lv' = lv ∧ co' = co + 1 ∧ r = 1) ∨ (E ≤ co + 1 ∧ co' = C ∧ (o = 0 ∧ (lv + 1 = B ∧ ly' = ly + 1 ∧ lv' = A ∨ lv + 1 ≠ B ∧ ly' = ly ∧ lv' = lv + 1) ∨ o ≠ 0 ∧ (ly + 1 = L ∧ ly' = 0 ∧ lv' = lv + 1 ∨ ly + 1 ≠ L ∧ ly' = ly + 1 ∧ lv' = lv)) ∧ r = if L ≤ ly' ∨ B ≤ lv' then 0 else 1)
theorem TnR.r {o A B C E L ly lv co ly' lv' co' r : Int} (h : TnR o A B C E L ly lv co ly' lv' co' r) (h1 : ly < L) (h2 : lv < B) : (r = 0 ∨ r = 1) ∧ (r = 0 → L ≤ ly' ∨ B ≤ lv') ∧ (r = 1 → ly' < L ∧ lv' < B) := by
  rcases h with ⟨-, a, b, -, d⟩ | ⟨-, -, -, d⟩
  · subst a; subst b; subst d
    exact ⟨.inr rfl, fun z => absurd z (by decide), fun _ => ⟨h1, h2⟩⟩
  · by_cases z : L ≤ ly' ∨ B ≤ lv'
    · rw [if_pos z] at d; subst d
      exact ⟨.inl rfl, fun _ => z, fun y => absurd y (by decide)⟩
    · rw [if_neg z] at d; subst d
      exact ⟨.inr rfl, fun y => absurd y (by decide), fun _ => by omega⟩
theorem CnS.tn {D D' : Dt} {G : Gt} {od : Od} {g : Cg} {q : Sq} {w : Int} {ch : Nat} {r : Int} {S : List Nat} (h : CnS D G od g w ch) (h1 : d_I D 2603 (s_ G 27) < cgL g w) (h2 : d_I D 2704 (s_ G 27) < cgB g w) (hN : ∀ k l, VdT g q w k l → ¬ (sqV q k = d_I D 2704 (s_ G 27) ∧ sqC q k = d_I D 2705 (s_ G 27) ∧ d_I D 2706 (s_ G 27) ≤ sqNm q k))
    (t : TnR (cgO g w) (cgA g w) (cgB g w) (cgC g w) (cgE g w) (cgL g w) (d_I D 2603 (s_ G 27)) (d_I D 2704 (s_ G 27)) (d_I D 2705 (s_ G 27)) (d_I D' 2603 (s_ G 27)) (d_I D' 2704 (s_ G 27)) (d_I D' 2705 (s_ G 27)) r) (z6 : d_I D' 2706 (s_ G 27) = 0) (F : Fr S D D') (hd : ([2200, 2201, 2202, 2203, 2204, 2205, 2600, 2601].all fun j => !S.contains j) = true) :
    CnS D' G od g w ch ∧ (∀ k l, VdT g q w k l → 0 ≤ sqNm q k → (BnC D' G q (cgO g w) k l ↔ BnC D G q (cgO g w) k l)) ∧ (r = 1 → mnC D' G g w < mnC D G g w) := by
  obtain ⟨⟨a1, a2, a3⟩, b, c, d, e, f, p1, p2, p3, p4⟩ := h
  have rr := t.r h1 h2
  refine ⟨⟨⟨by rw [F.r (i := 2600) (dsO_o hd (by decide))]; exact a1, by rw [F.r (i := 2601) (dsO_o hd (by decide))]; exact a2, a3.sm (ChSm.fr' F (all_sub hd (by decide)))⟩, b, c, d, e, f, ?_, ?_, ?_, ?_⟩, fun k l v n0 => ?_, fun z => ?_⟩
  · clear hN
    unfold TnR at t; rcases t with t | t <;> omega
  · clear hN
    unfold TnR at t; rcases t with t | t <;> omega
  · clear hN
    unfold TnR at t; rcases t with t | t <;> omega
  · omega
  · rw [BnC.e b, BnC.e b, z6]
    have hn := hN k l v
    clear hN a1 a2 a3 F hd rr z6 p4 f e b
    obtain ⟨⟨w0, w1, k0, k1, l0, l1⟩, u1, u2, u3, u4⟩ := v
    unfold TnR at t
    generalize d_I D' 2603 (s_ G 27) = ly', d_I D' 2704 (s_ G 27) = lv', d_I D' 2705 (s_ G 27) = co', d_I D 2603 (s_ G 27) = ly, d_I D 2704 (s_ G 27) = lv, d_I D 2705 (s_ G 27) = co, d_I D 2706 (s_ G 27) = pr, sqV q k = v, sqC q k = cm, sqNm q k = nm, cgA g w = A, cgB g w = B, cgC g w = C, cgE g w = E, cgL g w = L at *
    by_cases o0 : cgO g w = 0
    · rw [if_pos o0, if_pos o0]
      rcases t with ⟨t1, t2, t3, t4, -⟩ | ⟨t1, t2, ⟨-, ⟨t3, t4, t5⟩ | ⟨t3, t4, t5⟩⟩ | t3, -⟩
      · subst t2; subst t3; subst t4; omega
      · subst t2; subst t4; subst t5; omega
      · subst t2; subst t4; subst t5; omega
      · exact absurd o0 t3.1
    · rw [if_neg o0, if_neg o0]
      rcases t with ⟨t1, t2, t3, t4, -⟩ | ⟨t1, t2, t3 | ⟨-, ⟨t3, t4, t5⟩ | ⟨t3, t4, t5⟩⟩, -⟩
      · subst t2; subst t3; subst t4; omega
      · exact absurd t3.1 o0
      · subst t2; subst t4; subst t5; omega
      · subst t2; subst t4; subst t5; omega
  · unfold mnC
    have y := rr.2.2 z
    clear hN
    unfold TnR at t
    by_cases o0 : cgO g w = 0
    · rw [if_pos o0, if_pos o0]; rcases t with t | t <;> omega
    · rw [if_neg o0, if_neg o0]; rcases t with t | t <;> omega
set_option maxHeartbeats 8000000 in
theorem s_X27_turn {x1 : Int} {G : Gt} {D : Dt} {od : Od} {g : Cg} {q : Sq} {w : Int} {ch : Nat} (hT : Ty D) (hC : CnS D G od g w ch) (h0 : x1 = (if cgO g w = 0 then 1 else 0) ∧ d_I D 2603 (s_ G 27) < cgL g w ∧ d_I D 2704 (s_ G 27) < cgB g w) (hN : ∀ k l, VdT g q w k l → ¬ (sqV q k = d_I D 2704 (s_ G 27) ∧ sqC q k = d_I D 2705 (s_ G 27) ∧ d_I D 2706 (s_ G 27) ≤ sqNm q k)) : Wp (q_X27_turn x1 G D) (fun o => (fun r D' => Ty D' ∧ (TnR (cgO g w) (cgA g w) (cgB g w) (cgC g w) (cgE g w) (cgL g w) (d_I D 2603 (s_ G 27)) (d_I D 2704 (s_ G 27)) (d_I D 2705 (s_ G 27)) (d_I D' 2603 (s_ G 27)) (d_I D' 2704 (s_ G 27)) (d_I D' 2705 (s_ G 27)) r ∧ d_I D' 2706 (s_ G 27) = 0)) o.1 o.2) := by
  refine w_un (q_X27_turn.eq_1 ..) ?_
  have hw := hC.1.2.1
  have hs := hC.1.2.2
  unfold ChS at hs
  have p1 := hC.2.2.2.2.2
  have p2 := hC.2.1
  have p3 := hC.2.2.1
  have p4 := hC.2.2.2.1
  have p5 := hC.2.2.2.2.1
  refine w_let fun d1 e_d1 => ?_
  have T_d1 : Ty d1 := tyI_2706 e_d1 hT (by (first | omega | assumption | (subst_vars; first | omega | assumption) | done))
  have t1 := ty_2705 hT (s_ G 27)
  refine w_gd (by (first | omega | assumption | (subst_vars; first | omega | assumption) | done)) ?_
  refine w_let fun v3 e_v3 => ?_
  refine w_let fun d2 e_d2 => ?_
  have T_d2 : Ty d2 := tyI_2705 e_d2 T_d1 (by (first | omega | assumption | (subst_vars; first | omega | assumption) | done))
  refine w_on (by (rw [hw]; exact Option.some_ne_none _)) fun b4 e_b4 => ?_
  have E4 : b4 = ch := by rw [hw] at e_b4; exact (Option.some.inj e_b4).symm
  rw [← E4] at hs
  have t2 := ty_2203 hT b4
  refine w_ite (fun hc1 => ?_) (fun hc1 => ?_)
  · skip
    refine w_on (by (rw [hw]; exact Option.some_ne_none _)) fun b5 e_b5 => ?_
    have E5 : b5 = ch := by rw [hw] at e_b5; exact (Option.some.inj e_b5).symm
    have E54 : b5 = b4 := by omega
    have t3 := ty_2202 hT b5
    refine w_let fun v7 e_v7 => ?_
    refine w_let fun d6 e_d6 => ?_
    have T_d6 : Ty d6 := tyI_2705 e_d6 T_d2 (by (first | omega | assumption | (subst_vars; first | omega | assumption) | done))
    refine w_ite (fun hc2 => ?_) (fun hc2 => ?_)
    · skip
      have t4 := ty_2603 hT (s_ G 27)
      refine w_gd (by (first | omega | assumption | (subst_vars; first | omega | assumption) | done)) ?_
      refine w_let fun v9 e_v9 => ?_
      refine w_let fun d8 e_d8 => ?_
      have T_d8 : Ty d8 := tyI_2603 e_d8 T_d6 (by (first | omega | assumption | (subst_vars; first | omega | assumption) | done))
      have rq1 : d_I d8 2704 (s_ G 27) = d_I D 2704 (s_ G 27) := Eq.trans (rdI_I e_d8 rfl) (Eq.trans (rdI_I e_d6 rfl) (Eq.trans (rdI_I e_d2 rfl) (rdI_I e_d1 rfl)))
      have t5 := ty_2704 hT (s_ G 27)
      have rq2 : d_I d8 2603 (s_ G 27) = v9 := rdI_s e_d8
      have j1_hw : d_R d8 2601 (s_ G 27) = some ch := by
        rw [e_d8, e_d6, e_d2, e_d1]; exact hw
      have j1_h0 : (d_I d8 2704 (s_ G 27) < 33 ∨ x1 ≠ 0) ∧ (d_I d8 2603 (s_ G 27) < 255 ∨ x1 = 0) := by
        try simp only [rq1, rq2]
        exact ⟨.inl (by omega), .inr hc2⟩
      refine Wp.mo (Wp.fr (s_X27_turn_69 (ch := ch) T_d8 j1_hw j1_h0) fr_X27_turn_69) ?_
      intro o ho
      obtain ⟨⟨hT', ho⟩, hF⟩ := ho
      try dsimp only at hF
      refine ⟨hT', ?_⟩
      have f1 : d_I d8 2603 (s_ G 27) = d_I D 2603 (s_ G 27) + 1 := by rw [e_d8, rI_I, if_pos ⟨rfl, rfl⟩, e_v9]
      have f2 : d_I d8 2705 (s_ G 27) = cgC g w := by rw [e_d8, rI_I, if_neg (by omega), e_d6, rI_I, if_pos ⟨rfl, rfl⟩, e_v7, E54]; exact hs.2.2.1
      have f3 : d_I d8 2706 (s_ G 27) = 0 := by rw [e_d8, rI_I, if_neg (by omega), e_d6, rI_I, if_neg (by omega), e_d2, rI_I, if_neg (by omega), e_d1, rI_I, if_pos ⟨rfl, rfl⟩]
      have f4 : d_I d8 2204 ch = cgL g w := by rw [e_d8, rI_I, if_neg (by omega), e_d6, rI_I, if_neg (by omega), e_d2, rI_I, if_neg (by omega), e_d1, rI_I, if_neg (by omega), ← E4]; exact hs.2.2.2.2.1
      have f5 : d_I d8 2201 ch = cgB g w := by rw [e_d8, rI_I, if_neg (by omega), e_d6, rI_I, if_neg (by omega), e_d2, rI_I, if_neg (by omega), e_d1, rI_I, if_neg (by omega), ← E4]; exact hs.2.1
      obtain ⟨g1, g2, g3, g4⟩ := ho
      rw [f4, f5] at g4
      rw [f1, f4, show d_I d8 2704 (s_ G 27) = d_I D 2704 (s_ G 27) by rw [e_d8, rI_I, if_neg (by omega), e_d6, rI_I, if_neg (by omega), e_d2, rI_I, if_neg (by omega), e_d1, rI_I, if_neg (by omega)]] at g1
      rw [f2] at g2
      rw [f3] at g3
      refine ⟨.inr ⟨by omega, g2, .inr ⟨by omega, ?_⟩, g4⟩, g3⟩
      omega
    · skip
      have t6 := ty_2704 hT (s_ G 27)
      refine w_gd (by (first | omega | assumption | (subst_vars; first | omega | assumption) | done)) ?_
      refine w_let fun v11 e_v11 => ?_
      refine w_let fun d10 e_d10 => ?_
      have T_d10 : Ty d10 := tyI_2704 e_d10 T_d6 (by (first | omega | assumption | (subst_vars; first | omega | assumption) | done))
      have rq3 : d_I d10 2704 (s_ G 27) = v11 := rdI_s e_d10
      have rq4 : d_I d10 2603 (s_ G 27) = d_I D 2603 (s_ G 27) := Eq.trans (rdI_I e_d10 rfl) (Eq.trans (rdI_I e_d6 rfl) (Eq.trans (rdI_I e_d2 rfl) (rdI_I e_d1 rfl)))
      have t7 := ty_2603 hT (s_ G 27)
      have j2_hw : d_R d10 2601 (s_ G 27) = some ch := by
        rw [e_d10, e_d6, e_d2, e_d1]; exact hw
      have j2_h0 : (d_I d10 2704 (s_ G 27) < 33 ∨ x1 ≠ 0) ∧ (d_I d10 2603 (s_ G 27) < 255 ∨ x1 = 0) := by
        try simp only [rq3, rq4]
        exact ⟨.inr hc2, .inl (by omega)⟩
      refine Wp.mo (Wp.fr (s_X27_turn_69 (ch := ch) T_d10 j2_hw j2_h0) fr_X27_turn_69) ?_
      intro o ho
      obtain ⟨⟨hT', ho⟩, hF⟩ := ho
      try dsimp only at hF
      refine ⟨hT', ?_⟩
      have f1 : d_I d10 2603 (s_ G 27) = d_I D 2603 (s_ G 27) := by rw [e_d10, rI_I, if_neg (by omega), e_d6, rI_I, if_neg (by omega), e_d2, rI_I, if_neg (by omega), e_d1, rI_I, if_neg (by omega)]
      have f2 : d_I d10 2705 (s_ G 27) = cgC g w := by rw [e_d10, rI_I, if_neg (by omega), e_d6, rI_I, if_pos ⟨rfl, rfl⟩, e_v7, E54]; exact hs.2.2.1
      have f3 : d_I d10 2706 (s_ G 27) = 0 := by rw [e_d10, rI_I, if_neg (by omega), e_d6, rI_I, if_neg (by omega), e_d2, rI_I, if_neg (by omega), e_d1, rI_I, if_pos ⟨rfl, rfl⟩]
      have f4 : d_I d10 2204 ch = cgL g w := by rw [e_d10, rI_I, if_neg (by omega), e_d6, rI_I, if_neg (by omega), e_d2, rI_I, if_neg (by omega), e_d1, rI_I, if_neg (by omega), ← E4]; exact hs.2.2.2.2.1
      have f5 : d_I d10 2201 ch = cgB g w := by rw [e_d10, rI_I, if_neg (by omega), e_d6, rI_I, if_neg (by omega), e_d2, rI_I, if_neg (by omega), e_d1, rI_I, if_neg (by omega), ← E4]; exact hs.2.1
      have f6 : d_I d10 2200 ch = cgA g w := by rw [e_d10, rI_I, if_neg (by omega), e_d6, rI_I, if_neg (by omega), e_d2, rI_I, if_neg (by omega), e_d1, rI_I, if_neg (by omega), ← E4]; exact hs.1
      obtain ⟨g1, g2, g3, g4⟩ := ho
      rw [f4, f5] at g4
      rw [f1, f4, f5, f6, show d_I d10 2704 (s_ G 27) = v11 by rw [e_d10, rI_I, if_pos ⟨rfl, rfl⟩]] at g1
      rw [f2] at g2
      rw [f3] at g3
      refine ⟨.inr ⟨by omega, g2, .inl ⟨by omega, ?_⟩, g4⟩, g3⟩
      omega
  · skip
    refine w_some ?_
    try dsimp only
    refine ⟨T_d2, ?_⟩
    refine ⟨.inl ⟨by omega, ?_, ?_, ?_, rfl⟩, ?_⟩
    · rw [e_d2, rI_I, if_neg (by omega), e_d1, rI_I, if_neg (by omega)]
    · rw [e_d2, rI_I, if_neg (by omega), e_d1, rI_I, if_neg (by omega)]
    · rw [e_d2, rI_I, if_pos ⟨rfl, rfl⟩, e_v3]
    · rw [e_d2, rI_I, if_neg (by omega), e_d1, rI_I, if_pos ⟨rfl, rfl⟩]
