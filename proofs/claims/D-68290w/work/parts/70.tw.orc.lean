/-! specifications, printed by gen/mks.py -/
set_option maxRecDepth 100000
theorem ArT.set {D : Dt} {G : Gt} {a : Nat} {x y z w : Int} : d_I (q_X24_set a x y z w G D) 2400 a = x ∧ d_I (q_X24_set a x y z w G D) 2401 a = y ∧ d_I (q_X24_set a x y z w G D) 2402 a = z ∧ d_I (q_X24_set a x y z w G D) 2403 a = w := by
  unfold q_X24_set lett
  simp only [rI_I]; simp
theorem CoA.p {D D' : Dt} {G : Gt} {od : Od} {c : Ct} {K R w h : Int} {co : Nat} (hG : PoG G c) (hA : CoA D G od) (hz : z_Q G 2100 (s_ G 21) K = some co) (hs : ∀ bb, bb ≠ co → CoSm D D' bb) (hc : CoD D' (odP od K R w h) K co) : CoA D' G (odP od K R w h) := fun k k0 k1 => by
  have k1 : k < oNC od := k1
  by_cases z : k = K
  · rw [z]; exact ⟨co, hz, hc⟩
  · obtain ⟨c2, a, b⟩ := hA k k0 k1
    have ne : c2 ≠ co := fun y => z ((hG.2.2.1 k c2 a).2 K (by rw [y]; exact hz))
    have b := b.sm (hs c2 ne)
    refine ⟨c2, a, ?_⟩
    unfold CoD oDX oDY oNL oWD oHG at b ⊢
    unfold odP
    dsimp only
    simp only [z, false_and, if_false]
    exact b
set_option maxHeartbeats 8000000 in
theorem s_X21_find {x0 : Int} {G : Gt} {D : Dt} {c : Ct} (hT : Ty D) : Wp (q_X21_find x0 G D c) (Th (fun r s => (fun r D' c' => Ty D' ∧ (¬ x0 = 0 ∧ D' = D ∧ c' = c)) r s.1 s.2) (fun e s => (fun (e : Nat) D' c' => Ty D' ∧ (x0 = 0 ∧ e = 2 ∧ D' = D)) e s.1 s.2)) := by
  refine w_un (q_X21_find.eq_1 ..) ?_
  refine w_ite (fun hc1 => ?_) (fun hc1 => ?_)
  · skip
    refine w_thr ?_
    try dsimp only
    refine ⟨hT, ?_⟩
    exact ⟨by omega, rfl, rfl⟩
  · skip
    refine w_thl ?_
    try dsimp only
    refine ⟨hT, ?_⟩
    exact ⟨by omega, rfl, rfl⟩
set_option maxHeartbeats 8000000 in
theorem s_X21_tile_39 {x1 : Int} {x2 : Int} {x3 : Int} {x4 : Int} {ts0 : Int} {G : Gt} {D : Dt} {c : Ct} (hT : Ty D) (h0 : ts0 ≠ 0 ∧ 0 ≤ x1 ∧ x1 ≤ 32767 ∧ 0 ≤ x2 ∧ x2 ≤ 32767 ∧ 0 ≤ x3 ∧ x3 ≤ 32767 ∧ 0 ≤ x4 ∧ x4 ≤ 32767) : Wp (q_X21_tile_39 x1 x2 x3 x4 ts0 G D c) (Th (fun r s => (fun r D' c' => Ty D' ∧ (ArT D' G (odT x1 x2 x3 x4) ∧ c' = c)) r s.1 s.2) (fun e s => (fun (e : Nat) D' c' => Ty D' ∧ (e = 99 ∧ False)) e s.1 s.2)) := by
  refine w_un (q_X21_tile_39.eq_1 ..) ?_
  refine w_tht (Wp.fr (s_X21_need hT) fr_X21_need) (fun u p2_2 h_p2_2 => ?_) (fun e_x p2_2 h_p2_2 => ?_)
  · skip
    obtain ⟨⟨T_p2_2, h_p2_2⟩, F_p2_2⟩ := h_p2_2
    try dsimp only at T_p2_2 h_p2_2 F_p2_2
    unfold q_X24_set
    refine w_ll ?_
    refine w_let fun d1 e_d1 => ?_
    have T_d1 : Ty d1 := tyI_2400 e_d1 T_p2_2 (by (first | omega | assumption | (subst_vars; first | omega | assumption) | done))
    refine w_ll ?_
    refine w_let fun d2 e_d2 => ?_
    have T_d2 : Ty d2 := tyI_2401 e_d2 T_d1 (by (first | omega | assumption | (subst_vars; first | omega | assumption) | done))
    refine w_ll ?_
    refine w_let fun d3 e_d3 => ?_
    have T_d3 : Ty d3 := tyI_2402 e_d3 T_d2 (by (first | omega | assumption | (subst_vars; first | omega | assumption) | done))
    refine w_ll ?_
    refine w_let fun d4 e_d4 => ?_
    have T_d4 : Ty d4 := tyI_2403 e_d4 T_d3 (by (first | omega | assumption | (subst_vars; first | omega | assumption) | done))
    refine w_let fun d6 e_d6 => ?_
    have T_d6 : Ty d6 := ty_e e_d6 T_d4
    refine w_let fun d7 e_d7 => ?_
    have T_d7 : Ty d7 := tyI_2111 e_d7 T_d6 (by (first | omega | assumption | (subst_vars; first | omega | assumption) | done))
    refine w_thl ?_
    try dsimp only
    refine ⟨T_d7, ?_⟩
    refine ⟨?_, h_p2_2.2.2⟩
    have r := (ar4 e_d1 e_d2 e_d3 e_d4).1
    have f : ArE d4 d7 (z_P G 2300 (s_ G 23)) := by rw [e_d7, e_d6]; exact ArE.fr' (Fr.uI rfl) rfl
    exact ⟨f.1.trans r.1, f.2.1.trans r.2.1, f.2.2.1.trans r.2.2.1, f.2.2.2.trans r.2.2.2⟩
  · skip
    obtain ⟨⟨T_p2_2, h_p2_2⟩, F_p2_2⟩ := h_p2_2
    try dsimp only at T_p2_2 h_p2_2 F_p2_2
    refine th_inr ?_
    try dsimp only
    refine ⟨T_p2_2, ?_⟩
    (first | omega | assumption | (subst_vars; first | omega | assumption) | done)
set_option maxHeartbeats 8000000 in
theorem s_X21_tile {x1 : Int} {x2 : Int} {x3 : Int} {x4 : Int} {G : Gt} {D : Dt} {c : Ct} (hT : Ty D) (h0 : 0 ≤ x1 ∧ x1 < x3 ∧ x3 ≤ 32767 ∧ 0 ≤ x2 ∧ x2 < x4 ∧ x4 ≤ 32767) : Wp (q_X21_tile x1 x2 x3 x4 G D c) (Th (fun r s => (fun r D' c' => Ty D' ∧ (ArT D' G (odT x1 x2 x3 x4) ∧ c' = c)) r s.1 s.2) (fun e s => (fun (e : Nat) D' c' => Ty D' ∧ (e = 99 ∧ False)) e s.1 s.2)) := by
  refine w_un (q_X21_tile.eq_1 ..) ?_
  refine w_ite (fun hc1 => ?_) (fun hc1 => ?_)
  · skip
    exfalso; omega
  · skip
    refine w_ite (fun hc2 => ?_) (fun hc2 => ?_)
    · skip
      exfalso; omega
    · skip
      refine w_ite (fun hc3 => ?_) (fun hc3 => ?_)
      · skip
        exfalso; omega
      · skip
        refine w_ite (fun hc4 => ?_) (fun hc4 => ?_)
        · skip
          exfalso; omega
        · skip
          refine w_ite (fun hc5 => ?_) (fun hc5 => ?_)
          · skip
            exfalso; omega
          · skip
            refine w_ite (fun hc6 => ?_) (fun hc6 => ?_)
            · skip
              exfalso; omega
            · skip
              have j1_h0 : (1 : Int) ≠ 0 ∧ 0 ≤ x1 ∧ x1 ≤ 32767 ∧ 0 ≤ x2 ∧ x2 ≤ 32767 ∧ 0 ≤ x3 ∧ x3 ≤ 32767 ∧ 0 ≤ x4 ∧ x4 ≤ 32767 := by
                (first | omega | assumption | (subst_vars; first | omega | assumption) | done)
              refine w_thm (Wp.fr (s_X21_tile_39 hT j1_h0) fr_X21_tile_39) (fun r s ho hF => ?_) (fun e s ho hF => ?_)
              · skip
                obtain ⟨hT', ho⟩ := ho
                try dsimp only at hT' ho ⊢
                try dsimp only at hF
                refine ⟨hT', ?_⟩
                exact ho
              · skip
                obtain ⟨hT', ho⟩ := ho
                try dsimp only at hT' ho ⊢
                try dsimp only at hF
                refine ⟨hT', ?_⟩
                exact ho
set_option maxHeartbeats 8000000 in
theorem s_X21_layers {x1 : Int} {x2 : Int} {G : Gt} {D : Dt} {c : Ct} (hT : Ty D) (h0 : 1 ≤ x1 ∧ x1 ≤ 255 ∧ 0 ≤ x2 ∧ x2 ≤ 4) : Wp (q_X21_layers x1 x2 G D c) (Th (fun r s => (fun r D' c' => Ty D' ∧ (d_I D' 2102 (s_ G 21) = x1 ∧ d_I D' 2103 (s_ G 21) = x2 ∧ c' = c)) r s.1 s.2) (fun e s => (fun (e : Nat) D' c' => Ty D' ∧ (e = 99 ∧ False)) e s.1 s.2)) := by
  refine w_un (q_X21_layers.eq_1 ..) ?_
  refine w_let fun v1 e_v1 => ?_
  simp only [q_X21_is] at e_v1
  rw [if_neg (by omega), if_neg (by omega)] at e_v1
  refine w_ite (fun hc1 => ?_) (fun hc1 => ?_)
  · skip
    exfalso; omega
  · skip
    refine w_let fun v2 e_v2 => ?_
    simp only [q_X21_is] at e_v2
    rw [if_neg (by omega), if_neg (by omega)] at e_v2
    refine w_ite (fun hc2 => ?_) (fun hc2 => ?_)
    · skip
      exfalso; omega
    · skip
      refine w_un (q_X21_layers_25.eq_1 ..) ?_
      refine w_tht (Wp.fr (s_X21_need hT) fr_X21_need) (fun u p2_2 h_p2_2 => ?_) (fun e_x p2_2 h_p2_2 => ?_)
      · skip
        obtain ⟨⟨T_p2_2, h_p2_2⟩, F_p2_2⟩ := h_p2_2
        try dsimp only at T_p2_2 h_p2_2 F_p2_2
        refine w_let fun d3 e_d3 => ?_
        have T_d3 : Ty d3 := tyI_2102 e_d3 T_p2_2 (by (first | omega | assumption | (subst_vars; first | omega | assumption) | done))
        refine w_let fun d4 e_d4 => ?_
        have T_d4 : Ty d4 := tyI_2103 e_d4 T_d3 (by (first | omega | assumption | (subst_vars; first | omega | assumption) | done))
        refine w_let fun d5 e_d5 => ?_
        have T_d5 : Ty d5 := tyI_2111 e_d5 T_d4 (by (first | omega | assumption | (subst_vars; first | omega | assumption) | done))
        refine w_thl ?_
        try dsimp only
        refine ⟨T_d5, ?_⟩
        refine ⟨?_, ?_, h_p2_2.2.2⟩
        · rw [e_d5, rI_I, if_neg (by omega), e_d4, rI_I, if_neg (by omega), e_d3, rI_I, if_pos ⟨rfl, rfl⟩]
        · rw [e_d5, rI_I, if_neg (by omega), e_d4, rI_I, if_pos ⟨rfl, rfl⟩]
      · skip
        obtain ⟨⟨T_p2_2, h_p2_2⟩, F_p2_2⟩ := h_p2_2
        try dsimp only at T_p2_2 h_p2_2 F_p2_2
        refine th_inr ?_
        try dsimp only
        refine ⟨T_p2_2, ?_⟩
        (first | omega | assumption | (subst_vars; first | omega | assumption) | done)
set_option maxHeartbeats 8000000 in
theorem s_X21_precincts_78 {x1 : Int} {x2 : Int} {x3 : Int} {x4 : Int} {ts0 : Int} {G : Gt} {D : Dt} {c : Ct} {od : Od} {co : Nat} (hT : Ty D) (hG : PoG G c) (hO : ClO D G od) (h0 : ts0 ≠ 0 ∧ 0 ≤ x1 ∧ x1 < oNC od ∧ 0 ≤ x2 ∧ x2 ≤ oNL od x1 ∧ 0 ≤ x3 ∧ x3 ≤ 15 ∧ 0 ≤ x4 ∧ x4 ≤ 15 ∧ (x2 = 0 ∨ 0 < x3 ∧ 0 < x4)) (hz : z_Q G 2100 (s_ G 21) x1 = some co) : Wp (q_X21_precincts_78 x1 x2 x3 x4 ts0 G D c) (Th (fun r s => (fun r D' c' => Ty D' ∧ (ClO D' G (odP od x1 x2 x3 x4) ∧ c' = c)) r s.1 s.2) (fun e s => (fun (e : Nat) D' c' => Ty D' ∧ (e = 99 ∧ False)) e s.1 s.2)) := by
  refine w_un (q_X21_precincts_78.eq_1 ..) ?_
  have nc := hO.1.2.2.1
  have nl := (hO.1.2.2.2.1 x1 h0.2.1 h0.2.2.1).2.2.2.2
  refine w_tht (Wp.fr (s_X21_need hT) fr_X21_need) (fun u p2_2 h_p2_2 => ?_) (fun e_x p2_2 h_p2_2 => ?_)
  · skip
    obtain ⟨⟨T_p2_2, h_p2_2⟩, F_p2_2⟩ := h_p2_2
    try dsimp only at T_p2_2 h_p2_2 F_p2_2
    refine w_lQ (by (first | omega | assumption | (subst_vars; first | omega | assumption) | done)) fun w4 e_w4 => ?_
    have q4 : w4 = some co := by rw [e_w4]; exact hz
    refine w_on (by (first | (rw [q4]; exact Option.some_ne_none _) | (rw [q9]; exact Option.some_ne_none _))) fun b5 e_b5 => ?_
    have E5 : b5 = co := by rw [q4] at e_b5; exact (Option.some.inj e_b5).symm
    refine w_tA (by (first | omega | assumption | (subst_vars; first | omega | assumption) | done)) fun d7 e_d7 => ?_
    have T_d7 : Ty d7 := tyA_7205 e_d7 T_p2_2 (by (first | omega | assumption | (subst_vars; first | omega | assumption) | done))
    have w_d7 := wA e_d7
    have rq1 : d_A p2_2.1 7205 b5 = d_A D 7205 b5 := congrFun (F_p2_2.a (i := 7205) rfl) b5
    try simp only [rq1] at w_d7
    refine w_lQ (by (first | omega | assumption | (subst_vars; first | omega | assumption) | done)) fun w9 e_w9 => ?_
    have q9 : w9 = some co := by rw [e_w9]; exact hz
    refine w_on (by (first | (rw [q4]; exact Option.some_ne_none _) | (rw [q9]; exact Option.some_ne_none _))) fun b10 e_b10 => ?_
    have E10 : b10 = co := by rw [q9] at e_b10; exact (Option.some.inj e_b10).symm
    refine w_tA (by (first | omega | assumption | (subst_vars; first | omega | assumption) | done)) fun d12 e_d12 => ?_
    have T_d12 : Ty d12 := tyA_7206 e_d12 T_d7 (by (first | omega | assumption | (subst_vars; first | omega | assumption) | done))
    have w_d12 := wA e_d12
    have rq2 : d_A d7 7206 b10 = d_A D 7206 b10 := Eq.trans (rdA_A e_d7 rfl) (congrFun (F_p2_2.a (i := 7206) rfl) b10)
    try simp only [rq2] at w_d12
    refine w_let fun d13 e_d13 => ?_
    have T_d13 : Ty d13 := tyI_2111 e_d13 T_d12 (by (first | omega | assumption | (subst_vars; first | omega | assumption) | done))
    refine w_thl ?_
    try dsimp only
    refine ⟨T_d13, ?_⟩
    obtain ⟨pza, pzb⟩ := p2_2
    obtain ⟨-, hD, hc⟩ := (h_p2_2 : _ ∧ pza = D ∧ pzb = c)
    subst hD; subst hc
    dsimp only at e_d7 ⊢
    rw [E5] at e_d7
    rw [E10] at e_d12
    obtain ⟨c2, y1, y2⟩ := hO.2.2.1 x1 h0.2.1 h0.2.2.1
    have ec : c2 = co := by rw [hz] at y1; exact (Option.some.inj y1).symm
    subst ec
    refine ⟨⟨odP_ok hO.1 (by omega) (by omega), ?_, CoA.p hG hO.2.2.1 hz (fun bb h => ?_) ⟨?_, ?_, ?_, fun r r0 r1 => ?_⟩, ?_⟩, rfl⟩
    · rw [e_d13, rI_I, if_neg (by omega), e_d12, e_d7]; exact hO.2.1
    · rw [e_d13, e_d12, e_d7]
      exact ((CoSm.uA h).tr (CoSm.uA h)).tr (CoSm.fr' (Fr.uI rfl) rfl)
    · rw [e_d13, rI_I, if_neg (by omega), e_d12, e_d7]; exact y2.1
    · rw [e_d13, rI_I, if_neg (by omega), e_d12, e_d7]; exact y2.2.1
    · rw [e_d13, rI_I, if_neg (by omega), e_d12, e_d7]; exact y2.2.2.1
    · have y := y2.2.2.2 r r0 r1
      have fA : ∀ i j, d_A d13 i c2 j = if i = 7206 ∧ c2 = c2 ∧ j = x2 then x4 else if i = 7205 ∧ c2 = c2 ∧ j = x2 then x3 else d_A pza i c2 j := fun i j => by rw [e_d13, e_d12, e_d7]; rfl
      have e1 : oWD (odP od x1 x2 x3 x4) x1 r = if r = x2 then x3 else oWD od x1 r := by
       show (if x1 = x1 ∧ r = x2 then x3 else oWD od x1 r) = _
       simp
      have e2 : oHG (odP od x1 x2 x3 x4) x1 r = if r = x2 then x4 else oHG od x1 r := by
       show (if x1 = x1 ∧ r = x2 then x4 else oHG od x1 r) = _
       simp
      rw [e1, e2]
      refine ⟨?_, ?_⟩
      · rw [fA, if_neg (by omega), y.1]; simp
      · rw [fA, if_neg (show ¬ (7206 = 7205 ∧ c2 = c2 ∧ r = x2) by omega), y.2]; simp
    · rw [e_d13, e_d12, e_d7]; exact hO.2.2.2
  · skip
    obtain ⟨⟨T_p2_2, h_p2_2⟩, F_p2_2⟩ := h_p2_2
    try dsimp only at T_p2_2 h_p2_2 F_p2_2
    refine th_inr ?_
    try dsimp only
    refine ⟨T_p2_2, ?_⟩
    (first | omega | assumption | (subst_vars; first | omega | assumption) | done)
set_option maxHeartbeats 8000000 in
theorem s_X21_precincts {x1 : Int} {x2 : Int} {x3 : Int} {x4 : Int} {G : Gt} {D : Dt} {c : Ct} {od : Od} (hT : Ty D) (hG : PoG G c) (hO : ClO D G od) (h0 : 0 ≤ x1 ∧ x1 < oNC od ∧ 0 ≤ x2 ∧ x2 ≤ oNL od x1 ∧ 0 ≤ x3 ∧ x3 ≤ 15 ∧ 0 ≤ x4 ∧ x4 ≤ 15 ∧ (x2 = 0 ∨ 0 < x3 ∧ 0 < x4)) : Wp (q_X21_precincts x1 x2 x3 x4 G D c) (Th (fun r s => (fun r D' c' => Ty D' ∧ (ClO D' G (odP od x1 x2 x3 x4) ∧ c' = c)) r s.1 s.2) (fun e s => (fun (e : Nat) D' c' => Ty D' ∧ (e = 99 ∧ False)) e s.1 s.2)) := by
  refine w_un (q_X21_precincts.eq_1 ..) ?_
  obtain ⟨co, y1, y2⟩ := hO.2.2.1 x1 h0.1 h0.2.1
  have n21 := hO.2.1
  have nc := hO.1.2.2.1
  have nl := (hO.1.2.2.2.1 x1 h0.1 h0.2.1).2.2.2.2
  have t1 := ty_2101 hT (s_ G 21)
  refine w_gd (by (first | omega | assumption | (subst_vars; first | omega | assumption) | done)) ?_
  refine w_let fun v1 e_v1 => ?_
  simp only [q_X21_is] at e_v1
  rw [if_neg (by omega), if_neg (by omega)] at e_v1
  refine w_ite (fun hc1 => ?_) (fun hc1 => ?_)
  · skip
    exfalso; omega
  · skip
    refine w_lQ (by (first | omega | assumption | (subst_vars; first | omega | assumption) | done)) fun w3 e_w3 => ?_
    have q3 : w3 = some co := by rw [e_w3]; exact y1
    refine w_on (by (first | (rw [q3]; exact Option.some_ne_none _))) fun b4 e_b4 => ?_
    have E4 : b4 = co := by rw [q3] at e_b4; exact (Option.some.inj e_b4).symm
    have t2 := ty_7202 hT b4
    refine w_let fun v5 e_v5 => ?_
    simp only [q_X21_is] at e_v5
    rw [E4, y2.2.2.1, if_neg (by omega), if_neg (by omega)] at e_v5
    refine w_ite (fun hc2 => ?_) (fun hc2 => ?_)
    · skip
      exfalso; omega
    · skip
      refine w_un (q_X21_precincts_36.eq_1 ..) ?_
      refine w_tht (Wp.fr (s_X21_find hT) fr_X21_find) (fun u p2_2 h_p2_2 => ?_) (fun e_x p2_2 h_p2_2 => ?_)
      · skip
        obtain ⟨⟨T_p2_2, h_p2_2⟩, F_p2_2⟩ := h_p2_2
        try dsimp only at T_p2_2 h_p2_2 F_p2_2
        generalize e_ts0 : (if x2 = (0 : Int) then (0 : Int) else (1 : Int)) = ts0
        refine w_un (q_X21_precincts_48.eq_1 ..) ?_
        refine w_let fun v1_2 e_v1_2 => ?_
        simp only [q_X21_is] at e_v1_2
        refine w_ite (fun hc3 => ?_) (fun hc3 => ?_)
        · skip
          exfalso; split at e_ts0 <;> omega
        · skip
          refine w_let fun v2 e_v2 => ?_
          simp only [q_X21_is] at e_v2
          refine w_ite (fun hc4 => ?_) (fun hc4 => ?_)
          · skip
            exfalso; split at e_ts0 <;> omega
          · skip
            have j1_hG : PoG G p2_2.2 := by
              rw [h_p2_2.2.2]; exact hG
            have j1_hO : ClO p2_2.1 G od := by
              (first | assumption | exact (ClO.fr (by assumption) F_p2_2 rfl))
            have j1_h0 : (1 : Int) ≠ 0 ∧ 0 ≤ x1 ∧ x1 < oNC od ∧ 0 ≤ x2 ∧ x2 ≤ oNL od x1 ∧ 0 ≤ x3 ∧ x3 ≤ 15 ∧ 0 ≤ x4 ∧ x4 ≤ 15 ∧ (x2 = 0 ∨ 0 < x3 ∧ 0 < x4) := by
              (first | omega | assumption | (subst_vars; first | omega | assumption) | done)
            have j1_hz : z_Q G 2100 (s_ G 21) x1 = some co := by
              (first | omega | assumption | (subst_vars; first | omega | assumption) | done)
            refine w_thm (Wp.fr (s_X21_precincts_78 T_p2_2 j1_hG j1_hO j1_h0 j1_hz) fr_X21_precincts_78) (fun r s ho hF => ?_) (fun e s ho hF => ?_)
            · skip
              obtain ⟨hT', ho⟩ := ho
              try dsimp only at hT' ho ⊢
              try dsimp only at hF
              refine ⟨hT', ?_⟩
              rw [h_p2_2.2.2] at ho; exact ho
            · skip
              obtain ⟨hT', ho⟩ := ho
              try dsimp only at hT' ho ⊢
              try dsimp only at hF
              refine ⟨hT', ?_⟩
              exact ho
      · skip
        obtain ⟨⟨T_p2_2, h_p2_2⟩, F_p2_2⟩ := h_p2_2
        try dsimp only at T_p2_2 h_p2_2 F_p2_2
        refine th_inr ?_
        try dsimp only
        refine ⟨T_p2_2, ?_⟩
        (first | omega | assumption | (subst_vars; first | omega | assumption) | done)
