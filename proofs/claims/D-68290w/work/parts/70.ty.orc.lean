/-! specifications, printed by gen/mks.py -/
set_option maxRecDepth 100000
/-- the class is told the changes so -/
def ClG (D : Dt) (G : Gt) (g : Cg) : Prop := CgOk g ∧ (1 ≤ d_I D 2102 (s_ G 21) ∧ d_I D 2102 (s_ G 21) ≤ 255) ∧ (d_I D 2106 (s_ G 21) = 0 → cgW g = 1 ∧ cgO g 0 = d_I D 2103 (s_ G 21) ∧ cgL g 0 = d_I D 2102 (s_ G 21) ∧ cgA g 0 = 0 ∧ cgB g 0 = 33 ∧ cgC g 0 = 0 ∧ cgE g 0 = 16) ∧
  (d_I D 2106 (s_ G 21) ≠ 0 → cgW g = d_I D 2106 (s_ G 21) ∧ ∀ w, 0 ≤ w → w < cgW g → ∃ ch l, z_Q G 2105 (s_ G 21) w = some ch ∧ ChS D ch (cgA g w) (cgB g w) (cgC g w) (cgE g w) l (cgO g w) ∧ cgL g w = min l (d_I D 2102 (s_ G 21)))
/-- the changes' ranges -/
def CgR (g : Cg) (nc : Int) : Prop := ∀ w, 0 ≤ w → w < cgW g → (0 ≤ cgA g w ∧ cgA g w < cgB g w ∧ cgB g w ≤ 33) ∧ (0 ≤ cgC g w ∧ cgC g w ≤ cgE g w ∧ cgE g w ≤ 16 ∧ cgC g w ≤ 15) ∧ (cgC g w < cgE g w ∨ nc ≤ cgC g w)
/-- an order begun -/
def CSt (D : Dt) (G : Gt) (c : Ct) (od : Od) (g : Cg) : Prop := ClO D G od ∧ ClG D G g ∧ CgR g (oNC od) ∧ PoG G c ∧ PoD D G ∧ LaC D G od ∧ opN od ≤ 4096 ∧ d_I D 2111 (s_ G 21) = 1 ∧ (d_I D 2106 (s_ G 21) = 0 → ChS D (z_P G 2104 (s_ G 21)) 0 33 0 16 (d_I D 2102 (s_ G 21)) (d_I D 2103 (s_ G 21)))
theorem ClG.sm {D D' : Dt} {G G' : Gt} {g : Cg} {b : Nat} (h : ClG D G g) (X : GoX b G G') (e1 : d_I D' 2102 (s_ G 21) = d_I D 2102 (s_ G 21)) (e2 : d_I D' 2103 (s_ G 21) = d_I D 2103 (s_ G 21)) (e3 : d_I D' 2106 (s_ G 21) = d_I D 2106 (s_ G 21)) (hs : ∀ w ch, z_Q G 2105 (s_ G 21) w = some ch → ChSm D D' ch) : ClG D' G' g := by
  unfold ClG at h ⊢
  rw [X.1, e1, e2, e3]
  refine ⟨h.1, h.2.1, h.2.2.1, fun z => ⟨(h.2.2.2 z).1, fun w w0 w1 => ?_⟩⟩
  obtain ⟨ch, l, a1, a2, a3⟩ := (h.2.2.2 z).2 w w0 w1
  exact ⟨ch, l, X.2.2.2.2.2 _ _ _ _ a1, a2.sm (hs w ch a1), a3⟩
theorem LaC.fr {D D' : Dt} {G : Gt} {od : Od} {S : List Nat} (h : LaC D G od) (F : Fr S D D') (hd : ([2303, 2304, 2400, 2401, 2402, 2403, 7302, 7403, 7404, 7405, 7406, 7603].all fun j => !S.contains j) = true) : LaC D' G od :=
  ⟨by rw [F.i (i := 2304) (dsO_o hd (by decide))]; exact h.1, by rw [F.i (i := 2303) (dsO_o hd (by decide))]; exact h.2.1, h.2.2.1.fr F (all_sub hd (by decide)), h.2.2.2.fr F (all_sub hd (by decide))⟩
set_option maxHeartbeats 8000000 in
theorem s_X21_begin_25 {N : Nat} {ts0 : Int} {G : Gt} {D : Dt} {c : Ct} (hN : 1099511627776 ≤ N) {od : Od} {g : Cg} (hT : Ty D) (hO : ClO D G od) (hG : PoG G c) (hP : PoD D G) (hg : ClG D G g) (hr : CgR g (oNC od)) (h0 : ts0 ≠ 0 ∧ opN od ≤ 4096) : Wp (q_X21_begin_25 N ts0 G D c) (Th (fun r s => (fun r D' G' c' => Ty D' ∧ (r = opN od * d_I D 2102 (s_ G 21) ∧ CSt D' G' c' od g ∧ d_I D' 2112 (s_ G 21) = -1 ∧ d_R D' 2113 (s_ G 21) = none ∧ (∀ i, 0 ≤ i → i < 4096 → d_A D' 2305 (s_ G 23) i = 0) ∧ GoX c.1 G G' ∧ c.1 ≤ c'.1 ∧ d_I D' 2102 (s_ G 21) = d_I D 2102 (s_ G 21))) r s.1 s.2.1 s.2.2) (fun e s => (fun (e : Nat) D' G' c' => Ty D' ∧ (e = 99 ∧ False)) e s.1 s.2.1 s.2.2)) := by
  refine w_un (q_X21_begin_25.eq_1 ..) ?_
  have n21 := hO.2.1
  have t2 := ty_2102 hT (s_ G 21)
  have t3 := ty_2103 hT (s_ G 21)
  have ob := ocF_r hO.1 (show 0 ≤ oNC od by have := hO.1.2.2.1; omega) (Int.le_refl _)
  have mb : 0 ≤ opN od * d_I D 2102 (s_ G 21) ∧ opN od * d_I D 2102 (s_ G 21) ≤ 4096 * 255 := ⟨Int.mul_nonneg (by have := ob.1; unfold opN; exact this) (by omega), Int.mul_le_mul h0.2 t2.2 (by omega) (by decide)⟩
  refine w_thu (Wp.fr (s_X21_must hT) fr_X21_must) (fun u p2_2 h_p2_2 => ?_) (fun e_x p2_2 h_p2_2 => ?_)
  · skip
    obtain ⟨⟨T_p2_2, h_p2_2⟩, F_p2_2⟩ := h_p2_2
    try dsimp only at T_p2_2 h_p2_2 F_p2_2
    refine w_let fun d3 e_d3 => ?_
    have T_d3 : Ty d3 := tyI_2111 e_d3 T_p2_2 (by (first | omega | assumption | (subst_vars; first | omega | assumption) | done))
    have t1 := ty_2101 hT (s_ G 21)
    have c2_hod : OdOk od := by
      exact hO.1
    have c2_hG : PoG G p2_2.2 := by
      rw [h_p2_2.2.2]; exact hG
    have c2_hD : PoD d3 G := by
      (first | assumption | exact (PoD.fr (by assumption) (Fr.uI e_d3) rfl) | exact (PoD.fr (PoD.fr (by assumption) F_p2_2 rfl) (Fr.uI e_d3) rfl))
    have c2_hC : CoA d3 G od := by
      exact (hO.2.2.1.fr F_p2_2 rfl).fr (Fr.uI e_d3) rfl
    have c2_hA : ArT d3 G od := by
      exact (hO.2.2.2.fr F_p2_2 rfl).fr (Fr.uI e_d3) rfl
    have c2_h0 : (s_ G 21) = s_ G 21 ∧ (d_I D 2101 (s_ G 21)) = oNC od := by
      (first | omega | assumption | (subst_vars; first | omega | assumption) | done)
    refine w_b2 (Wp.fr (s_X23_lay (od := od) hN T_d3 c2_hod c2_hG c2_hD c2_hC c2_hA c2_h0) fr_X23_lay) fun v7 p6 h_v7 => ?_
    obtain ⟨⟨T_p6, h_v7⟩, F_p6⟩ := h_v7
    try dsimp only at T_p6 h_v7 F_p6
    rw [h_p2_2.2.2] at h_v7
    refine w_ite (fun hc1 => ?_) (fun hc1 => ?_)
    · skip
      exfalso; have := h_v7.1.1 (by assumption); omega
    · skip
      obtain ⟨⟨-, fz⟩, m4, ⟨m6, m6c⟩, m5, mC, mA⟩ := h_v7
      obtain ⟨-, mL, mZ⟩ := fz (by assumption)
      have sG := m6.1
      have eN : d_I p6.1 2304 (s_ p6.2.1 23) = opN od := mL.1
      have e21 : d_I D 2102 (s_ p6.2.1 21) = d_I D 2102 (s_ G 21) := by rw [sG]
      rw [← eN, ← e21] at mb
      have D3 : p2_2.1 = D := h_p2_2.2.1
      rw [D3] at e_d3
      refine w_let fun d8 e_d8 => ?_
      have T_d8 : Ty d8 := tyI_2111 e_d8 T_p6 (by (first | omega | assumption | (subst_vars; first | omega | assumption) | done))
      refine w_let fun d10 e_d10 => ?_
      have T_d10 : Ty d10 := tyR e_d10 T_d8
      refine w_let fun d11 e_d11 => ?_
      have T_d11 : Ty d11 := tyI_2112 e_d11 T_d10 (by (first | omega | assumption | (subst_vars; first | omega | assumption) | done))
      refine w_let fun d12 e_d12 => ?_
      have T_d12 : Ty d12 := tyR e_d12 T_d11
      have t2 := ty_2102 hT (s_ p6.2.1 21)
      have t3 := ty_2103 hT (s_ p6.2.1 21)
      unfold q_X22_set
      refine w_ll ?_
      refine w_let fun d1 e_d1 => ?_
      have T_d1 : Ty d1 := tyI_2200 e_d1 T_d12 (by (first | omega | assumption | (subst_vars; first | omega | assumption) | done))
      refine w_ll ?_
      refine w_let fun d2 e_d2 => ?_
      have T_d2 : Ty d2 := tyI_2201 e_d2 T_d1 (by (first | omega | assumption | (subst_vars; first | omega | assumption) | done))
      refine w_ll ?_
      refine w_let fun d3_2 e_d3_2 => ?_
      have T_d3_2 : Ty d3_2 := tyI_2202 e_d3_2 T_d2 (by (first | omega | assumption | (subst_vars; first | omega | assumption) | done))
      refine w_ll ?_
      refine w_let fun d4 e_d4 => ?_
      have T_d4 : Ty d4 := tyI_2203 e_d4 T_d3_2 (by (first | omega | assumption | (subst_vars; first | omega | assumption) | done))
      refine w_ll ?_
      refine w_let fun d5 e_d5 => ?_
      have T_d5 : Ty d5 := tyI_2204 e_d5 T_d4 (by (first | omega | assumption | (subst_vars; first | omega | assumption) | done))
      refine w_ll ?_
      refine w_let fun d6 e_d6 => ?_
      have T_d6 : Ty d6 := tyI_2205 e_d6 T_d5 (by (first | omega | assumption | (subst_vars; first | omega | assumption) | done))
      refine w_let fun d15 e_d15 => ?_
      have T_d15 : Ty d15 := ty_e e_d15 T_d6
      refine w_gd (by (first | omega | assumption | (subst_vars; first | omega | assumption) | done)) ?_
      refine w_thl ?_
      try dsimp only
      refine ⟨T_d15, ?_⟩
      have q := ch_set e_d1 e_d2 e_d3_2 e_d4 e_d5 e_d6
      have F15 : Fr [2111, 2503, 2112, 2113, 2200, 2201, 2202, 2203, 2204, 2205] p6.1 d15 := by
       rw [e_d15, e_d6, e_d5, e_d4, e_d3_2, e_d2, e_d1, e_d12, e_d11, e_d10, e_d8]
       exact (((((((((Fr.rf.I rfl).R rfl).I rfl).R rfl).I rfl).I rfl).I rfl).I rfl).I rfl).I rfl
      have F12 : Fr [2111, 2503, 2112, 2113] p6.1 d12 := by
       rw [e_d12, e_d11, e_d10, e_d8]
       exact (((Fr.rf.I rfl).R rfl).I rfl).R rfl
      have gI : ∀ i a, i ≠ 2111 → S_X23_lay.contains i = false → d_I p6.1 i a = d_I D i a := fun i a n h => by
       rw [F_p6.i (i := i) h, e_d3, rI_I, if_neg (fun z => n z.1)]
      have b2 : d_I d15 2102 (s_ G 21) = d_I D 2102 (s_ G 21) := by
       rw [F15.i (i := 2102) rfl]; exact gI _ _ (by decide) rfl
      have b3 : d_I d15 2103 (s_ G 21) = d_I D 2103 (s_ G 21) := by
       rw [F15.i (i := 2103) rfl]; exact gI _ _ (by decide) rfl
      have b6 : d_I d15 2106 (s_ G 21) = d_I D 2106 (s_ G 21) := by
       rw [F15.i (i := 2106) rfl]; exact gI _ _ (by decide) rfl
      have b1 : d_I d15 2101 (s_ G 21) = d_I D 2101 (s_ G 21) := by
       rw [F15.i (i := 2101) rfl]; exact gI _ _ (by decide) rfl
      have ePz : z_P p6.2.1 2104 (s_ p6.2.1 21) = z_P G 2104 (s_ G 21) := by rw [sG, m6.2.1 _ _ hG.2.2.2.2.2.2.2.1]
      have hs : ∀ w ch, z_Q G 2105 (s_ G 21) w = some ch → ChSm D d15 ch := fun w ch e => by
       have ne := (hG.2.2.2.1 w ch e).2.1
       have u1 : ChSm D p6.1 ch := (ChSm.fr' (Fr.uI e_d3) rfl).tr (ChSm.fr' F_p6 rfl)
       have u2 : ChSm p6.1 d12 ch := ChSm.fr' F12 rfl
       have u3 := q.2 ch (by rw [ePz]; exact ne)
       rw [e_d15]
       exact (u1.tr u2).tr u3
      have hL : LaC d15 p6.2.1 od := mL.fr F15 rfl
      refine ⟨by rw [eN, e21], ⟨⟨hO.1, by rw [sG, b1]; exact hO.2.1, mC.fr F15 rfl, mA.fr F15 rfl⟩, hg.sm m6 b2 b3 b6 hs, hr, m4, m5.fr F15 rfl, hL, h0.2, ?_, fun z => ?_⟩, ?_, ?_, ?_, m6, m6c, b2⟩
      · rw [e_d15, e_d6, rI_I, if_neg (by omega), e_d5, rI_I, if_neg (by omega), e_d4, rI_I, if_neg (by omega), e_d3_2, rI_I, if_neg (by omega), e_d2, rI_I, if_neg (by omega), e_d1, rI_I, if_neg (by omega), e_d12]
        show d_I d11 2111 _ = _
        rw [e_d11, rI_I, if_neg (by omega), e_d10]
        show d_I d8 2111 _ = _
        rw [e_d8, rI_I, if_pos ⟨rfl, rfl⟩]
      · rw [e_d15]
        have q1 := q.1
        rw [show d_I d6 2102 (s_ p6.2.1 21) = d_I D 2102 (s_ p6.2.1 21) by rw [← e_d15, sG]; exact b2, show d_I d6 2103 (s_ p6.2.1 21) = d_I D 2103 (s_ p6.2.1 21) by rw [← e_d15, sG]; exact b3]
        exact q1
      · rw [e_d15, e_d6, rI_I, if_neg (by omega), e_d5, rI_I, if_neg (by omega), e_d4, rI_I, if_neg (by omega), e_d3_2, rI_I, if_neg (by omega), e_d2, rI_I, if_neg (by omega), e_d1, rI_I, if_neg (by omega), e_d12]
        show d_I d11 2112 _ = _
        rw [e_d11, rI_I, sG, if_pos ⟨rfl, rfl⟩]
      · rw [e_d15, e_d6, e_d5, e_d4, e_d3_2, e_d2, e_d1, e_d12, ← sG]
        show (if 2113 = 2113 ∧ s_ p6.2.1 21 = s_ p6.2.1 21 then none else _) = _
        rw [if_pos ⟨rfl, rfl⟩]
      · intro i i0 i1
        rw [F15.a (i := 2305) rfl, ← sG]; exact mZ i i0 i1
  · skip
    obtain ⟨⟨T_p2_2, h_p2_2⟩, F_p2_2⟩ := h_p2_2
    try dsimp only at T_p2_2 h_p2_2 F_p2_2
    refine th_inr ?_
    try dsimp only
    refine ⟨T_p2_2, ?_⟩
    (first | omega | assumption | (subst_vars; first | omega | assumption) | done)
set_option maxHeartbeats 8000000 in
theorem s_X21_begin {N : Nat} {G : Gt} {D : Dt} {c : Ct} (hN : 1099511627776 ≤ N) {od : Od} {g : Cg} (hT : Ty D) (hO : ClO D G od) (hG : PoG G c) (hP : PoD D G) (hg : ClG D G g) (hr : CgR g (oNC od)) (h0 : 0 < oNC od ∧ opN od ≤ 4096) : Wp (q_X21_begin N G D c) (Th (fun r s => (fun r D' G' c' => Ty D' ∧ (r = opN od * d_I D 2102 (s_ G 21) ∧ CSt D' G' c' od g ∧ d_I D' 2112 (s_ G 21) = -1 ∧ d_R D' 2113 (s_ G 21) = none ∧ (∀ i, 0 ≤ i → i < 4096 → d_A D' 2305 (s_ G 23) i = 0) ∧ GoX c.1 G G' ∧ c.1 ≤ c'.1 ∧ d_I D' 2102 (s_ G 21) = d_I D 2102 (s_ G 21))) r s.1 s.2.1 s.2.2) (fun e s => (fun (e : Nat) D' G' c' => Ty D' ∧ (e = 99 ∧ False)) e s.1 s.2.1 s.2.2)) := by
  refine w_un (q_X21_begin.eq_1 ..) ?_
  have n21 := hO.2.1
  have ar := hO.2.2.2
  have x := hO.1.1
  have y := hO.1.2.1
  have ar1 := ar.1
  have ar2 := ar.2.1
  have ar3 := ar.2.2.1
  have ar4' := ar.2.2.2
  refine w_let fun v3 e_v3 => ?_
  simp only [q_X24_isEmpty] at e_v3
  refine w_ite (fun hc1 => ?_) (fun hc1 => ?_)
  · skip
    have t1 := ty_2101 hT (s_ G 21)
    refine w_ite (fun hc2 => ?_) (fun hc2 => ?_)
    · skip
      exfalso; omega
    · skip
      have j1_hO : ClO D G od := by
        (first | assumption)
      have j1_hG : PoG G c := by
        (first | omega | assumption | (subst_vars; first | omega | assumption) | done)
      have j1_hP : PoD D G := by
        (first | assumption)
      have j1_hg : ClG D G g := by
        (first | omega | assumption | (subst_vars; first | omega | assumption) | done)
      have j1_hr : CgR g (oNC od) := by
        (first | omega | assumption | (subst_vars; first | omega | assumption) | done)
      have j1_h0 : (1 : Int) ≠ 0 ∧ opN od ≤ 4096 := by
        (first | omega | assumption | (subst_vars; first | omega | assumption) | done)
      refine w_thm (Wp.fr (s_X21_begin_25 hN hT j1_hO j1_hG j1_hP j1_hg j1_hr j1_h0) fr_X21_begin_25) (fun r s ho hF => ?_) (fun e s ho hF => ?_)
      · skip
        obtain ⟨hT', ho⟩ := ho
        try dsimp only at hT' ho ⊢
        try dsimp only at hF
        refine ⟨hT', ?_⟩
        exact ho
      · skip
        obtain ⟨hT', ho⟩ := ho
        try dsimp only at hT' ho ⊢
        try dsimp only at hF
        refine ⟨hT', ?_⟩
        exact ho
  · skip
    refine w_un (q_X21_begin_24.eq_1 ..) ?_
    have j2_hO : ClO D G od := by
      (first | assumption)
    have j2_hG : PoG G c := by
      (first | omega | assumption | (subst_vars; first | omega | assumption) | done)
    have j2_hP : PoD D G := by
      (first | assumption)
    have j2_hg : ClG D G g := by
      (first | omega | assumption | (subst_vars; first | omega | assumption) | done)
    have j2_hr : CgR g (oNC od) := by
      (first | omega | assumption | (subst_vars; first | omega | assumption) | done)
    have j2_h0 : (0 : Int) ≠ 0 ∧ opN od ≤ 4096 := by
      (first | omega | assumption | (subst_vars; first | omega | assumption) | done)
    refine w_thm (Wp.fr (s_X21_begin_25 hN hT j2_hO j2_hG j2_hP j2_hg j2_hr j2_h0) fr_X21_begin_25) (fun r s ho hF => ?_) (fun e s ho hF => ?_)
    · skip
      obtain ⟨hT', ho⟩ := ho
      try dsimp only at hT' ho ⊢
      try dsimp only at hF
      refine ⟨hT', ?_⟩
      exact ho
    · skip
      obtain ⟨hT', ho⟩ := ho
      try dsimp only at hT' ho ⊢
      try dsimp only at hF
      refine ⟨hT', ?_⟩
      exact ho
