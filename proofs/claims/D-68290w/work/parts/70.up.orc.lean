/-! specifications, printed by gen/mks.py -/
set_option maxRecDepth 100000
theorem CSt.fr {D D' : Dt} {G : Gt} {c : Ct} {od : Od} {g : Cg} {S : List Nat} (h : CSt D G c od g) (F : Fr S D D') (hd : ([2101, 2102, 2103, 2106, 2111, 2200, 2201, 2202, 2203, 2204, 2205, 2303, 2304, 2400, 2401, 2402, 2403, 7200, 7201, 7202, 7205, 7206, 7302, 7400, 7403, 7404, 7405, 7406, 7500, 7600, 7603].all fun j => !S.contains j) = true) : CSt D' G c od g := by
  obtain ⟨h1, h2, h3, h4, h5, h6, h7, h8, h9⟩ := h
  have e2 : d_I D' 2102 = d_I D 2102 := F.i (dsO_o hd (by decide))
  have e3 : d_I D' 2103 = d_I D 2103 := F.i (dsO_o hd (by decide))
  have e6 : d_I D' 2106 = d_I D 2106 := F.i (dsO_o hd (by decide))
  refine ⟨h1.fr F (all_sub hd (by decide)), h2.sm (b := 0) GoX.rf (by rw [e2]) (by rw [e3]) (by rw [e6]) (fun _ _ _ => ChSm.fr' F (all_sub hd (by decide))), h3, h4, h5.fr F (all_sub hd (by decide)), h6.fr F (all_sub hd (by decide)), h7, by rw [F.i (i := 2111) (dsO_o hd (by decide))]; exact h8, fun z => ?_⟩
  rw [e6] at z
  rw [e2, e3]
  exact (h9 z).sm (ChSm.fr' F (all_sub hd (by decide)))
theorem CSt.set {D D' : Dt} {G : Gt} {c : Ct} {od : Od} {g : Cg} (h : CSt D G c od g) (n : d_I D 2106 (s_ G 21) ≠ 0) (hs : ∀ bb, bb ≠ z_P G 2104 (s_ G 21) → ChSm D D' bb) (F : Fr [2200, 2201, 2202, 2203, 2204, 2205] D D') : CSt D' G c od g := by
  obtain ⟨h1, h2, h3, h4, h5, h6, h7, h8, h9⟩ := h
  have e6 : d_I D' 2106 = d_I D 2106 := F.i rfl
  refine ⟨h1.fr F rfl, h2.sm (b := 0) GoX.rf (by rw [F.i (i := 2102) rfl]) (by rw [F.i (i := 2103) rfl]) (by rw [e6]) (fun w ch z => hs ch (h4.2.2.2.1 w ch z).2.1), h3, h4, h5.fr F rfl, h6.fr F rfl, h7, by rw [F.i (i := 2111) rfl]; exact h8, fun z => ?_⟩
  rw [e6] at z
  exact absurd z n
set_option maxHeartbeats 8000000 in
theorem s_X21_turn_82 {N : Nat} {od : Od} {g : Cg} {q : Sq} {w : Int} {cc : Ct} {a2 : Nat} {us0 : Nat} {G : Gt} {D : Dt} (hN : 1099511627776 ≤ N) (hT : Ty D) (hs : CSt D G cc od g) (hq : StO q od) (hK : KdW G) (hw : 0 ≤ w ∧ w < cgW g) (ha : ∃ l, ChS D a2 (cgA g w) (cgB g w) (cgC g w) (cgE g w) l (cgO g w) ∧ cgL g w = min l (d_I D 2102 (s_ G 21)) ∧ (d_I D 2106 (s_ G 21) = 0 → l = d_I D 2102 (s_ G 21))) (hb : us0 = if cgO g w < 2 then s_ G 27 else s_ G 28) : Wp (q_X21_turn_82 N a2 us0 G D) (fun o => (fun r D' => Ty D' ∧ (r = 1 ∧ WlkS D' G od g q w us0 ∧ (∀ k l, VdT g q w k l → BwC D' G g q w k l) ∧ CSt D' G cc od g ∧ d_R D' 2113 (s_ G 21) = some us0)) o.1 o.2) := by
  refine w_un (q_X21_turn_82.eq_1 ..) ?_
  obtain ⟨l, hc, hl, h0⟩ := ha
  obtain ⟨bb, ebb⟩ : ∃ bb, bb = us0 := ⟨_, rfl⟩
  have hc0 := hc
  unfold ChS at hc0
  have ok := hs.2.1.1.2.2 w hw.1 hw.2
  have cr := hs.2.2.1 w hw.1 hw.2
  have ty2 := ty_2102 hT (s_ G 21)
  refine w_let fun d1 e_d1 => ?_
  have T_d1 : Ty d1 := tyR e_d1 hT
  have F1 : Fr [2113] D d1 := by rw [e_d1]; exact Fr.rf.R rfl
  have s1 : CSt d1 G cc od g := hs.fr F1 rfl
  have r1 : d_R d1 2113 (s_ G 21) = some us0 := by
   rw [e_d1]
   show (if 2113 = 2113 ∧ s_ G 21 = s_ G 21 then some us0 else _) = _
   rw [if_pos ⟨rfl, rfl⟩]
  have t1 := ty_2204 hT a2
  have t2 := ty_2102 hT (s_ G 21)
  refine w_ite (fun hc1 => ?_) (fun hc1 => ?_)
  · skip
    have j1_hS : OrS d1 G od := by
      exact s1.smo
    have j1_hq : StO q od := by
      (first | omega | assumption | (subst_vars; first | omega | assumption) | done)
    have j1_hg : CgOk g ∧ CgR g (oNC od) ∧ 0 ≤ w ∧ w < cgW g := by
      exact ⟨hs.2.1.1, hs.2.2.1, hw⟩
    have j1_hc : ChS d1 a2 (cgA g w) (cgB g w) (cgC g w) (cgE g w) (cgL g w) (cgO g w) := by
      rw [show cgL g w = l by omega]; exact hc.sm (ChSm.fr' F1 rfl)
    have j1_hK : KdW G := by
      (first | omega | assumption | (subst_vars; first | omega | assumption) | done)
    have j1_hb : bb = (if cgO g w < 2 then s_ G 27 else s_ G 28) ∧ d_R d1 2113 (s_ G 21) = some bb := by
      rw [ebb]; exact ⟨hb, r1⟩
    refine Wp.mo (Wp.fr (s_X21_turn_132 hN (od := od) (g := g) (q := q) (w := w) (bb := bb) T_d1 j1_hS j1_hq j1_hg j1_hc j1_hK j1_hb) fr_X21_turn_132) ?_
    intro o ho
    obtain ⟨⟨hT', ho⟩, hF⟩ := ho
    try dsimp only at hF
    refine ⟨hT', ?_⟩
    rw [ebb] at ho; exact ⟨ho.1, ho.2.1, ho.2.2, s1.fr hF rfl, by rw [hF.r (i := 2113) rfl]; exact r1⟩
  · skip
    have t3 := ty_2200 hT a2
    have t4 := ty_2201 hT a2
    have t5 := ty_2202 hT a2
    have t6 := ty_2203 hT a2
    have t7 := ty_2205 hT a2
    unfold q_X22_set
    refine w_ll ?_
    refine w_let fun d1_2 e_d1_2 => ?_
    have T_d1_2 : Ty d1_2 := tyI_2200 e_d1_2 T_d1 (by (first | omega | assumption | (subst_vars; first | omega | assumption) | done))
    refine w_ll ?_
    refine w_let fun d2 e_d2 => ?_
    have T_d2 : Ty d2 := tyI_2201 e_d2 T_d1_2 (by (first | omega | assumption | (subst_vars; first | omega | assumption) | done))
    refine w_ll ?_
    refine w_let fun d3 e_d3 => ?_
    have T_d3 : Ty d3 := tyI_2202 e_d3 T_d2 (by (first | omega | assumption | (subst_vars; first | omega | assumption) | done))
    refine w_ll ?_
    refine w_let fun d4 e_d4 => ?_
    have T_d4 : Ty d4 := tyI_2203 e_d4 T_d3 (by (first | omega | assumption | (subst_vars; first | omega | assumption) | done))
    refine w_ll ?_
    refine w_let fun d5 e_d5 => ?_
    have T_d5 : Ty d5 := tyI_2204 e_d5 T_d4 (by (first | omega | assumption | (subst_vars; first | omega | assumption) | done))
    refine w_ll ?_
    refine w_let fun d6 e_d6 => ?_
    have T_d6 : Ty d6 := tyI_2205 e_d6 T_d5 (by (first | omega | assumption | (subst_vars; first | omega | assumption) | done))
    refine w_let fun d4_2 e_d4_2 => ?_
    have T_d4_2 : Ty d4_2 := ty_e e_d4_2 T_d6
    have n6 : d_I d1 2106 (s_ G 21) ≠ 0 := fun z => by
     rw [F1.i (i := 2106) rfl] at z
     have := h0 z; omega
    have q6 := ch_set e_d1_2 e_d2 e_d3 e_d4 e_d5 e_d6
    rw [← e_d4_2] at q6
    have F6 : Fr [2200, 2201, 2202, 2203, 2204, 2205] d1 d4_2 := by
     rw [e_d4_2, e_d6, e_d5, e_d4, e_d3, e_d2, e_d1_2]
     exact (((((Fr.rf.I rfl).I rfl).I rfl).I rfl).I rfl).I rfl
    have s6 := s1.set n6 q6.2 F6
    have r6 : d_R d4_2 2113 (s_ G 21) = some us0 := by rw [F6.r (i := 2113) rfl]; exact r1
    have j2_hS : OrS d4_2 G od := by
      exact s6.smo
    have j2_hq : StO q od := by
      (first | omega | assumption | (subst_vars; first | omega | assumption) | done)
    have j2_hg : CgOk g ∧ CgR g (oNC od) ∧ 0 ≤ w ∧ w < cgW g := by
      exact ⟨hs.2.1.1, hs.2.2.1, hw⟩
    have j2_hc : ChS d4_2 (z_P G 2104 (s_ G 21)) (cgA g w) (cgB g w) (cgC g w) (cgE g w) (cgL g w) (cgO g w) := by
      rw [show cgL g w = d_I D 2102 (s_ G 21) by omega, ← hc0.1, ← hc0.2.1, ← hc0.2.2.1, ← hc0.2.2.2.1, ← hc0.2.2.2.2.2]; exact q6.1
    have j2_hK : KdW G := by
      (first | omega | assumption | (subst_vars; first | omega | assumption) | done)
    have j2_hb : bb = (if cgO g w < 2 then s_ G 27 else s_ G 28) ∧ d_R d4_2 2113 (s_ G 21) = some bb := by
      rw [ebb]; exact ⟨hb, r6⟩
    refine Wp.mo (Wp.fr (s_X21_turn_132 hN (od := od) (g := g) (q := q) (w := w) (bb := bb) T_d4_2 j2_hS j2_hq j2_hg j2_hc j2_hK j2_hb) fr_X21_turn_132) ?_
    intro o ho
    obtain ⟨⟨hT', ho⟩, hF⟩ := ho
    try dsimp only at hF
    refine ⟨hT', ?_⟩
    rw [ebb] at ho; exact ⟨ho.1, ho.2.1, ho.2.2, s6.fr hF rfl, by rw [hF.r (i := 2113) rfl]; exact r6⟩
set_option maxHeartbeats 8000000 in
theorem s_X21_turn_61 {N : Nat} {od : Od} {g : Cg} {q : Sq} {w : Int} {cc : Ct} {a8 : Nat} {us0 : Option Nat} {G : Gt} {D : Dt} (hN : 1099511627776 ≤ N) (hT : Ty D) (hs : CSt D G cc od g) (hq : StO q od) (hK : KdW G) (hw : 0 ≤ w ∧ w < cgW g) (ha : ∃ l, ChS D a8 (cgA g w) (cgB g w) (cgC g w) (cgE g w) l (cgO g w) ∧ cgL g w = min l (d_I D 2102 (s_ G 21)) ∧ (d_I D 2106 (s_ G 21) = 0 → l = d_I D 2102 (s_ G 21))) (hu : us0 = some a8) : Wp (q_X21_turn_61 N us0 G D) (fun o => (fun r D' => Ty D' ∧ (r = 1 ∧ ∃ b, WlkS D' G od g q w b ∧ (∀ k l, VdT g q w k l → BwC D' G g q w k l) ∧ CSt D' G cc od g ∧ d_R D' 2113 (s_ G 21) = some b)) o.1 o.2) := by
  refine w_un (q_X21_turn_61.eq_1 ..) ?_
  refine w_on (by (rw [hu]; exact Option.some_ne_none _)) fun b1 e_b1 => ?_
  have E1 : b1 = a8 := by rw [hu] at e_b1; exact (Option.some.inj e_b1).symm
  have hO : d_I D 2205 b1 = cgO g w := by
   obtain ⟨l, hc, -, -⟩ := ha
   rw [E1]; exact hc.2.2.2.2.2
  rw [← E1] at ha
  have t1 := ty_2205 hT b1
  refine w_ite (fun hc1 => ?_) (fun hc1 => ?_)
  · skip
    have t2 := ty_2102 hT (s_ G 21)
    have t3 := ty_2106 hT (s_ G 21)
    have j1_hs : CSt D G cc od g := by
      (first | assumption)
    have j1_hq : StO q od := by
      (first | omega | assumption | (subst_vars; first | omega | assumption) | done)
    have j1_hK : KdW G := by
      (first | omega | assumption | (subst_vars; first | omega | assumption) | done)
    have j1_hw : 0 ≤ w ∧ w < cgW g := by
      (first | omega | assumption | (subst_vars; first | omega | assumption) | done)
    have j1_ha : ∃ l, ChS D b1 (cgA g w) (cgB g w) (cgC g w) (cgE g w) l (cgO g w) ∧ cgL g w = min l (d_I D 2102 (s_ G 21)) ∧ (d_I D 2106 (s_ G 21) = 0 → l = d_I D 2102 (s_ G 21)) := by
      (first | omega | assumption | (subst_vars; first | omega | assumption) | done)
    have j1_hb : (s_ G 28) = if cgO g w < 2 then s_ G 27 else s_ G 28 := by
      rw [if_neg (by omega)]
    refine Wp.mo (Wp.fr (s_X21_turn_82 hN (od := od) (g := g) (q := q) (w := w) (cc := cc) hT j1_hs j1_hq j1_hK j1_hw j1_ha j1_hb) fr_X21_turn_82) ?_
    intro o ho
    obtain ⟨⟨hT', ho⟩, hF⟩ := ho
    try dsimp only at hF
    refine ⟨hT', ?_⟩
    exact ⟨ho.1, _, ho.2⟩
  · skip
    have t4 := ty_2102 hT (s_ G 21)
    have t5 := ty_2106 hT (s_ G 21)
    have j2_hs : CSt D G cc od g := by
      (first | assumption)
    have j2_hq : StO q od := by
      (first | omega | assumption | (subst_vars; first | omega | assumption) | done)
    have j2_hK : KdW G := by
      (first | omega | assumption | (subst_vars; first | omega | assumption) | done)
    have j2_hw : 0 ≤ w ∧ w < cgW g := by
      (first | omega | assumption | (subst_vars; first | omega | assumption) | done)
    have j2_ha : ∃ l, ChS D b1 (cgA g w) (cgB g w) (cgC g w) (cgE g w) l (cgO g w) ∧ cgL g w = min l (d_I D 2102 (s_ G 21)) ∧ (d_I D 2106 (s_ G 21) = 0 → l = d_I D 2102 (s_ G 21)) := by
      (first | omega | assumption | (subst_vars; first | omega | assumption) | done)
    have j2_hb : (s_ G 27) = if cgO g w < 2 then s_ G 27 else s_ G 28 := by
      rw [if_pos (by omega)]
    refine Wp.mo (Wp.fr (s_X21_turn_82 hN (od := od) (g := g) (q := q) (w := w) (cc := cc) hT j2_hs j2_hq j2_hK j2_hw j2_ha j2_hb) fr_X21_turn_82) ?_
    intro o ho
    obtain ⟨⟨hT', ho⟩, hF⟩ := ho
    try dsimp only at hF
    refine ⟨hT', ?_⟩
    exact ⟨ho.1, _, ho.2⟩
