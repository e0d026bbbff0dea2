/-! specifications, printed by gen/mks.py -/
set_option maxRecDepth 100000
set_option maxHeartbeats 8000000 in
theorem s_X27_begin {N : Nat} {r2 : Nat} {G : Gt} {D : Dt} (hN : 1099511627776 ≤ N) {od : Od} {g : Cg} {q : Sq} {w : Int} (hT : Ty D) (hS : OrS D G od) (hq : StO q od) (hg : CgOk g ∧ CgR g (oNC od) ∧ 0 ≤ w ∧ w < cgW g ∧ cgO g w < 2) (hc : ChS D r2 (cgA g w) (cgB g w) (cgC g w) (cgE g w) (cgL g w) (cgO g w)) : Wp (q_X27_begin N r2 G D) (fun D' => Ty D' ∧ (CnS D' G od g w r2 ∧ ∀ k l, VdT g q w k l → BnC D' G q (cgO g w) k l)) := by
  refine w_un (q_X27_begin.eq_1 ..) ?_
  have ok := hg.1.2.2 w hg.2.2.1 hg.2.2.2.1
  have cr := hg.2.1 w hg.2.2.1 hg.2.2.2.1
  have hc0 := hc
  unfold ChS at hc0
  have c1_hS : OrS D G od := by
    (first | assumption)
  refine w_b (Wp.fr (s_X26_begin hN hT c1_hS) fr_X26_begin) fun d2 h_d2 => ?_
  obtain ⟨⟨T_d2, h_d2⟩, F_d2⟩ := h_d2
  have t1 := ty_2200 hT r2
  refine w_let fun v5 e_v5 => ?_
  refine w_let fun d4 e_d4 => ?_
  have T_d4 : Ty d4 := tyI_2704 e_d4 T_d2 (by (first | omega | assumption | (subst_vars; first | omega | assumption) | done))
  have t2 := ty_2202 hT r2
  refine w_let fun v7 e_v7 => ?_
  refine w_let fun d6 e_d6 => ?_
  have T_d6 : Ty d6 := tyI_2705 e_d6 T_d4 (by (first | omega | assumption | (subst_vars; first | omega | assumption) | done))
  refine w_let fun d8 e_d8 => ?_
  have T_d8 : Ty d8 := tyI_2706 e_d8 T_d6 (by (first | omega | assumption | (subst_vars; first | omega | assumption) | done))
  refine w_some ?_
  refine ⟨T_d8, ?_⟩
  have f2 : d_I d8 2603 (s_ G 27) = 0 := by rw [e_d8, rI_I, if_neg (by omega), e_d6, rI_I, if_neg (by omega), e_d4, rI_I, if_neg (by omega)]; exact h_d2.2.2.2
  have f4 : d_I d8 2704 (s_ G 27) = cgA g w := by rw [e_d8, rI_I, if_neg (by omega), e_d6, rI_I, if_neg (by omega), e_d4, rI_I, if_pos ⟨rfl, rfl⟩, e_v5]; exact hc0.1
  have f5 : d_I d8 2705 (s_ G 27) = cgC g w := by rw [e_d8, rI_I, if_neg (by omega), e_d6, rI_I, if_pos ⟨rfl, rfl⟩, e_v7]; exact hc0.2.2.1
  have f6 : d_I d8 2706 (s_ G 27) = 0 := by rw [e_d8, rI_I, if_pos ⟨rfl, rfl⟩]
  have F8 : Fr [2704, 2705, 2706] d2 d8 := by rw [e_d8, e_d6, e_d4]; exact ((Fr.rf.I rfl).I rfl).I rfl
  refine ⟨⟨⟨by rw [F8.r (i := 2600) rfl]; exact h_d2.2.1, by rw [F8.r (i := 2601) rfl]; exact h_d2.2.2.1, hc.sm ((ChSm.fr' F_d2 rfl).tr (ChSm.fr' F8 rfl))⟩, ⟨ok.1.1, hg.2.2.2.2⟩, ok.2.1, cr.1, cr.2.1, cr.2.2, by omega, by omega, by omega, by omega⟩, fun k l v => ?_⟩
  rw [BnC.e ⟨ok.1.1, hg.2.2.2.2⟩, f2, f4, f5, f6]
  have n0 := sqNm_0 hq hS.1 v
  obtain ⟨⟨w0, w1, k0, k1, l0, l1⟩, u1, u2, u3, u4⟩ := v
  by_cases o0 : cgO g w = 0
  · rw [if_pos o0]; omega
  · rw [if_neg o0]; omega
