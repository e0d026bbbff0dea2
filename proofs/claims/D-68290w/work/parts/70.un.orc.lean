/-! specifications, printed by gen/mks.py -/
set_option maxRecDepth 100000
set_option maxHeartbeats 8000000 in
theorem s_X28_begin_78 {N : Nat} {ts0 : Int} {G : Gt} {D : Dt} (hN : 1099511627776 ≤ N) (hT : Ty D) (h0 : 0 ≤ ts0 ∧ ts0 ≤ 33) : Wp (q_X28_begin_78 N ts0 G D) (fun D' => Ty D' ∧ (D' = u_I D 2806 (s_ G 28) ts0)) := by
  refine w_un (q_X28_begin_78.eq_1 ..) ?_
  refine w_let fun d1 e_d1 => ?_
  have T_d1 : Ty d1 := tyI_2806 e_d1 hT (by (first | omega | assumption | (subst_vars; first | omega | assumption) | done))
  refine w_some ?_
  refine ⟨T_d1, ?_⟩
  (first | omega | assumption | (subst_vars; first | omega | assumption) | done)
set_option maxHeartbeats 8000000 in
theorem s_X28_begin {N : Nat} {r2 : Nat} {G : Gt} {D : Dt} (hN : 1099511627776 ≤ N) {od : Od} {g : Cg} {q : Sq} {w : Int} (hT : Ty D) (hS : OrS D G od) (hq : StO q od) (hg : CgOk g ∧ CgR g (oNC od) ∧ 0 ≤ w ∧ w < cgW g ∧ 2 ≤ cgO g w) (hc : ChS D r2 (cgA g w) (cgB g w) (cgC g w) (cgE g w) (cgL g w) (cgO g w)) : Wp (q_X28_begin N r2 G D) (fun D' => Ty D' ∧ (MgT D' G od g q w r2 ∧ MgC D' G od g q w ∧ ∀ k l, VdT g q w k l → BmC D' G q k l)) := by
  refine w_un (q_X28_begin.eq_1 ..) ?_
  have ok := hg.1.2.2 w hg.2.2.1 hg.2.2.2.1
  have cr := hg.2.1 w hg.2.2.1 hg.2.2.2.1
  have hc0 := hc
  unfold ChS at hc0
  have c1_hS : OrS D G od := by
    (first | assumption)
  refine w_b (Wp.fr (s_X26_begin hN hT c1_hS) fr_X26_begin) fun d2 h_d2 => ?_
  obtain ⟨⟨T_d2, h_d2⟩, F_d2⟩ := h_d2
  refine w_let fun d3 e_d3 => ?_
  have T_d3 : Ty d3 := tyR e_d3 T_d2
  have t1 := ty_2205 hT r2
  have t2 := ty_2200 hT r2
  have t3 := ty_2202 hT r2
  generalize e_ts0 : (if (d_I D 2205 r2) = (2 : Int) then (d_I D 2200 r2) else (if (d_I D 2205 r2) = (4 : Int) then (d_I D 2202 r2) else (0 : Int))) = ts0
  refine w_un (q_X28_begin_43.eq_1 ..) ?_
  refine w_let fun d1 e_d1 => ?_
  have T_d1 : Ty d1 := tyI_2805 e_d1 T_d3 (by (first | omega | assumption | (subst_vars; first | omega | assumption) | done))
  have rq1 : d_I d3 2205 r2 = d_I D 2205 r2 := Eq.trans (rdI_R e_d3) (congrFun (F_d2.i (i := 2205) rfl) r2)
  have rq2 : d_I d3 2201 r2 = d_I D 2201 r2 := Eq.trans (rdI_R e_d3) (congrFun (F_d2.i (i := 2201) rfl) r2)
  have t4 := ty_2201 hT r2
  have rq3 : d_I d3 2203 r2 = d_I D 2203 r2 := Eq.trans (rdI_R e_d3) (congrFun (F_d2.i (i := 2203) rfl) r2)
  have t5 := ty_2203 hT r2
  generalize e_ts0_2 : (if (d_I d3 2205 r2) = (2 : Int) then (d_I d3 2201 r2) else (if (d_I d3 2205 r2) = (4 : Int) then (d_I d3 2203 r2) else (1 : Int))) = ts0_2
  try simp only [rq1, rq2, rq3] at e_ts0_2
  have j1_h0 : 0 ≤ ts0_2 ∧ ts0_2 ≤ 33 := by
    (first | omega | assumption | (subst_vars; first | omega | assumption) | done)
  refine Wp.mo (Wp.fr (s_X28_begin_78 hN T_d1 j1_h0) fr_X28_begin_78) ?_
  intro o ho
  obtain ⟨⟨hT', ho⟩, hF⟩ := ho
  try dsimp only at hF
  refine ⟨hT', ?_⟩
  have F : Fr [2804, 2805, 2806] d2 o := by rw [ho, e_d1, e_d3]; exact ((Fr.rf.R rfl).I rfl).I rfl
  have f8 : d_R o 2804 (s_ G 28) = none := by
   rw [ho, e_d1, e_d3]
   show (if 2804 = 2804 ∧ s_ G 28 = s_ G 28 then none else d_R d2 2804 (s_ G 28)) = none
   rw [if_pos ⟨rfl, rfl⟩]
  have f5 : d_I o 2805 (s_ G 28) = ts0 := by rw [ho, rI_I, if_neg (by omega), e_d1, rI_I, if_pos ⟨rfl, rfl⟩]
  have f6 : d_I o 2806 (s_ G 28) = ts0_2 := by rw [ho, rI_I, if_pos ⟨rfl, rfl⟩]
  have So : OrS o G od := (hS.fr F_d2 rfl).fr F rfl
  have m0 : ∀ c r, LvV od c r → mtA o G c r = 0 := fun c r v => by
   obtain ⟨st, sI⟩ := So.2.2.2.2.1 c r v
   rw [← sI.at, F.i (i := 7604) rfl]
   exact h_d2.1 c r st v (.inl v.1.2) sI.1
  have a0 : ∀ k, 0 ≤ k → k < sqM q → atK o G q k = 0 ∧ 0 ≤ sqNm q k := fun k k0 k1 => by
   obtain ⟨c', r', p', pv', ek, f1, f2, f3, -⟩ := hq.k hS.1 k0 k1
   unfold atK
   rw [f1, f2, f3]
   exact ⟨m0 c' r' ⟨pv'.1, pv'.2.1⟩, pv'.2.2.1⟩
  have eg : ts0_2 = gEd g w := by
   rw [← e_ts0_2, hc0.2.2.2.2.2, hc0.2.1, hc0.2.2.2.1]; rfl
  have es : ts0 = if cgO g w = 2 then cgA g w else if cgO g w = 4 then cgC g w else 0 := by
   rw [← e_ts0, hc0.2.2.2.2.2, hc0.1, hc0.2.2.1]
  refine ⟨⟨⟨So, ⟨by rw [F.r (i := 2600) rfl]; exact h_d2.2.1, by rw [F.r (i := 2601) rfl]; exact h_d2.2.2.1, hc.sm ((ChSm.fr' F_d2 rfl).tr (ChSm.fr' F rfl))⟩, ⟨hg.2.2.2.2, ok.1.2⟩, ok.2.1, fun c r v => ?_⟩, hq, ⟨hg.2.2.1, hg.2.2.2.1⟩, ⟨cr.1.1, cr.1.2.2, cr.2.1.1, cr.2.1.2.2.1⟩, fun a b ta tb l1 l2 => ?_, by rw [f5, f6]; refine ⟨?_, ?_, eg⟩ <;> (rw [es]; split; omega; split <;> omega), fun k t l => ?_⟩, .inl f8, fun k l v => ?_⟩
  · rw [m0 c r v]
    have := olP_r hS.1 v.1.1 v.1.2 v.2.1 v.2.2
    omega
  · have := a0 a ta.1.1 ta.1.2; omega
  · rw [f5, es]
    have u := t.2
    unfold cgT at u
    refine ⟨fun z => ?_, fun z => ?_, fun z => ?_⟩
    · rw [if_pos z]; exact u.1
    · rw [if_neg (by omega), if_pos z]; exact u.2.2.1
    · rw [if_neg (by omega), if_neg (by omega)]
  · rw [BmC.non So hq f8 v.1.2.2.1 v.1.2.2.2.1]
    have := a0 k v.1.2.2.1 v.1.2.2.2.1
    omega
