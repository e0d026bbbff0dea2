/-! specifications, printed by gen/mks.py -/
set_option maxRecDepth 100000
theorem GrpF.nx {o : Int} {V S : Fz} {a e M e2 : Int} (h : GrpF o V S a e M) (h2 : GrpB o V S e e2 M) (l : e < M) (ae : a < e) : GrpF o V S e e2 M := by
  refine ⟨h2, by have := h.2.1; omega, l, fun z => by have := h.1.1 z; omega, fun z => ⟨fun _ => ?_, (h.2.2.2.2 z).2⟩⟩
  have b := h.1.2.2.2.1 z
  rw [b.1 (e - 1) (by omega) (by omega)]
  exact fun y => b.2 l y.symm
theorem GrpF.z {q : Sq} {o : Int} {S : Fz} {e M : Int} (h : GrpB o (sqV q) S 0 e M) (ha : AsN (sqK q o) S M) (m : 0 < M) : GrpF o (sqV q) S 0 e M := by
  refine ⟨h, by omega, m, fun _ => rfl, fun z => ⟨fun y => by omega, fun i j a b c => ?_⟩⟩
  subst z
  exact ha.lv a b c
set_option maxHeartbeats 8000000 in
theorem s_X63_move {N : Nat} {G : Gt} {D : Dt} (hN : 1099511627776 ≤ N) {g : Cg} {q : Sq} (hT : Ty D) (hg : TCg D G g) (hq : TSq D G q) (hk : QiK q) (hp : TPo D G g q) (h0 : (d_I D 6325 (s_ G 63)) < cgW g ∧ 0 < sqM q ∧ sqM q ≤ 4096) : Wp (q_X63_move N G D) (fun D' => Ty D' ∧ (TPo D' G g q ∧ (∀ w k l, Vld g q w k l → (BeT D' G g q w k l ↔ BeT D G g q w k l ∧ ¬ (w = (d_I D 6325 (s_ G 63)) ∧ k = (d_A D 6324 (s_ G 63) ((d_I D 6329 (s_ G 63)))) ∧ l = (d_I D 6326 (s_ G 63))))) ∧ TMe D' G g < TMe D G g ∧ 0 ≤ TMe D' G g ∧ ((d_I D' 6325 (s_ G 63)) = (d_I D 6325 (s_ G 63)) ∨ (d_I D' 6325 (s_ G 63)) = (d_I D 6325 (s_ G 63)) + 1))) := by
  refine w_un (q_X63_move.eq_1 ..) ?_
  have t1 := ty_6325 hT (s_ G 63)
  have t2 := ty_6329 hT (s_ G 63)
  have t3 := ty_6326 hT (s_ G 63)
  have tp := hp.2 h0.2.1 h0.1
  have n0 := hp.1
  have w32' := hg.1.2.1
  have oo := hg.1.2.2 _ hp.1 h0.1
  have em := tp.2.2.1.1.2.2.1 h0.2.1
  have g0 := tp.2.2.1.2.1
  have tm := TMe_r hg.1 hp h0.1 h0.2.1 h0.2.2
  have qm := hq.1
  refine w_gd (by (first | omega | assumption | (subst_vars; first | omega | assumption) | done)) ?_
  refine w_let fun v2 e_v2 => ?_
  refine w_let fun d1 e_d1 => ?_
  have T_d1 : Ty d1 := tyI_6329 e_d1 hT (by (first | omega | assumption | (subst_vars; first | omega | assumption) | done))
  have t4 := ty_6327 hT (s_ G 63)
  refine w_ite (fun hc1 => ?_) (fun hc1 => ?_)
  · skip
    refine w_gd (by (first | omega | assumption | (subst_vars; first | omega | assumption) | done)) ?_
    refine w_let fun v4 e_v4 => ?_
    refine w_let fun d3 e_d3 => ?_
    have T_d3 : Ty d3 := tyI_6326 e_d3 T_d1 (by (first | omega | assumption | (subst_vars; first | omega | assumption) | done))
    have t5 := ty_6328 hT (s_ G 63)
    refine w_let fun v6 e_v6 => ?_
    refine w_let fun d5 e_d5 => ?_
    have T_d5 : Ty d5 := tyI_6329 e_d5 T_d3 (by (first | omega | assumption | (subst_vars; first | omega | assumption) | done))
    have rq1 : d_I d5 6325 (s_ G 63) = d_I D 6325 (s_ G 63) := Eq.trans (rdI_I e_d5 rfl) (Eq.trans (rdI_I e_d3 rfl) (rdI_I e_d1 rfl))
    have c1_hg : TCg d5 G g := by
      (first | assumption | exact (TCg.fr (by assumption) (Fr.uI e_d5) rfl) | exact (TCg.fr (TCg.fr (by assumption) (Fr.uI e_d3) rfl) (Fr.uI e_d5) rfl) | exact (TCg.fr (TCg.fr (TCg.fr (by assumption) (Fr.uI e_d1) rfl) (Fr.uI e_d3) rfl) (Fr.uI e_d5) rfl))
    have c1_h0 : 0 ≤ (d_I d5 6325 (s_ G 63)) ∧ (d_I d5 6325 (s_ G 63)) < cgW g := by
      try simp only [rq1]
      (first | omega | assumption | (subst_vars; first | omega | assumption) | done)
    refine w_b (s_X63_layerEnd T_d5 c1_hg c1_h0) fun v7 h_v7 => ?_
    try simp only [rq1] at h_v7
    refine w_ite (fun hc2 => ?_) (fun hc2 => ?_)
    · skip
      refine w_let fun d8 e_d8 => ?_
      have T_d8 : Ty d8 := tyI_6326 e_d8 T_d5 (by (first | omega | assumption | (subst_vars; first | omega | assumption) | done))
      refine w_let fun v10 e_v10 => ?_
      have f25 : d_I d8 6325 (s_ G 63) = d_I D 6325 (s_ G 63) := Eq.trans (rdI_I e_d8 rfl) (Eq.trans (rdI_I e_d5 rfl) (Eq.trans (rdI_I e_d3 rfl) (rdI_I e_d1 rfl)))
      refine w_let fun d9 e_d9 => ?_
      have T_d9 : Ty d9 := tyI_6328 e_d9 T_d8 (by (first | omega | assumption | (subst_vars; first | omega | assumption) | done))
      refine w_let fun d11 e_d11 => ?_
      have T_d11 : Ty d11 := tyI_6329 e_d11 T_d9 (by (first | omega | assumption | (subst_vars; first | omega | assumption) | done))
      have t6 := ty_6317 hT (s_ G 63)
      refine w_ite (fun hc3 => ?_) (fun hc3 => ?_)
      · skip
        refine w_gd (by (first | omega | assumption | (subst_vars; first | omega | assumption) | done)) ?_
        refine w_let fun v13 e_v13 => ?_
        refine w_let fun d12 e_d12 => ?_
        have T_d12 : Ty d12 := tyI_6325 e_d12 T_d11 (by (first | omega | assumption | (subst_vars; first | omega | assumption) | done))
        have rq2 : d_I d12 6325 (s_ G 63) = v13 := rdI_s e_d12
        have c2_hg : TCg d12 G g := by
          (first | assumption | exact (TCg.fr (by assumption) (Fr.uI e_d12) rfl) | exact (TCg.fr (TCg.fr (by assumption) (Fr.uI e_d11) rfl) (Fr.uI e_d12) rfl) | exact (TCg.fr (TCg.fr (TCg.fr (by assumption) (Fr.uI e_d9) rfl) (Fr.uI e_d11) rfl) (Fr.uI e_d12) rfl) | exact (TCg.fr (TCg.fr (TCg.fr (TCg.fr (by assumption) (Fr.uI e_d8) rfl) (Fr.uI e_d9) rfl) (Fr.uI e_d11) rfl) (Fr.uI e_d12) rfl) | exact (TCg.fr (TCg.fr (TCg.fr (TCg.fr (TCg.fr (by assumption) (Fr.uI e_d5) rfl) (Fr.uI e_d8) rfl) (Fr.uI e_d9) rfl) (Fr.uI e_d11) rfl) (Fr.uI e_d12) rfl) | exact (TCg.fr (TCg.fr (TCg.fr (TCg.fr (TCg.fr (TCg.fr (by assumption) (Fr.uI e_d3) rfl) (Fr.uI e_d5) rfl) (Fr.uI e_d8) rfl) (Fr.uI e_d9) rfl) (Fr.uI e_d11) rfl) (Fr.uI e_d12) rfl) | exact (TCg.fr (TCg.fr (TCg.fr (TCg.fr (TCg.fr (TCg.fr (TCg.fr (by assumption) (Fr.uI e_d1) rfl) (Fr.uI e_d3) rfl) (Fr.uI e_d5) rfl) (Fr.uI e_d8) rfl) (Fr.uI e_d9) rfl) (Fr.uI e_d11) rfl) (Fr.uI e_d12) rfl))
        have c2_hq : TSq d12 G q := by
          (first | assumption | exact (TSq.fr (by assumption) (Fr.uI e_d12) rfl) | exact (TSq.fr (TSq.fr (by assumption) (Fr.uI e_d11) rfl) (Fr.uI e_d12) rfl) | exact (TSq.fr (TSq.fr (TSq.fr (by assumption) (Fr.uI e_d9) rfl) (Fr.uI e_d11) rfl) (Fr.uI e_d12) rfl) | exact (TSq.fr (TSq.fr (TSq.fr (TSq.fr (by assumption) (Fr.uI e_d8) rfl) (Fr.uI e_d9) rfl) (Fr.uI e_d11) rfl) (Fr.uI e_d12) rfl) | exact (TSq.fr (TSq.fr (TSq.fr (TSq.fr (TSq.fr (by assumption) (Fr.uI e_d5) rfl) (Fr.uI e_d8) rfl) (Fr.uI e_d9) rfl) (Fr.uI e_d11) rfl) (Fr.uI e_d12) rfl) | exact (TSq.fr (TSq.fr (TSq.fr (TSq.fr (TSq.fr (TSq.fr (by assumption) (Fr.uI e_d3) rfl) (Fr.uI e_d5) rfl) (Fr.uI e_d8) rfl) (Fr.uI e_d9) rfl) (Fr.uI e_d11) rfl) (Fr.uI e_d12) rfl) | exact (TSq.fr (TSq.fr (TSq.fr (TSq.fr (TSq.fr (TSq.fr (TSq.fr (by assumption) (Fr.uI e_d1) rfl) (Fr.uI e_d3) rfl) (Fr.uI e_d5) rfl) (Fr.uI e_d8) rfl) (Fr.uI e_d9) rfl) (Fr.uI e_d11) rfl) (Fr.uI e_d12) rfl))
        have c2_hk : QiK q := by
          (first | omega | assumption | (subst_vars; first | omega | assumption) | done)
        have c2_h0 : 0 ≤ (d_I d12 6325 (s_ G 63)) ∧ (d_I d12 6325 (s_ G 63)) ≤ cgW g ∧ 0 ≤ sqM q ∧ sqM q ≤ 4096 := by
          try simp only [rq2]
          (first | omega | assumption | (subst_vars; first | omega | assumption) | done)
        refine w_b (Wp.fr (s_X63_enter hN T_d12 c2_hg c2_hq c2_hk c2_h0) fr_X63_enter) fun d15 h_d15 => ?_
        obtain ⟨⟨T_d15, h_d15⟩, F_d15⟩ := h_d15
        try simp only [rq2] at h_d15
        refine w_some ?_
        refine ⟨T_d15, ?_⟩
        have rq3 : d_I d15 6325 (s_ G 63) = v13 := Eq.trans (congrFun (F_d15.i (i := 6325) rfl) (s_ G 63)) (rdI_s e_d12)
        try simp only [rq3]
        have f15 : d_I d15 6325 (s_ G 63) = d_I D 6325 (s_ G 63) + 1 := by
         have a : d_I d15 6325 = d_I d12 6325 := F_d15.i rfl
         rw [a, rdI_s e_d12, e_v13]
        have tpo : TPo d15 G g q := by
         refine ⟨by omega, fun m z => ?_⟩
         rw [f15] at z
         have k := h_d15.1 (by omega)
         rw [f15, k.1, k.2.1, k.2.2.1]
         rw [e_v13] at k
         have eb := k.2.2.2.2.2.2.1
         have o2 := (hg.1.2.2 (d_I D 6325 (s_ G 63) + 1) (by omega) (by omega))
         refine ⟨k.2.2.2.1, k.2.2.2.2.1, GrpF.z k.2.2.2.2.2 k.2.2.2.2.1 m, ⟨by omega, ?_⟩, by omega, by omega⟩
         by_cases y : cgO g (d_I D 6325 (s_ G 63) + 1) = 0
         · rw [k.2.2.2.2.2.1 y]; exact m
         · have := k.2.2.2.2.2.2.1 y; omega
        refine ⟨tpo, BeT.nx hk f15 rfl rfl tp.1 tp.2.1 (by omega) (by omega) (fun i k i0 i1 k0 k1 => mv_d oo.1.1 tp.2.2.1 (by omega) (by omega) (by omega) (by omega) i0 i1 k0 k1) (fun w k j v ew => ?_), ?_⟩
        · have z := h_d15.1 (by have := v.2.1; omega)
          obtain ⟨i, i0, i1, ei⟩ := z.2.2.2.1.sur v.2.2.1 v.2.2.2.1
          rw [f15, z.1, z.2.1, ← ei]
          rw [e_v13] at z
          rw [ll_px hk z.2.2.2.1 z.2.2.2.2.1 i0 i1 (by omega) (by omega)]
          exact mv_0 (fun y a b a0 ab bM => (GrpF.z z.2.2.2.2.2 z.2.2.2.2.1 h0.2.1).2.2.2.2 y |>.2 a b a0 ab bM) i0 i1 v.2.2.2.2.1
        · by_cases z : d_I D 6325 (s_ G 63) + 1 < cgW g
          · have t2 := TMe_r hg.1 tpo (by omega) h0.2.1 h0.2.2
            rw [f15] at t2
            exact ⟨by omega, by omega, .inr (by omega)⟩
          · have t2 : TMe d15 G g = 0 := by unfold TMe; rw [f15, if_neg z]
            exact ⟨by omega, by omega, .inr (by omega)⟩
      · skip
        have rq4 : d_I d11 6325 (s_ G 63) = d_I D 6325 (s_ G 63) := Eq.trans (rdI_I e_d11 rfl) (Eq.trans (rdI_I e_d9 rfl) (Eq.trans (rdI_I e_d8 rfl) (Eq.trans (rdI_I e_d5 rfl) (Eq.trans (rdI_I e_d3 rfl) (rdI_I e_d1 rfl)))))
        have rq5 : d_I d11 6328 (s_ G 63) = v10 := Eq.trans (rdI_I e_d11 rfl) (rdI_s e_d9)
        have rq6 : d_A d11 6324 (s_ G 63) = d_A D 6324 (s_ G 63) := Eq.trans (rdA_I e_d11) (Eq.trans (rdA_I e_d9) (Eq.trans (rdA_I e_d8) (Eq.trans (rdA_I e_d5) (Eq.trans (rdA_I e_d3) (rdA_I e_d1)))))
        have c3_hg : TCg d11 G g := by
          (first | assumption | exact (TCg.fr (by assumption) (Fr.uI e_d11) rfl) | exact (TCg.fr (TCg.fr (by assumption) (Fr.uI e_d9) rfl) (Fr.uI e_d11) rfl) | exact (TCg.fr (TCg.fr (TCg.fr (by assumption) (Fr.uI e_d8) rfl) (Fr.uI e_d9) rfl) (Fr.uI e_d11) rfl) | exact (TCg.fr (TCg.fr (TCg.fr (TCg.fr (by assumption) (Fr.uI e_d5) rfl) (Fr.uI e_d8) rfl) (Fr.uI e_d9) rfl) (Fr.uI e_d11) rfl) | exact (TCg.fr (TCg.fr (TCg.fr (TCg.fr (TCg.fr (by assumption) (Fr.uI e_d3) rfl) (Fr.uI e_d5) rfl) (Fr.uI e_d8) rfl) (Fr.uI e_d9) rfl) (Fr.uI e_d11) rfl) | exact (TCg.fr (TCg.fr (TCg.fr (TCg.fr (TCg.fr (TCg.fr (by assumption) (Fr.uI e_d1) rfl) (Fr.uI e_d3) rfl) (Fr.uI e_d5) rfl) (Fr.uI e_d8) rfl) (Fr.uI e_d9) rfl) (Fr.uI e_d11) rfl))
        have c3_hq : TSq d11 G q := by
          (first | assumption | exact (TSq.fr (by assumption) (Fr.uI e_d11) rfl) | exact (TSq.fr (TSq.fr (by assumption) (Fr.uI e_d9) rfl) (Fr.uI e_d11) rfl) | exact (TSq.fr (TSq.fr (TSq.fr (by assumption) (Fr.uI e_d8) rfl) (Fr.uI e_d9) rfl) (Fr.uI e_d11) rfl) | exact (TSq.fr (TSq.fr (TSq.fr (TSq.fr (by assumption) (Fr.uI e_d5) rfl) (Fr.uI e_d8) rfl) (Fr.uI e_d9) rfl) (Fr.uI e_d11) rfl) | exact (TSq.fr (TSq.fr (TSq.fr (TSq.fr (TSq.fr (by assumption) (Fr.uI e_d3) rfl) (Fr.uI e_d5) rfl) (Fr.uI e_d8) rfl) (Fr.uI e_d9) rfl) (Fr.uI e_d11) rfl) | exact (TSq.fr (TSq.fr (TSq.fr (TSq.fr (TSq.fr (TSq.fr (by assumption) (Fr.uI e_d1) rfl) (Fr.uI e_d3) rfl) (Fr.uI e_d5) rfl) (Fr.uI e_d8) rfl) (Fr.uI e_d9) rfl) (Fr.uI e_d11) rfl))
        have c3_h0 : 0 ≤ (d_I d11 6325 (s_ G 63)) ∧ (d_I d11 6325 (s_ G 63)) < cgW g ∧ 0 ≤ (d_I d11 6328 (s_ G 63)) ∧ (0 < sqM q → (d_I d11 6328 (s_ G 63)) < sqM q) ∧ (sqM q = 0 → (d_I d11 6328 (s_ G 63)) = 0) ∧ 0 ≤ sqM q ∧ sqM q ≤ 4096 := by
          try simp only [rq4, rq5]
          (first | omega | assumption | (subst_vars; first | omega | assumption) | done)
        have c3_hp : PmN (sqM q) (d_A d11 6324 (s_ G 63)) := by
          try simp only [rq6]
          exact tp.1
        refine w_b (Wp.fr (s_X63_findGroup hN T_d11 c3_hg c3_hq c3_h0 c3_hp) fr_X63_findGroup) fun d17 h_d17 => ?_
        obtain ⟨⟨T_d17, h_d17⟩, F_d17⟩ := h_d17
        try simp only [rq4, rq6, rq5] at h_d17
        refine w_some ?_
        refine ⟨T_d17, ?_⟩
        have rq7 : d_I d17 6325 (s_ G 63) = d_I D 6325 (s_ G 63) := Eq.trans (congrFun (F_d17.i (i := 6325) rfl) (s_ G 63)) (Eq.trans (rdI_I e_d11 rfl) (Eq.trans (rdI_I e_d9 rfl) (Eq.trans (rdI_I e_d8 rfl) (Eq.trans (rdI_I e_d5 rfl) (Eq.trans (rdI_I e_d3 rfl) (rdI_I e_d1 rfl))))))
        try simp only [rq7]
        have g25 : d_I d17 6325 (s_ G 63) = d_I D 6325 (s_ G 63) := by
         have a : d_I d17 6325 = d_I d11 6325 := F_d17.i rfl
         rw [a]; exact Eq.trans (rdI_I e_d11 rfl) (Eq.trans (rdI_I e_d9 rfl) f25)
        have g24 : d_A d17 6324 (s_ G 63) = d_A D 6324 (s_ G 63) := by
         have a : d_A d17 6324 = d_A d11 6324 := F_d17.a rfl
         rw [a, e_d11, e_d9, e_d8, e_d5, e_d3, e_d1]; rfl
        have g28 : d_I d17 6328 (s_ G 63) = v10 := by
         have a : d_I d17 6328 = d_I d11 6328 := F_d17.i rfl
         rw [a]; exact Eq.trans (rdI_I e_d11 rfl) (rdI_s e_d9)
        have g29 : d_I d17 6329 (s_ G 63) = v10 := by
         have a : d_I d17 6329 = d_I d11 6329 := F_d17.i rfl
         rw [a]; exact rdI_s e_d11
        have g26 : d_I d17 6326 (s_ G 63) = 0 := by
         have a : d_I d17 6326 = d_I d11 6326 := F_d17.i rfl
         rw [a]; exact Eq.trans (rdI_I e_d11 rfl) (Eq.trans (rdI_I e_d9 rfl) (rdI_s e_d8))
        have nf := tp.2.2.1.nx (by rw [e_v10] at h_d17; exact h_d17) (by omega) (by omega)
        have eb := nf.1.2.2.1 h0.2.1
        have eb2 : v10 < d_I d17 6327 (s_ G 63) := by
         have y : cgO g (d_I D 6325 (s_ G 63)) ≠ 0 := fun y => by have := tp.2.2.1.1.1 y; omega
         have := nf.1.2.1 y; omega
        refine ⟨⟨by omega, fun m z => ?_⟩, BeT.st hk g25 g24 rfl rfl g29 g26 tp.1 tp.2.1 (by omega) (by omega) (by omega) (by omega) (fun i k i0 i1 k0 k1 => ?_), ?_⟩
        · rw [g25, g24, g28, g29, g26]
          exact ⟨tp.1, tp.2.1, by rw [e_v10]; exact nf, ⟨by omega, eb2⟩, by omega, by omega⟩
        · rw [e_v10]
          exact mv_c oo.1.1 tp.2.2.1 (by omega) (by omega) (by omega) (by omega) i0 i1 k0 k1
        · refine and_assoc.mp ⟨?_, .inl (by first | trivial | exact g25)⟩
          unfold TMe
          rw [g25, g28, g29, g26, if_pos h0.1, if_pos h0.1, Int.zero_mul, e_v10]
          have u : (cgL g (d_I D 6325 (s_ G 63)) - 1) * (d_I D 6327 (s_ G 63) - d_I D 6328 (s_ G 63)) = d_I D 6327 (s_ G 63) * cgL g (d_I D 6325 (s_ G 63)) - d_I D 6328 (s_ G 63) * cgL g (d_I D 6325 (s_ G 63)) - (d_I D 6327 (s_ G 63) - d_I D 6328 (s_ G 63)) := by rw [Int.sub_mul, Int.one_mul, Int.mul_sub, Int.mul_comm (cgL g _) (d_I D 6327 _), Int.mul_comm (cgL g _) (d_I D 6328 _)]
          rw [show cgL g (d_I D 6325 (s_ G 63)) - 1 = d_I D 6326 (s_ G 63) by omega] at u
          have ir := idx_r g0 tp.2.2.2.1.1 tp.2.2.2.1.2 em h0.2.2 tp.2.2.2.2.1 tp.2.2.2.2.2 oo.2.1.2
          omega
    · skip
      refine w_some ?_
      refine ⟨T_d5, ?_⟩
      try simp only [rq1]
      have g25 : d_I d5 6325 (s_ G 63) = d_I D 6325 (s_ G 63) := Eq.trans (rdI_I e_d5 rfl) (Eq.trans (rdI_I e_d3 rfl) (rdI_I e_d1 rfl))
      have g24 : d_A d5 6324 (s_ G 63) = d_A D 6324 (s_ G 63) := by rw [e_d5, e_d3, e_d1]; rfl
      have g28 : d_I d5 6328 (s_ G 63) = d_I D 6328 (s_ G 63) := Eq.trans (rdI_I e_d5 rfl) (Eq.trans (rdI_I e_d3 rfl) (rdI_I e_d1 rfl))
      have g27 : d_I d5 6327 (s_ G 63) = d_I D 6327 (s_ G 63) := Eq.trans (rdI_I e_d5 rfl) (Eq.trans (rdI_I e_d3 rfl) (rdI_I e_d1 rfl))
      have g29 : d_I d5 6329 (s_ G 63) = v6 := rdI_s e_d5
      have g26 : d_I d5 6326 (s_ G 63) = v4 := Eq.trans (rdI_I e_d5 rfl) (rdI_s e_d3)
      refine ⟨⟨by omega, fun m z => ?_⟩, BeT.st hk g25 g24 rfl rfl g29 g26 tp.1 tp.2.1 (by omega) (by omega) (by omega) (by omega) (fun i k i0 i1 k0 k1 => ?_), ?_⟩
      · rw [g25, g24, g28, g29, g26, g27]
        exact ⟨tp.1, tp.2.1, tp.2.2.1, by omega, by omega, by omega⟩
      · rw [e_v4, e_v6]
        exact mv_b oo.1.1 tp.2.2.1 (by omega) (by omega) (by omega) (by omega) i0 i1 k0 k1
      · refine and_assoc.mp ⟨?_, .inl (by first | trivial | exact g25)⟩
        unfold TMe
        rw [g25, g28, g29, g26, g27, if_pos h0.1, if_pos h0.1, e_v4, e_v6, Int.add_mul, Int.one_mul]
        have ir := idx_r g0 (show d_I D 6328 (s_ G 63) ≤ d_I D 6328 (s_ G 63) by omega) (show d_I D 6328 (s_ G 63) < d_I D 6327 (s_ G 63) by omega) em h0.2.2 (show 0 ≤ d_I D 6326 (s_ G 63) + 1 by omega) (by omega) oo.2.1.2
        rw [Int.add_mul, Int.one_mul] at ir
        omega
  · skip
    refine w_some ?_
    refine ⟨T_d1, ?_⟩
    have rq8 : d_I d1 6325 (s_ G 63) = d_I D 6325 (s_ G 63) := rdI_I e_d1 rfl
    try simp only [rq8]
    have g25 : d_I d1 6325 (s_ G 63) = d_I D 6325 (s_ G 63) := rdI_I e_d1 rfl
    have g24 : d_A d1 6324 (s_ G 63) = d_A D 6324 (s_ G 63) := by rw [e_d1]; rfl
    have g28 : d_I d1 6328 (s_ G 63) = d_I D 6328 (s_ G 63) := rdI_I e_d1 rfl
    have g27 : d_I d1 6327 (s_ G 63) = d_I D 6327 (s_ G 63) := rdI_I e_d1 rfl
    have g29 : d_I d1 6329 (s_ G 63) = v2 := rdI_s e_d1
    have g26 : d_I d1 6326 (s_ G 63) = d_I D 6326 (s_ G 63) := rdI_I e_d1 rfl
    refine ⟨⟨by omega, fun m z => ?_⟩, BeT.st hk g25 g24 rfl rfl g29 g26 tp.1 tp.2.1 (by omega) (by omega) (by omega) (by omega) (fun i k i0 i1 k0 k1 => ?_), ?_⟩
    · rw [g25, g24, g28, g29, g26, g27]
      exact ⟨tp.1, tp.2.1, tp.2.2.1, by omega, by omega, by omega⟩
    · rw [e_v2]
      exact mv_a oo.1.1 tp.2.2.1 (by omega) (by omega) i0 i1
    · refine and_assoc.mp ⟨?_, .inl (by first | trivial | exact g25)⟩
      unfold TMe
      rw [g25, g28, g29, g26, g27, if_pos h0.1, if_pos h0.1, e_v2]
      have ir := idx_r g0 (show d_I D 6328 (s_ G 63) ≤ d_I D 6329 (s_ G 63) + 1 by omega) (show d_I D 6329 (s_ G 63) + 1 < d_I D 6327 (s_ G 63) by omega) em h0.2.2 tp.2.2.2.2.1 tp.2.2.2.2.2 oo.2.1.2
      omega
