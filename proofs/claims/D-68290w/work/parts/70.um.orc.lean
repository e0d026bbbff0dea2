/-! specifications, printed by gen/mks.py -/
set_option maxRecDepth 100000
theorem MgT.blk {D d2 d3 : Dt} {G : Gt} {od : Od} {g : Cg} {q : Sq} {w : Int} {ch : Nat} {b : Option Nat} (h : MgT D G od g q w ch) (hf : FsB D G od g w b (oNC od) 0) (hg : d_I D 2805 (s_ G 28) < d_I D 2806 (s_ G 28)) (e2 : d2 = u_R D 2804 (s_ G 28) b) (e3 : d3 = u_I d2 2603 (s_ G 28) 0) :
    (b ≠ none → MgT d3 G od g q w ch ∧ MgC d3 G od g q w ∧ (∀ k l, VdT g q w k l → (BmC d3 G q k l ↔ atK D G q k ≤ sqNm q k)) ∧ mMe d3 G q ≤ 2 * cntK (toK D G q) (sqM q).toNat + 2 * max 0 (d_I D 2806 (s_ G 28) - d_I D 2805 (s_ G 28))) ∧
    (b = none → ∀ d4, d4 = u_I d3 2805 (s_ G 28) (d_I D 2805 (s_ G 28) + 1) → MgT d4 G od g q w ch ∧ MgC d4 G od g q w ∧ (∀ k l, VdT g q w k l → (BmC d4 G q k l ↔ atK D G q k ≤ sqNm q k)) ∧ mMe d4 G q ≤ 2 * cntK (toK D G q) (sqM q).toNat + 2 * max 0 (d_I D 2806 (s_ G 28) - d_I D 2805 (s_ G 28))) := by
  rw [e2] at e3
  have g3 := h.go hf e3
  obtain ⟨g1, g2, g4, g5, g6, g7, g8, g9⟩ := g3
  refine ⟨fun nb => ⟨g1, g2 nb, fun k l v => ?_, ?_⟩, fun nb d4 e4 => ?_⟩
  · rw [BmC.zero g6 v.1.2.2.2.2.1, g4]
  · unfold mMe
    rw [g9, g7, g8, g5, if_neg nb]; omega
  · have F : Fr [2804, 2603] D d3 := by rw [e3]; exact (Fr.rf.R rfl).I rfl
    have nq : ∀ c r, ¬ Qfy d3 G od g w c r := fun c r Q => by
      rcases hf with ⟨-, h2⟩ | ⟨st, c', r', h1, -⟩
      · refine h2 c r (.inl Q.1.1.2) ⟨Q.1, Q.2.1, ?_, ?_⟩
        · rw [← g7]; exact Q.2.2.1
        · rw [← mtA_fr F rfl]; exact Q.2.2.2
      · rw [nb] at h1; exact absurd h1 (by simp)
    rw [nb] at g5
    have k3 := g1.gn (D' := d4) nq g5 (by rw [g7, g8]; exact hg) (by rw [g7]; exact e4)
    obtain ⟨k1, k2, k4, k5, k6, k7, k8, k9⟩ := k3
    rw [g6] at k6
    refine ⟨k1, k2, fun k l v => ?_, ?_⟩
    · rw [BmC.zero k6 v.1.2.2.2.2.1, k4, g4]
    · unfold mMe
      rw [k9, g9, k7, k8, g7, g8, k5, if_pos rfl]; omega
theorem mMe_u {D : Dt} {G : Gt} {od : Od} {g : Cg} {q : Sq} {w : Int} {ch : Nat} (hT : Ty D) (h : MgT D G od g q w ch) : mMe D G q ≤ 100000 ∧ 0 ≤ mMe D G q := by
  have c := cntK_r (f := toK D G q) toK_r (sqM q).toNat
  have m := h.2.1.1
  have n := h.1.1.2.1
  have a := ty_2805 hT (s_ G 28)
  have b := ty_2806 hT (s_ G 28)
  unfold mMe
  split <;> omega
set_option maxHeartbeats 8000000 in
theorem s_X28_next_0 {N : Nat} {od : Od} {g : Cg} {q : Sq} {w : Int} {ch : Nat} {B0 : Int → Int → Prop} {C0 : Fz} (hN : 1099511627776 ≤ N) (n : Nat) : ∀ {G : Gt} {D : Dt}, Ty D → (MgT D G od g q w ch) → (MgC D G od g q w) → (∀ k l, Cnd g q C0 w k l → B0 k l → BmC D G q k l) → (∀ k l, VdT g q w k l → BmC D G q k l → B0 k l) → (∀ i, d_A D 2305 (s_ G 23) i = C0 i) → max 0 (mMe D G q) < n → Wp (q_X28_next_0 N n G D) (fun o => (fun r D' => Ty D' ∧ ((∃ k l, StpW g q w B0 C0 r k l (BmC D' G q) (d_A D' 2305 (s_ G 23)) ∧ (r ≠ 0 → NwP D' G od k l)) ∧ MgT D' G od g q w ch ∧ MgC D' G od g q w)) o.1 o.2) := by
  induction n with
  | zero =>
    intro G D hT hS hC hA hB hZ hm; exfalso; omega
  | succ n ih =>
    intro G D hT hS hC hA hB hZ hm
    show Wp (q_X28_next_0 N (n + 1) G D) _
    rw [q_X28_next_0]
    have t1 := ty_2806 hT (s_ G 28)
    have t2 := ty_2805 hT (s_ G 28)
    refine w_ite (fun hc1 => ?_) (fun hc1 => ?_)
    · skip
      refine w_some ?_
      try dsimp only
      refine ⟨hT, ?_⟩
      exact ⟨⟨0, 0, ⟨fun _ => ⟨fun k l cn b => hS.dn (by assumption) ⟨cn.1, cn.2.1⟩ (hA k l cn b), fun k l v => hS.dn (by assumption) v, fun i _ _ => hZ i⟩, fun z => absurd rfl z⟩, fun z => absurd rfl z⟩, hS, hC⟩
    · skip
      have t3 := ty_2603 hT (s_ G 28)
      have c1_hM : MgP D G od g w ch := by
        exact hS.1
      have c1_hc : LyrI D G od g w (d_I D 2603 (s_ G 28)) (d_A D 2305 (s_ G 23)) := by
        rcases hC with y | ⟨st, c, lr, h8, sI, Q, lb, -⟩
        · exact .inl y
        · exact .inr ⟨st, c, lr, h8, sI, Q.1, Q.2.2.2, ⟨lb.1, Int.le_refl _, lb.2⟩, fun l a b => absurd a (by omega)⟩
      refine w_b2 (Wp.fr (s_X28_layers (od := od) (g := g) (w := w) (ch := ch) hN hT c1_hM c1_hc) fr_X28_layers) fun v3 d2 h_v3 => ?_
      obtain ⟨⟨T_d2, h_v3⟩, F_d2⟩ := h_v3
      try dsimp only at T_d2 h_v3 F_d2
      have hq := hS.2.1
      have S2 : MgT d2 G od g q w ch := hS.fr F_d2 rfl
      have em2 : mtA d2 G = mtA D G := mtA_fr F_d2 rfl
      have g55 : d_I d2 2805 (s_ G 28) = d_I D 2805 (s_ G 28) := by rw [F_d2.i (i := 2805) rfl]
      have g66 : d_I d2 2806 (s_ G 28) = d_I D 2806 (s_ G 28) := by rw [F_d2.i (i := 2806) rfl]
      have e88 : d_R d2 2804 = d_R D 2804 := F_d2.r (i := 2804) rfl
      have ea2 : atK d2 G q = atK D G q := by funext k; unfold atK; rw [em2]
      refine w_ite (fun hc2 => ?_) (fun hc2 => ?_)
      · skip
        obtain ⟨z1, z2, z3⟩ := h_v3.1 (by assumption)
        have C2 : ∀ i, d_A d2 2305 (s_ G 23) i = C0 i := fun i => (z1 i).trans (hZ i)
        have cE : d_A D 2305 (s_ G 23) = C0 := funext hZ
        rw [cE] at z2
        have ly := BmC.ly (g := g) (w := w) hS.1.1 hq F_d2 rfl S2.1.1 z2
        have hA2 : ∀ k l, Cnd g q C0 w k l → B0 k l → BmC d2 G q k l := fun k l cn b => ly.1 k l cn (hA k l cn b)
        have hB2 : ∀ k l, VdT g q w k l → BmC d2 G q k l → B0 k l := fun k l v b => hB k l v (ly.2 k l v b)
        have mD : mMe D G q = mMe d2 G q := by unfold mMe; rw [toK_fr F_d2 rfl, g55, g66, e88]
        refine w_ite (fun hc3 => ?_) (fun hc3 => ?_)
        · skip
          have h28 : d_R d2 2804 (s_ G 28) = none := by rw [e88]; exact hc3
          have bN : ∀ k l, VdT g q w k l → (BmC d2 G q k l ↔ atK d2 G q k ≤ sqNm q k) := fun k l v => BmC.non S2.1.1 hq h28 v.1.2.2.1 v.1.2.2.2.1
          have mN : mMe d2 G q = 2 * cntK (toK d2 G q) (sqM q).toNat + 2 * max 0 (d_I d2 2806 (s_ G 28) - d_I d2 2805 (s_ G 28)) + 1 := by
           unfold mMe; rw [if_pos h28]
          refine w_un (q_X28_next_40.eq_1 ..) ?_
          have c2_hM : MgP d2 G od g w ch := by
            first | exact S2.1 | exact at6.1.1
          refine w_b (s_X28_first hN T_d2 c2_hM) fun w1 h_w1 => ?_
          refine w_let fun d2_2 e_d2_2 => ?_
          have T_d2_2 : Ty d2_2 := tyR e_d2_2 T_d2
          refine w_let fun d3 e_d3 => ?_
          have T_d3 : Ty d3 := tyI_2603 e_d3 T_d2_2 (by (first | omega | assumption | (subst_vars; first | omega | assumption) | done))
          have bq0 := S2.blk h_w1 (by rw [g55, g66]; omega) e_d2_2 e_d3
          refine w_ite (fun hc4 => ?_) (fun hc4 => ?_)
          · skip
            have w1n : w1 = none := by
             have : d_R d2_2 2804 (s_ G 28) = w1 := by
              rw [e_d2_2]
              show (if 2804 = 2804 ∧ s_ G 28 = s_ G 28 then w1 else _) = w1
              rw [if_pos ⟨rfl, rfl⟩]
             rw [← this]; assumption
            have rq1 : d_I d2 2805 (s_ G 28) = d_I D 2805 (s_ G 28) := congrFun (F_d2.i (i := 2805) rfl) (s_ G 28)
            refine w_gd (by (try simp only [rq1]); (first | omega | assumption | (subst_vars; first | omega | assumption) | done)) ?_
            refine w_let fun v5 e_v5 => ?_
            try simp only [rq1] at e_v5
            refine w_let fun d4 e_d4 => ?_
            have T_d4 : Ty d4 := tyI_2805 e_d4 T_d3 (by (first | omega | assumption | (subst_vars; first | omega | assumption) | done))
            have bq4 := bq0.2 w1n d4 (by rw [e_d4, e_v5, g55])
            have F4 : Fr [2804, 2603, 2805] d2 d4 := by rw [e_d4, e_d3, e_d2_2]; exact ((Fr.rf.R rfl).I rfl).I rfl
            have j1_hS : MgT d4 G od g q w ch := by
              exact bq4.1
            have j1_hC : MgC d4 G od g q w := by
              exact bq4.2.1
            have j1_hA : ∀ k l, Cnd g q C0 w k l → B0 k l → BmC d4 G q k l := by
              exact fun k l cn b => (bq4.2.2.1 k l ⟨cn.1, cn.2.1⟩).mpr ((bN k l ⟨cn.1, cn.2.1⟩).mp (hA2 k l cn b))
            have j1_hB : ∀ k l, VdT g q w k l → BmC d4 G q k l → B0 k l := by
              exact fun k l v b => hB2 k l v ((bN k l v).mpr ((bq4.2.2.1 k l v).mp b))
            have j1_hZ : ∀ i, d_A d4 2305 (s_ G 23) i = C0 i := by
              intro i; rw [F4.a (i := 2305) rfl]; exact C2 i
            have j1_hm : max 0 (mMe d4 G q) < n := by
              have := bq4.2.2.2; have := (mMe_u hT hS).2; omega
            exact ih T_d4 j1_hS j1_hC j1_hA j1_hB j1_hZ j1_hm
          · skip
            have w1s : w1 ≠ none := by
             have : d_R d2_2 2804 (s_ G 28) = w1 := by
              rw [e_d2_2]
              show (if 2804 = 2804 ∧ s_ G 28 = s_ G 28 then w1 else _) = w1
              rw [if_pos ⟨rfl, rfl⟩]
             rw [← this]; assumption
            have bq3 := bq0.1 w1s
            have F3 : Fr [2804, 2603] d2 d3 := by rw [e_d3, e_d2_2]; exact (Fr.rf.R rfl).I rfl
            have j2_hS : MgT d3 G od g q w ch := by
              exact bq3.1
            have j2_hC : MgC d3 G od g q w := by
              exact bq3.2.1
            have j2_hA : ∀ k l, Cnd g q C0 w k l → B0 k l → BmC d3 G q k l := by
              exact fun k l cn b => (bq3.2.2.1 k l ⟨cn.1, cn.2.1⟩).mpr ((bN k l ⟨cn.1, cn.2.1⟩).mp (hA2 k l cn b))
            have j2_hB : ∀ k l, VdT g q w k l → BmC d3 G q k l → B0 k l := by
              exact fun k l v b => hB2 k l v ((bN k l v).mpr ((bq3.2.2.1 k l v).mp b))
            have j2_hZ : ∀ i, d_A d3 2305 (s_ G 23) i = C0 i := by
              intro i; rw [F3.a (i := 2305) rfl]; exact C2 i
            have j2_hm : max 0 (mMe d3 G q) < n := by
              have := bq3.2.2.2; have := (mMe_u hT hS).2; omega
            exact ih T_d3 j2_hS j2_hC j2_hA j2_hB j2_hZ j2_hm
        · skip
          obtain ⟨st, c, lr, h8, sI, Q, lb, hmin⟩ : ∃ st c r, d_R D 2804 (s_ G 28) = some st ∧ StrI D G od c r st ∧ Qfy D G od g w c r ∧ (0 ≤ d_I D 2603 (s_ G 28) ∧ d_I D 2603 (s_ G 28) ≤ cgL g w) ∧ ∀ k, tkK g q w k → atK D G q k ≤ sqNm q k → k = opF od c r + mtA D G c r ∨ ll (sqK q (cgO g w) (opF od c r + mtA D G c r)) (sqK q (cgO g w) k) := by
           rcases hC with y | y
           · exact absurd y hc3
           · exact y
          have h82 : d_R d2 2804 (s_ G 28) = some st := by rw [e88]; exact h8
          have sI2 : StrI d2 G od c lr st := sI.fr F_d2 rfl
          have z4 := z3 (by rw [h82]; simp)
          have Q2 : Qfy d2 G od g w c lr := ⟨Q.1, Q.2.1, by rw [g55]; exact Q.2.2.1, by rw [em2]; exact Q.2.2.2⟩
          have hmin2 : ∀ k, tkK g q w k → atK d2 G q k ≤ sqNm q k → k = opF od c lr + mtA d2 G c lr ∨ ll (sqK q (cgO g w) (opF od c lr + mtA d2 G c lr)) (sqK q (cgO g w) k) := by rw [ea2, em2]; exact hmin
          have a76 : d_I D 7604 st = mtA D G c lr := sI.at
          have ml := Q.2.2.2
          have m0 := (hS.1.2.2.2.2 c lr Q.1).1
          have fb := opF_b hS.1.1.1 Q.1.1.1 Q.1.1.2 Q.1.2.1 Q.1.2.2
          have n96 := hS.1.1.2.1
          refine w_let fun v4 e_v4 => ?_
          refine w_on (by (first | (rw [h8]; exact Option.some_ne_none _) | (rw [e_v4, h8]; exact Option.some_ne_none _) | (rw [e_v4, h82]; exact Option.some_ne_none _))) fun b5 e_b5 => ?_
          have E5 : b5 = st := by
           rw [e_v4] at e_b5
           first | (rw [h8] at e_b5; exact (Option.some.inj e_b5).symm) | (rw [h82] at e_b5; exact (Option.some.inj e_b5).symm)
          have t4 := ty_7604 hT b5
          refine w_gd (by (first | omega | assumption | (subst_vars; first | omega | assumption) | done)) ?_
          refine w_let fun v7 e_v7 => ?_
          have e7 : v7 = mtA D G c lr + 1 := by rw [e_v7, E5, a76]
          refine w_let fun d6 e_d6 => ?_
          have T_d6 : Ty d6 := tyI_7604 e_d6 T_d2 (by (first | omega | assumption | (subst_vars; first | omega | assumption) | done))
          have at6 := S2.at sI2 Q2 hmin2 (D' := d6) (by rw [e_d6, E5, e7, em2])
          have F6 : Fr [7604] d2 d6 := by rw [e_d6]; exact Fr.rf.I rfl
          have pv : PcV od c lr (mtA d2 G c lr) := ⟨Q2.1.1, Q2.1.2, by rw [em2]; exact m0, Q2.2.2.2⟩
          have kr := pv.k hq hS.1.1.1
          have fq := hq.2 c lr _ pv
          have le6 : ∀ k, 0 ≤ k → k < sqM q → atK d2 G q k ≤ atK d6 G q k := fun k k0 k1 => by
           rw [at6.2 k k0 k1]; split <;> omega
          have bF : ∀ k l, VdT g q w k l → (BmC d2 G q k l ↔ atK d6 G q k ≤ sqNm q k) := fun k l v => by
           rw [BmC.full S2.1.1 hq h82 sI2 Q2.1 (by omega) v, at6.2 k v.1.2.2.1 v.1.2.2.2.1]
           by_cases z : sqC q k = c ∧ sqV q k = lr
           · rw [if_pos z]; constructor
             · intro y; rcases y with y | y
               · omega
               · exact absurd z y.2
             · intro y; exact .inl (by omega)
           · rw [if_neg z]; constructor
             · intro y; omega
             · intro y
               by_cases x : atK d2 G q k = sqNm q k
               · exact .inr ⟨x, z⟩
               · exact .inl (by omega)
          have ct : cntK (toK d6 G q) (sqM q).toNat < cntK (toK d2 G q) (sqM q).toNat := by
           refine cntK_lt (j := opF od c lr + mtA d2 G c lr) kr.1 ?_ _ (fun i i0 i1 => ?_) (by omega)
           · have a := at6.2 _ kr.1 kr.2
             rw [fq.1, fq.2.1, if_pos ⟨rfl, rfl⟩] at a
             have b : atK d2 G q (opF od c lr + mtA d2 G c lr) = mtA d2 G c lr := by unfold atK; rw [fq.1, fq.2.1]
             unfold toK
             rw [a, b, fq.2.2.1, if_neg (by omega), if_pos (Int.le_refl _)]
             decide
           · have a := le6 i i0 (by omega)
             unfold toK
             split <;> split <;> omega
          have g57 : d_I d6 2805 (s_ G 28) = d_I D 2805 (s_ G 28) := by rw [F6.i (i := 2805) rfl]; exact g55
          have g67 : d_I d6 2806 (s_ G 28) = d_I D 2806 (s_ G 28) := by rw [F6.i (i := 2806) rfl]; exact g66
          have mF : 2 * cntK (toK d6 G q) (sqM q).toNat + 2 * max 0 (d_I d6 2806 (s_ G 28) - d_I d6 2805 (s_ G 28)) < mMe D G q := by
           rw [mD]
           unfold mMe
           rw [if_neg (by rw [h82]; simp), g57, g67, g55, g66]; omega
          have c06 := (cntK_r (f := toK d6 G q) toK_r (sqM q).toNat).1
          refine w_un (q_X28_next_40.eq_1 ..) ?_
          have c3_hM : MgP d6 G od g w ch := by
            first | exact S2.1 | exact at6.1.1
          refine w_b (s_X28_first hN T_d6 c3_hM) fun w1_2 h_w1_2 => ?_
          refine w_let fun d2_3 e_d2_3 => ?_
          have T_d2_3 : Ty d2_3 := tyR e_d2_3 T_d6
          refine w_let fun d3_2 e_d3_2 => ?_
          have T_d3_2 : Ty d3_2 := tyI_2603 e_d3_2 T_d2_3 (by (first | omega | assumption | (subst_vars; first | omega | assumption) | done))
          have bq0 := at6.1.blk h_w1_2 (by rw [g57, g67]; omega) e_d2_3 e_d3_2
          refine w_ite (fun hc5 => ?_) (fun hc5 => ?_)
          · skip
            have w1n : w1_2 = none := by
             have : d_R d2_3 2804 (s_ G 28) = w1_2 := by
              rw [e_d2_3]
              show (if 2804 = 2804 ∧ s_ G 28 = s_ G 28 then w1_2 else _) = w1_2
              rw [if_pos ⟨rfl, rfl⟩]
             rw [← this]; assumption
            have rq2 : d_I d6 2805 (s_ G 28) = d_I D 2805 (s_ G 28) := Eq.trans (rdI_I e_d6 rfl) (congrFun (F_d2.i (i := 2805) rfl) (s_ G 28))
            refine w_gd (by (try simp only [rq2]); (first | omega | assumption | (subst_vars; first | omega | assumption) | done)) ?_
            refine w_let fun v5_2 e_v5_2 => ?_
            try simp only [rq2] at e_v5_2
            refine w_let fun d4_2 e_d4_2 => ?_
            have T_d4_2 : Ty d4_2 := tyI_2805 e_d4_2 T_d3_2 (by (first | omega | assumption | (subst_vars; first | omega | assumption) | done))
            have bq4 := bq0.2 w1n d4_2 (by rw [e_d4_2, e_v5_2, g57])
            have F4 : Fr [7604, 2804, 2603, 2805] d2 d4_2 := by rw [e_d4_2, e_d3_2, e_d2_3, e_d6]; exact (((Fr.rf.I rfl).R rfl).I rfl).I rfl
            have j3_hS : MgT d4_2 G od g q w ch := by
              exact bq4.1
            have j3_hC : MgC d4_2 G od g q w := by
              exact bq4.2.1
            have j3_hA : ∀ k l, Cnd g q C0 w k l → B0 k l → BmC d4_2 G q k l := by
              exact fun k l cn b => (bq4.2.2.1 k l ⟨cn.1, cn.2.1⟩).mpr ((bF k l ⟨cn.1, cn.2.1⟩).mp (hA2 k l cn b))
            have j3_hB : ∀ k l, VdT g q w k l → BmC d4_2 G q k l → B0 k l := by
              exact fun k l v b => hB2 k l v ((bF k l v).mpr ((bq4.2.2.1 k l v).mp b))
            have j3_hZ : ∀ i, d_A d4_2 2305 (s_ G 23) i = C0 i := by
              intro i; rw [F4.a (i := 2305) rfl]; exact C2 i
            have j3_hm : max 0 (mMe d4_2 G q) < n := by
              have := bq4.2.2.2; have := (mMe_u hT hS).2; omega
            exact ih T_d4_2 j3_hS j3_hC j3_hA j3_hB j3_hZ j3_hm
          · skip
            have w1s : w1_2 ≠ none := by
             have : d_R d2_3 2804 (s_ G 28) = w1_2 := by
              rw [e_d2_3]
              show (if 2804 = 2804 ∧ s_ G 28 = s_ G 28 then w1_2 else _) = w1_2
              rw [if_pos ⟨rfl, rfl⟩]
             rw [← this]; assumption
            have bq3 := bq0.1 w1s
            have F3 : Fr [7604, 2804, 2603] d2 d3_2 := by rw [e_d3_2, e_d2_3, e_d6]; exact ((Fr.rf.I rfl).R rfl).I rfl
            have j4_hS : MgT d3_2 G od g q w ch := by
              exact bq3.1
            have j4_hC : MgC d3_2 G od g q w := by
              exact bq3.2.1
            have j4_hA : ∀ k l, Cnd g q C0 w k l → B0 k l → BmC d3_2 G q k l := by
              exact fun k l cn b => (bq3.2.2.1 k l ⟨cn.1, cn.2.1⟩).mpr ((bF k l ⟨cn.1, cn.2.1⟩).mp (hA2 k l cn b))
            have j4_hB : ∀ k l, VdT g q w k l → BmC d3_2 G q k l → B0 k l := by
              exact fun k l v b => hB2 k l v ((bF k l v).mpr ((bq3.2.2.1 k l v).mp b))
            have j4_hZ : ∀ i, d_A d3_2 2305 (s_ G 23) i = C0 i := by
              intro i; rw [F3.a (i := 2305) rfl]; exact C2 i
            have j4_hm : max 0 (mMe d3_2 G q) < n := by
              have := bq3.2.2.2; have := (mMe_u hT hS).2; omega
            exact ih T_d3_2 j4_hS j4_hC j4_hA j4_hB j4_hZ j4_hm
      · skip
        refine w_some ?_
        try dsimp only
        refine ⟨T_d2, ?_⟩
        obtain ⟨st2, c2, lr2, t1', t2', pvl, t3', t4', t5', t6', t7', t8'⟩ := h_v3.2 (by assumption)
        have cE : d_A D 2305 (s_ G 23) = C0 := funext hZ
        rcases hC with y | ⟨st, c, lr, h8, sI, Q, lb, hmin⟩
        · rw [e88, y] at t1'; exact absurd t1' (by simp)
        · have es : st2 = st := by rw [e88, h8] at t1'; exact (Option.some.inj t1').symm
          subst es
          have sI2 : StrI d2 G od c lr st2 := sI.fr F_d2 rfl
          obtain ⟨u1, u2⟩ := t2'.u S2.1.1 sI2 pvl Q.1
          subst u1; subst u2
          rw [em2, cE] at t4' t5' t6'
          rw [em2] at t8'
          have m0 := (hS.1.2.2.2.2 c2 lr2 Q.1).1
          have pv : PcV od c2 lr2 (mtA D G c2 lr2) := ⟨Q.1.1, Q.1.2, m0, Q.2.2.2⟩
          refine ⟨⟨_, _, StpW.mg hS h8 sI Q hmin hA hB ⟨lb.1, t3'.1, t3'.2.1⟩ t4' t5' t3'.2.2 F_d2 rfl (fun i _ _ => t6' i) (by decide), fun _ => ⟨c2, lr2, _, st2, pv, rfl, rfl, t8', t7', sI2⟩⟩, S2, .inr ⟨st2, c2, lr2, t1', sI2, ⟨Q.1, Q.2.1, by rw [g55]; exact Q.2.2.1, by rw [em2]; exact Q.2.2.2⟩, by omega, by rw [ea2, em2]; exact hmin⟩⟩
set_option maxHeartbeats 8000000 in
theorem s_X28_next {N : Nat} {G : Gt} {D : Dt} (hN : 1099511627776 ≤ N) {od : Od} {g : Cg} {q : Sq} {w : Int} {ch : Nat} (hT : Ty D) (hS : MgT D G od g q w ch) (hC : MgC D G od g q w) : Wp (q_X28_next N G D) (fun o => (fun r D' => Ty D' ∧ ((∃ k l, StpW g q w (BmC D G q) (d_A D 2305 (s_ G 23)) r k l (BmC D' G q) (d_A D' 2305 (s_ G 23)) ∧ (r ≠ 0 → NwP D' G od k l)) ∧ MgT D' G od g q w ch ∧ MgC D' G od g q w)) o.1 o.2) := by
  refine w_un (q_X28_next.eq_1 ..) ?_
  have mu := mMe_u hT hS
  have j1_hS : MgT D G od g q w ch := by
    (first | assumption)
  have j1_hC : MgC D G od g q w := by
    (first | omega | assumption | (subst_vars; first | omega | assumption) | done)
  have j1_hA : ∀ k l, Cnd g q (d_A D 2305 (s_ G 23)) w k l → (BmC D G q) k l → BmC D G q k l := by
    exact fun k l _ b => b
  have j1_hB : ∀ k l, VdT g q w k l → BmC D G q k l → (BmC D G q) k l := by
    exact fun k l _ b => b
  have j1_hZ : ∀ i, d_A D 2305 (s_ G 23) i = (d_A D 2305 (s_ G 23)) i := by
    (first | omega | assumption | (subst_vars; first | omega | assumption) | done)
  have j1_hm : max 0 (mMe D G q) < N := by
    (first | omega | assumption | (subst_vars; first | omega | assumption) | done)
  refine Wp.mo (s_X28_next_0 hN (od := od) (g := g) (q := q) (w := w) (ch := ch) (B0 := BmC D G q) (C0 := d_A D 2305 (s_ G 23)) _ hT j1_hS j1_hC j1_hA j1_hB j1_hZ j1_hm) ?_
  intro o ho
  exact ho
