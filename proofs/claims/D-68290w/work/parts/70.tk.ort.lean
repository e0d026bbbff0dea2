/-! specifications, printed by gen/mks.py -/
set_option maxRecDepth 100000
/-- whoever was passed in the change at hand has come so far -/
def CmI (D : Dt) (G : Gt) (g : Cg) (q : Sq) : Prop := ∀ w k l, Vld g q w k l → cgT g q w k → w = d_I D 6325 (s_ G 63) → ¬ BeT D G g q w k l → l < d_A D 6323 (s_ G 63) k
def SqR (q : Sq) : Prop := (0 ≤ sqM q ∧ sqM q ≤ 4096) ∧ ∀ k, 0 ≤ k → k < sqM q → (0 ≤ sqV q k ∧ sqV q k < 33) ∧ (0 ≤ sqC q k ∧ sqC q k < 16)
theorem sqP_s {q : Sq} {o k l l2 : Int} (h : l < l2) : ll (sqP q o k l) (sqP q o k l2) := by
  unfold sqP
  split
  · exact .inl h
  · split
    · exact .inr ⟨rfl, .inl h⟩
    · exact (ll_app rfl).mpr (.inr ⟨rfl, h⟩)
theorem CmI.st {D D' : Dt} {G : Gt} {g : Cg} {q : Sq} {k0 l0 : Int} (h : CmI D G g q) (hn : d_I D' 6325 (s_ G 63) = d_I D 6325 (s_ G 63) ∨ d_I D' 6325 (s_ G 63) = d_I D 6325 (s_ G 63) + 1)
    (hB : ∀ w k l, Vld g q w k l → (BeT D' G g q w k l ↔ BeT D G g q w k l ∧ ¬ (w = d_I D 6325 (s_ G 63) ∧ k = k0 ∧ l = l0))) (hC : ∀ i, 0 ≤ i → i < sqM q → d_A D 6323 (s_ G 63) i ≤ d_A D' 6323 (s_ G 63) i) (h1 : cgT g q (d_I D 6325 (s_ G 63)) k0 → l0 < d_A D' 6323 (s_ G 63) k0) : CmI D' G g q := by
  intro w k l v t e n
  rw [hB w k l v] at n
  have c := hC k v.2.2.1 v.2.2.2.1
  by_cases z : w = d_I D 6325 (s_ G 63)
  · by_cases y : BeT D G g q w k l
    · have u : w = d_I D 6325 (s_ G 63) ∧ k = k0 ∧ l = l0 := Decidable.byContradiction fun u => n ⟨y, u⟩
      rw [u.2.1, u.2.2]
      exact h1 (by rw [← u.1, ← u.2.1]; exact t)
    · have := h w k l v t z y; omega
  · exfalso
    exact n ⟨.inr (by omega), fun u => z u.1⟩
/-- at the cursor -/
theorem CmI.c {D : Dt} {G : Gt} {g : Cg} {q : Sq} (h : CmI D G g q) {k0 l0 : Int} (e1 : d_A D 6324 (s_ G 63) (d_I D 6329 (s_ G 63)) = k0) (e2 : d_I D 6326 (s_ G 63) = l0) (v : Vld g q (d_I D 6325 (s_ G 63)) k0 l0) (t : cgT g q (d_I D 6325 (s_ G 63)) k0) (c0 : 0 ≤ d_A D 6323 (s_ G 63) k0) : l0 ≤ d_A D 6323 (s_ G 63) k0 := by
  by_cases z : l0 = 0
  · omega
  · have := h _ k0 (l0 - 1) ⟨v.1, v.2.1, v.2.2.1, v.2.2.2.1, by have := v.2.2.2.2.1; omega, by have := v.2.2.2.2.2; omega⟩ t rfl (fun y => by
      unfold BeT at y
      rw [e1, e2] at y
      rcases y with y | y
      · exact y.2 (sqP_s (by omega))
      · omega)
    omega
theorem BeT.c {D : Dt} {G : Gt} {g : Cg} {q : Sq} : BeT D G g q (d_I D 6325 (s_ G 63)) (d_A D 6324 (s_ G 63) (d_I D 6329 (s_ G 63))) (d_I D 6326 (s_ G 63)) := .inl ⟨rfl, ll_ir _⟩
/-- the packet at the cursor comes -/
theorem StR.tk {D D' : Dt} {G : Gt} {g : Cg} {q : Sq} (hk : QiK q) {B0 : Int → Int → Int → Prop} {C0 C' : Fz} {f w0 k0 l0 : Int} (hf : f ≠ 0) (ew : d_I D 6325 (s_ G 63) = w0) (e1 : d_A D 6324 (s_ G 63) (d_I D 6329 (s_ G 63)) = k0) (e2 : d_I D 6326 (s_ G 63) = l0) (v : Vld g q w0 k0 l0) (t : cgT g q w0 k0) (c : C0 k0 = l0)
    (h1 : ∀ w k l, Vld g q w k l → BeT D G g q w k l → B0 w k l) (h2 : ∀ w k l, Cnd g q C0 w k l → B0 w k l → BeT D G g q w k l) (hB : ∀ w k l, Vld g q w k l → (BeT D' G g q w k l ↔ BeT D G g q w k l ∧ ¬ (w = w0 ∧ k = k0 ∧ l = l0))) (hC : ∀ i, 0 ≤ i → i < sqM q → C' i = if i = k0 then C0 i + 1 else C0 i) :
    StR g q B0 C0 f w0 k0 l0 (BeT D' G g q) C' := by
  refine ⟨fun z => absurd z hf, fun _ => ⟨⟨v, t, by omega⟩, ?_, fun w k l cn b => ?_, fun w k l vt => ?_, hC⟩⟩
  · have b := BeT.c (D := D) (G := G) (g := g) (q := q)
    rw [ew, e1, e2] at b
    exact h1 _ _ _ v b
  · have b := h2 _ _ _ cn b
    unfold BeT at b
    rw [ew, e1, e2] at b
    rcases b with b | b
    · exact .inr ⟨b.1.symm, b.2⟩
    · exact .inl b
  · have vv := vt.1
    rw [hB w k l vv]
    unfold BeT
    rw [ew, e1, e2]
    by_cases z : w = w0
    · have c := cu_ne hk (o := cgO g w0) (l := l) (lc := l0) vv.2.2.1 vv.2.2.2.1 v.2.2.1 v.2.2.2.1
      rw [← c]
      refine ⟨fun x => .inr ⟨z.symm, ?_⟩, fun x => ?_⟩
      · rcases x.1 with y | y
        · exact ⟨y.2, fun u => x.2 ⟨z, u⟩⟩
        · omega
      · rcases x with x | x
        · omega
        · exact ⟨.inl ⟨z, x.2.1⟩, fun u => x.2.2 u.2⟩
    · refine ⟨fun x => ?_, fun x => ?_⟩
      · rcases x.1 with y | y
        · exact absurd y.1 z
        · exact .inl y
      · rcases x with x | x
        · exact ⟨.inr x, fun u => z u.1⟩
        · exact absurd x.1.symm z
set_option maxHeartbeats 8000000 in
theorem s_X63_advance_2 {N : Nat} {g : Cg} {q : Sq} {B0 : Int → Int → Int → Prop} {C0 : Fz} (hN : 1099511627776 ≤ N) (n : Nat) : ∀ {x1 : Int} {G : Gt} {D : Dt}, Ty D → (TCg D G g) → (TSq D G q) → (QiK q) → (TPo D G g q) → (SqR q) → (0 ≤ x1 ∧ x1 ≤ 1) → (CmI D G g q) → (x1 = 0 → (∀ i, 0 ≤ i → i < sqM q → (d_A D 6323 (s_ G 63) (i)) = C0 i) ∧ (∀ w k l, Vld g q w k l → BeT D G g q w k l → B0 w k l) ∧ (∀ w k l, Cnd g q C0 w k l → B0 w k l → BeT D G g q w k l)) → (x1 ≠ 0 → StR g q B0 C0 1 (d_I D 6333 (s_ G 63)) (d_I D 6331 (s_ G 63)) (d_I D 6332 (s_ G 63)) (BeT D G g q) (d_A D 6323 (s_ G 63)) ∧ (d_I D 6330 (s_ G 63)) = 1) → max 0 (TMe D G g) < n → Wp (q_X63_advance_2 N n x1 G D) (fun o => (fun r D' => Ty D' ∧ (StR g q B0 C0 r (d_I D' 6333 (s_ G 63)) (d_I D' 6331 (s_ G 63)) (d_I D' 6332 (s_ G 63)) (BeT D' G g q) (d_A D' 6323 (s_ G 63)) ∧ TPo D' G g q ∧ CmI D' G g q ∧ 0 ≤ r ∧ r ≤ 1 ∧ (r ≠ 0 → (d_I D' 6330 (s_ G 63)) = 1))) o.1 o.2) := by
  induction n with
  | zero =>
    intro x1 G D hT hg hq hk hp hr h0 hc hA hB hm; exfalso; omega
  | succ n ih =>
    intro x1 G D hT hg hq hk hp hr h0 hc hA hB hm
    show Wp (q_X63_advance_2 N (n + 1) x1 G D) _
    rw [q_X63_advance_2]
    have t1 := ty_6333 hT (s_ G 63)
    have t2 := ty_6331 hT (s_ G 63)
    have t3 := ty_6332 hT (s_ G 63)
    have t4 := ty_6330 hT (s_ G 63)
    have qm := hq.1
    have w32' := hg.1.2.1
    refine w_ite (fun hc1 => ?_) (fun hc1 => ?_)
    · skip
      have A := hA hc1
      refine w_let fun v1 e_v1 => ?_
      simp only [q_X63_ways] at e_v1
      have ew : v1 = cgW g := by rw [e_v1, hg.w]
      have t5 := ty_6325 hT (s_ G 63)
      refine w_ite (fun hc2 => ?_) (fun hc2 => ?_)
      · skip
        refine w_gd (by (first | omega | assumption | (subst_vars; first | omega | assumption) | done)) ?_
        refine w_some ?_
        try dsimp only
        refine ⟨hT, ?_⟩
        refine ⟨⟨fun _ => ⟨fun w k l cn b => ?_, fun w k l v b => ?_, A.1⟩, fun z => absurd hc1 z⟩, hp, hc, h0.1, h0.2, fun z => absurd hc1 z⟩
        · rcases A.2.2 w k l cn b with y | y
          · have := cn.1.2.1; omega
          · have := cn.1.2.1; omega
        · rcases b with y | y
          · have := v.1.2.1; omega
          · have := v.1.2.1; omega
      · skip
        have t6 := ty_6317 hT (s_ G 63)
        refine w_ite (fun hc3 => ?_) (fun hc3 => ?_)
        · skip
          refine w_gd (by (first | omega | assumption | (subst_vars; first | omega | assumption) | done)) ?_
          refine w_some ?_
          try dsimp only
          refine ⟨hT, ?_⟩
          refine ⟨⟨fun _ => ⟨fun w k l cn b => ?_, fun w k l v b => ?_, A.1⟩, fun z => absurd hc1 z⟩, hp, hc, h0.1, h0.2, fun z => absurd hc1 z⟩
          · have := cn.1.2.2.1; have := cn.1.2.2.2.1; omega
          · have := v.1.2.2.1; have := v.1.2.2.2.1; omega
        · skip
          have tp := hp.2 (by omega) (by omega)
          have em := tp.2.2.1.1.2.2.1 (by omega)
          have g0 := tp.2.2.1.2.1
          have oo := hg.1.2.2 _ hp.1 (by omega)
          have hr1 := hr.1
          have tm := TMe_r hg.1 hp (by omega) (by omega) (by omega)
          have pn := tp.1.1 (d_I D 6329 (s_ G 63)) (by omega) (by omega)
          have rg := hr.2 _ pn.1 pn.2
          have vl : Vld g q (d_I D 6325 (s_ G 63)) (d_A D 6324 (s_ G 63) (d_I D 6329 (s_ G 63))) (d_I D 6326 (s_ G 63)) := ⟨hp.1, by omega, pn.1, pn.2, tp.2.2.2.2.1, tp.2.2.2.2.2⟩
          have t7 := ty_6329 hT (s_ G 63)
          refine w_lA (by (first | omega | assumption | (subst_vars; first | omega | assumption) | done)) fun v3 e_v3 => ?_
          have t_v3 : 0 ≤ v3 ∧ v3 ≤ 4095 := by rw [e_v3]; exact ty_6324 hT _ _
          rw [← e_v3] at pn rg vl
          have c2_hg : TCg D G g := by
            (first | assumption)
          have c2_hq : TSq D G q := by
            (first | assumption)
          have c2_h0 : 0 ≤ (d_I D 6325 (s_ G 63)) ∧ (d_I D 6325 (s_ G 63)) < cgW g ∧ 0 ≤ v3 ∧ v3 < 4096 := by
            (first | omega | assumption | (subst_vars; first | omega | assumption) | done)
          have c2_hl : sqV q v3 < 33 ∧ 0 ≤ sqV q v3 ∧ 0 ≤ sqC q v3 ∧ sqC q v3 < 16 := by
            (first | omega | assumption | (subst_vars; first | omega | assumption) | done)
          refine w_b (s_X63_belongs hT c2_hg c2_hq c2_h0 c2_hl) fun v4 h_v4 => ?_
          have q4 : v4 ≠ 0 ↔ cgT g q (d_I D 6325 (s_ G 63)) v3 := h_v4
          refine w_ite (fun hc4 => ?_) (fun hc4 => ?_)
          · skip
            refine w_un (q_X63_advance_59.eq_1 ..) ?_
            refine w_un (q_X63_advance_60.eq_1 ..) ?_
            refine w_ite (fun hc5 => ?_) (fun hc5 => ?_)
            · skip
              refine w_un (q_X63_advance_101.eq_1 ..) ?_
              have c3_hg : TCg D G g := by
                (first | assumption)
              have c3_hq : TSq D G q := by
                (first | assumption)
              have c3_hk : QiK q := by
                (first | omega | assumption | (subst_vars; first | omega | assumption) | done)
              have c3_hp : TPo D G g q := by
                (first | assumption)
              have c3_h0 : (d_I D 6325 (s_ G 63)) < cgW g ∧ 0 < sqM q ∧ sqM q ≤ 4096 := by
                (first | omega | assumption | (subst_vars; first | omega | assumption) | done)
              refine w_b (Wp.fr (s_X63_move hN hT c3_hg c3_hq c3_hk c3_hp c3_h0) fr_X63_move) fun d2 h_d2 => ?_
              obtain ⟨⟨T_d2, h_d2⟩, F_d2⟩ := h_d2
              have t8 := ty_6326 hT (s_ G 63)
              have rq1 : d_A d2 6323 (s_ G 63) = d_A D 6323 (s_ G 63) := congrFun (F_d2.a (i := 6323) rfl) (s_ G 63)
              have rq2 : d_I d2 6333 (s_ G 63) = d_I D 6333 (s_ G 63) := congrFun (F_d2.i (i := 6333) rfl) (s_ G 63)
              have rq3 : d_I d2 6331 (s_ G 63) = d_I D 6331 (s_ G 63) := congrFun (F_d2.i (i := 6331) rfl) (s_ G 63)
              have rq4 : d_I d2 6332 (s_ G 63) = d_I D 6332 (s_ G 63) := congrFun (F_d2.i (i := 6332) rfl) (s_ G 63)
              have rq5 : d_I d2 6330 (s_ G 63) = d_I D 6330 (s_ G 63) := congrFun (F_d2.i (i := 6330) rfl) (s_ G 63)
              have j1_hg : TCg d2 G g := by
                (first | assumption | exact (TCg.fr (by assumption) F_d2 rfl))
              have j1_hq : TSq d2 G q := by
                (first | assumption | exact (TSq.fr (by assumption) F_d2 rfl))
              have j1_hk : QiK q := by
                (first | omega | assumption | (subst_vars; first | omega | assumption) | done)
              have j1_hp : TPo d2 G g q := by
                exact h_d2.1
              have j1_hr : SqR q := by
                (first | omega | assumption | (subst_vars; first | omega | assumption) | done)
              have j1_h0 : 0 ≤ (0 : Int) ∧ (0 : Int) ≤ 1 := by
                (first | omega | assumption | (subst_vars; first | omega | assumption) | done)
              have j1_hc : CmI d2 G g q := by
                exact hc.st h_d2.2.2.2.2 h_d2.2.1 (fun i _ _ => by rw [show d_A d2 6323 (s_ G 63) = d_A D 6323 (s_ G 63) from congrFun (F_d2.a (i := 6323) rfl) (s_ G 63)]; exact Int.le_refl _) (fun t => by rw [← e_v3] at t; exact absurd hc4 (q4.mpr t))
              have j1_hA : (0 : Int) = 0 → (∀ i, 0 ≤ i → i < sqM q → (d_A d2 6323 (s_ G 63) (i)) = C0 i) ∧ (∀ w k l, Vld g q w k l → BeT d2 G g q w k l → B0 w k l) ∧ (∀ w k l, Cnd g q C0 w k l → B0 w k l → BeT d2 G g q w k l) := by
                try simp only [rq1]
                intro _
                refine ⟨A.1, fun w k l v b => A.2.1 w k l v ((h_d2.2.1 w k l v).mp b).1, fun w k l cn b => (h_d2.2.1 w k l cn.1).mpr ⟨A.2.2 w k l cn b, fun u => ?_⟩⟩
                have t := cn.2.1
                rw [u.1, u.2.1, ← e_v3] at t
                exact absurd hc4 (q4.mpr t)
              have j1_hB : (0 : Int) ≠ 0 → StR g q B0 C0 1 (d_I d2 6333 (s_ G 63)) (d_I d2 6331 (s_ G 63)) (d_I d2 6332 (s_ G 63)) (BeT d2 G g q) (d_A d2 6323 (s_ G 63)) ∧ (d_I d2 6330 (s_ G 63)) = 1 := by
                try simp only [rq2, rq3, rq4, rq1, rq5]
                intro z; exact absurd rfl z
              have j1_hm : max 0 (TMe d2 G g) < n := by
                (first | omega | assumption | (subst_vars; first | omega | assumption) | done)
              exact ih T_d2 j1_hg j1_hq j1_hk j1_hp j1_hr j1_h0 j1_hc j1_hA j1_hB j1_hm
            · skip
              exfalso; omega
          · skip
            refine w_lA (by (first | omega | assumption | (subst_vars; first | omega | assumption) | done)) fun v6 e_v6 => ?_
            have t_v6 : 0 ≤ v6 ∧ v6 ≤ 255 := by rw [e_v6]; exact ty_6323 hT _ _
            have c0 := hc.c (k0 := v3) (l0 := d_I D 6326 (s_ G 63)) e_v3.symm rfl vl (q4.mp hc4) (by rw [← e_v6]; omega)
            rw [← e_v6] at c0
            have t9 := ty_6326 hT (s_ G 63)
            refine w_ite (fun hc6 => ?_) (fun hc6 => ?_)
            · skip
              have lt1 := tp.2.2.2.2.2
              refine w_un (q_X63_advance_60.eq_1 ..) ?_
              refine w_ite (fun hc7 => ?_) (fun hc7 => ?_)
              · skip
                exfalso; omega
              · skip
                refine w_let fun d1 e_d1 => ?_
                have T_d1 : Ty d1 := tyI_6331 e_d1 hT (by (first | omega | assumption | (subst_vars; first | omega | assumption) | done))
                refine w_let fun v3_2 e_v3_2 => ?_
                refine w_let fun d2_2 e_d2_2 => ?_
                have T_d2_2 : Ty d2_2 := tyI_6332 e_d2_2 T_d1 (by (first | omega | assumption | (subst_vars; first | omega | assumption) | done))
                refine w_let fun v5 e_v5 => ?_
                refine w_let fun d4 e_d4 => ?_
                have T_d4 : Ty d4 := tyI_6333 e_d4 T_d2_2 (by (first | omega | assumption | (subst_vars; first | omega | assumption) | done))
                refine w_lA (by (first | omega | assumption | (subst_vars; first | omega | assumption) | done)) fun v8 e_v8 => ?_
                have t_v8 : 0 ≤ v8 ∧ v8 ≤ 255 := by rw [e_v8]; exact ty_6323 hT _ _
                refine w_gd (by (first | omega | assumption | (subst_vars; first | omega | assumption) | done)) ?_
                refine w_tA (by (first | omega | assumption | (subst_vars; first | omega | assumption) | done)) fun d9 e_d9 => ?_
                have T_d9 : Ty d9 := tyA_6323 e_d9 T_d4 (by (first | omega | assumption | (subst_vars; first | omega | assumption) | done))
                have w_d9 := wA e_d9
                have rq6 : d_A d4 6323 (s_ G 63) = d_A D 6323 (s_ G 63) := Eq.trans (rdA_I e_d4) (Eq.trans (rdA_I e_d2_2) (rdA_I e_d1))
                try simp only [rq6] at w_d9
                refine w_let fun d10 e_d10 => ?_
                have T_d10 : Ty d10 := tyI_6330 e_d10 T_d9 (by (first | omega | assumption | (subst_vars; first | omega | assumption) | done))
                have bT : BeT d10 G g q = BeT D G g q := (BeT.fr (Fr.uI e_d10) rfl).trans ((BeT.fr (Fr.uA e_d9) rfl).trans ((BeT.fr (Fr.uI e_d4) rfl).trans ((BeT.fr (Fr.uI e_d2_2) rfl).trans (BeT.fr (Fr.uI e_d1) rfl))))
                have tT : TMe d10 G g = TMe D G g := (TMe.fr (Fr.uI e_d10) rfl).trans ((TMe.fr (Fr.uA e_d9) rfl).trans ((TMe.fr (Fr.uI e_d4) rfl).trans ((TMe.fr (Fr.uI e_d2_2) rfl).trans (TMe.fr (Fr.uI e_d1) rfl))))
                have cN : ∀ i, d_A d9 6323 (s_ G 63) i = if i = v3 then d_A D 6323 (s_ G 63) i + 1 else d_A D 6323 (s_ G 63) i := by
                 intro i
                 have a : d_A d4 6323 = d_A D 6323 := by rw [e_d4, e_d2_2, e_d1]; rfl
                 rw [e_d9, rA_A, a]
                 by_cases z : i = v3
                 · rw [if_pos ⟨rfl, rfl, z⟩, if_pos z, e_v8, z]
                 · rw [if_neg (fun y => z y.2.2), if_neg z]
                refine w_un (q_X63_advance_101.eq_1 ..) ?_
                have rq7 : d_I d10 6325 (s_ G 63) = d_I D 6325 (s_ G 63) := Eq.trans (rdI_I e_d10 rfl) (Eq.trans (rdI_A e_d9) (Eq.trans (rdI_I e_d4 rfl) (Eq.trans (rdI_I e_d2_2 rfl) (rdI_I e_d1 rfl))))
                have c4_hg : TCg d10 G g := by
                  (first | assumption | exact (TCg.fr (by assumption) (Fr.uI e_d10) rfl) | exact (TCg.fr (TCg.fr (by assumption) (Fr.uA e_d9) rfl) (Fr.uI e_d10) rfl) | exact (TCg.fr (TCg.fr (TCg.fr (by assumption) (Fr.uI e_d4) rfl) (Fr.uA e_d9) rfl) (Fr.uI e_d10) rfl) | exact (TCg.fr (TCg.fr (TCg.fr (TCg.fr (by assumption) (Fr.uI e_d2_2) rfl) (Fr.uI e_d4) rfl) (Fr.uA e_d9) rfl) (Fr.uI e_d10) rfl) | exact (TCg.fr (TCg.fr (TCg.fr (TCg.fr (TCg.fr (by assumption) (Fr.uI e_d1) rfl) (Fr.uI e_d2_2) rfl) (Fr.uI e_d4) rfl) (Fr.uA e_d9) rfl) (Fr.uI e_d10) rfl))
                have c4_hq : TSq d10 G q := by
                  (first | assumption | exact (TSq.fr (by assumption) (Fr.uI e_d10) rfl) | exact (TSq.fr (TSq.fr (by assumption) (Fr.uA e_d9) rfl) (Fr.uI e_d10) rfl) | exact (TSq.fr (TSq.fr (TSq.fr (by assumption) (Fr.uI e_d4) rfl) (Fr.uA e_d9) rfl) (Fr.uI e_d10) rfl) | exact (TSq.fr (TSq.fr (TSq.fr (TSq.fr (by assumption) (Fr.uI e_d2_2) rfl) (Fr.uI e_d4) rfl) (Fr.uA e_d9) rfl) (Fr.uI e_d10) rfl) | exact (TSq.fr (TSq.fr (TSq.fr (TSq.fr (TSq.fr (by assumption) (Fr.uI e_d1) rfl) (Fr.uI e_d2_2) rfl) (Fr.uI e_d4) rfl) (Fr.uA e_d9) rfl) (Fr.uI e_d10) rfl))
                have c4_hk : QiK q := by
                  (first | omega | assumption | (subst_vars; first | omega | assumption) | done)
                have c4_hp : TPo d10 G g q := by
                  (first | assumption | exact (TPo.fr (by assumption) (Fr.uI e_d10) rfl) | exact (TPo.fr (TPo.fr (by assumption) (Fr.uA e_d9) rfl) (Fr.uI e_d10) rfl) | exact (TPo.fr (TPo.fr (TPo.fr (by assumption) (Fr.uI e_d4) rfl) (Fr.uA e_d9) rfl) (Fr.uI e_d10) rfl) | exact (TPo.fr (TPo.fr (TPo.fr (TPo.fr (by assumption) (Fr.uI e_d2_2) rfl) (Fr.uI e_d4) rfl) (Fr.uA e_d9) rfl) (Fr.uI e_d10) rfl) | exact (TPo.fr (TPo.fr (TPo.fr (TPo.fr (TPo.fr (by assumption) (Fr.uI e_d1) rfl) (Fr.uI e_d2_2) rfl) (Fr.uI e_d4) rfl) (Fr.uA e_d9) rfl) (Fr.uI e_d10) rfl))
                have c4_h0 : (d_I d10 6325 (s_ G 63)) < cgW g ∧ 0 < sqM q ∧ sqM q ≤ 4096 := by
                  try simp only [rq7]
                  (first | omega | assumption | (subst_vars; first | omega | assumption) | done)
                refine w_b (Wp.fr (s_X63_move hN T_d10 c4_hg c4_hq c4_hk c4_hp c4_h0) fr_X63_move) fun d2_3 h_d2_3 => ?_
                obtain ⟨⟨T_d2_3, h_d2_3⟩, F_d2_3⟩ := h_d2_3
                have rq8 : d_A d10 6324 (s_ G 63) = d_A D 6324 (s_ G 63) := Eq.trans (rdA_I e_d10) (Eq.trans (rdA_A e_d9 rfl) (Eq.trans (rdA_I e_d4) (Eq.trans (rdA_I e_d2_2) (rdA_I e_d1))))
                have rq9 : d_I d10 6329 (s_ G 63) = d_I D 6329 (s_ G 63) := Eq.trans (rdI_I e_d10 rfl) (Eq.trans (rdI_A e_d9) (Eq.trans (rdI_I e_d4 rfl) (Eq.trans (rdI_I e_d2_2 rfl) (rdI_I e_d1 rfl))))
                have rq10 : d_I d10 6326 (s_ G 63) = d_I D 6326 (s_ G 63) := Eq.trans (rdI_I e_d10 rfl) (Eq.trans (rdI_A e_d9) (Eq.trans (rdI_I e_d4 rfl) (Eq.trans (rdI_I e_d2_2 rfl) (rdI_I e_d1 rfl))))
                try simp only [rq7, rq8, rq9, rq10] at h_d2_3
                have rq11 : d_A d2_3 6323 (s_ G 63) = d_A d9 6323 (s_ G 63) := Eq.trans (congrFun (F_d2_3.a (i := 6323) rfl) (s_ G 63)) (rdA_I e_d10)
                have rq12 : d_I d2_3 6333 (s_ G 63) = v5 := Eq.trans (congrFun (F_d2_3.i (i := 6333) rfl) (s_ G 63)) (Eq.trans (rdI_I e_d10 rfl) (Eq.trans (rdI_A e_d9) (rdI_s e_d4)))
                have rq13 : d_I d2_3 6331 (s_ G 63) = v3 := Eq.trans (congrFun (F_d2_3.i (i := 6331) rfl) (s_ G 63)) (Eq.trans (rdI_I e_d10 rfl) (Eq.trans (rdI_A e_d9) (Eq.trans (rdI_I e_d4 rfl) (Eq.trans (rdI_I e_d2_2 rfl) (rdI_s e_d1)))))
                have rq14 : d_I d2_3 6332 (s_ G 63) = v3_2 := Eq.trans (congrFun (F_d2_3.i (i := 6332) rfl) (s_ G 63)) (Eq.trans (rdI_I e_d10 rfl) (Eq.trans (rdI_A e_d9) (Eq.trans (rdI_I e_d4 rfl) (rdI_s e_d2_2))))
                have rq15 : d_I d2_3 6330 (s_ G 63) = (1 : Int) := Eq.trans (congrFun (F_d2_3.i (i := 6330) rfl) (s_ G 63)) (rdI_s e_d10)
                have j2_hg : TCg d2_3 G g := by
                  (first | assumption | exact (TCg.fr (by assumption) F_d2_3 rfl) | exact (TCg.fr (TCg.fr (by assumption) (Fr.uI e_d10) rfl) F_d2_3 rfl) | exact (TCg.fr (TCg.fr (TCg.fr (by assumption) (Fr.uA e_d9) rfl) (Fr.uI e_d10) rfl) F_d2_3 rfl) | exact (TCg.fr (TCg.fr (TCg.fr (TCg.fr (by assumption) (Fr.uI e_d4) rfl) (Fr.uA e_d9) rfl) (Fr.uI e_d10) rfl) F_d2_3 rfl) | exact (TCg.fr (TCg.fr (TCg.fr (TCg.fr (TCg.fr (by assumption) (Fr.uI e_d2_2) rfl) (Fr.uI e_d4) rfl) (Fr.uA e_d9) rfl) (Fr.uI e_d10) rfl) F_d2_3 rfl) | exact (TCg.fr (TCg.fr (TCg.fr (TCg.fr (TCg.fr (TCg.fr (by assumption) (Fr.uI e_d1) rfl) (Fr.uI e_d2_2) rfl) (Fr.uI e_d4) rfl) (Fr.uA e_d9) rfl) (Fr.uI e_d10) rfl) F_d2_3 rfl))
                have j2_hq : TSq d2_3 G q := by
                  (first | assumption | exact (TSq.fr (by assumption) F_d2_3 rfl) | exact (TSq.fr (TSq.fr (by assumption) (Fr.uI e_d10) rfl) F_d2_3 rfl) | exact (TSq.fr (TSq.fr (TSq.fr (by assumption) (Fr.uA e_d9) rfl) (Fr.uI e_d10) rfl) F_d2_3 rfl) | exact (TSq.fr (TSq.fr (TSq.fr (TSq.fr (by assumption) (Fr.uI e_d4) rfl) (Fr.uA e_d9) rfl) (Fr.uI e_d10) rfl) F_d2_3 rfl) | exact (TSq.fr (TSq.fr (TSq.fr (TSq.fr (TSq.fr (by assumption) (Fr.uI e_d2_2) rfl) (Fr.uI e_d4) rfl) (Fr.uA e_d9) rfl) (Fr.uI e_d10) rfl) F_d2_3 rfl) | exact (TSq.fr (TSq.fr (TSq.fr (TSq.fr (TSq.fr (TSq.fr (by assumption) (Fr.uI e_d1) rfl) (Fr.uI e_d2_2) rfl) (Fr.uI e_d4) rfl) (Fr.uA e_d9) rfl) (Fr.uI e_d10) rfl) F_d2_3 rfl))
                have j2_hk : QiK q := by
                  (first | omega | assumption | (subst_vars; first | omega | assumption) | done)
                have j2_hp : TPo d2_3 G g q := by
                  exact h_d2_3.1
                have j2_hr : SqR q := by
                  (first | omega | assumption | (subst_vars; first | omega | assumption) | done)
                have j2_h0 : 0 ≤ (1 : Int) ∧ (1 : Int) ≤ 1 := by
                  (first | omega | assumption | (subst_vars; first | omega | assumption) | done)
                have j2_hc : CmI d2_3 G g q := by
                  rw [bT] at h_d2_3
                  refine hc.st h_d2_3.2.2.2.2 h_d2_3.2.1 (fun i _ _ => ?_) (fun _ => ?_)
                  · rw [show d_A d2_3 6323 (s_ G 63) = d_A d9 6323 (s_ G 63) from Eq.trans (congrFun (F_d2_3.a (i := 6323) rfl) (s_ G 63)) (rdA_I e_d10), cN]; split <;> omega
                  · rw [show d_A d2_3 6323 (s_ G 63) = d_A d9 6323 (s_ G 63) from Eq.trans (congrFun (F_d2_3.a (i := 6323) rfl) (s_ G 63)) (rdA_I e_d10), cN, ← e_v3, if_pos rfl, ← e_v6]; omega
                have j2_hA : (1 : Int) = 0 → (∀ i, 0 ≤ i → i < sqM q → (d_A d2_3 6323 (s_ G 63) (i)) = C0 i) ∧ (∀ w k l, Vld g q w k l → BeT d2_3 G g q w k l → B0 w k l) ∧ (∀ w k l, Cnd g q C0 w k l → B0 w k l → BeT d2_3 G g q w k l) := by
                  try simp only [rq11]
                  (first | omega | assumption | (subst_vars; first | omega | assumption) | done)
                have j2_hB : (1 : Int) ≠ 0 → StR g q B0 C0 1 (d_I d2_3 6333 (s_ G 63)) (d_I d2_3 6331 (s_ G 63)) (d_I d2_3 6332 (s_ G 63)) (BeT d2_3 G g q) (d_A d2_3 6323 (s_ G 63)) ∧ (d_I d2_3 6330 (s_ G 63)) = 1 := by
                  try simp only [rq12, rq13, rq14, rq11, rq15]
                  intro _
                  refine ⟨?_, trivial⟩
                  rw [bT, ← e_v3] at h_d2_3
                  rw [e_v5, e_v3_2]
                  exact StR.tk hk (by decide) rfl e_v3.symm rfl vl (q4.mp hc4) (by rw [← A.1 v3 pn.1 pn.2, ← e_v6]; exact hc6) A.2.1 A.2.2 h_d2_3.2.1 (fun i i0 i1 => by rw [cN, A.1 i i0 i1])
                have j2_hm : max 0 (TMe d2_3 G g) < n := by
                  rw [tT] at h_d2_3; omega
                exact ih T_d2_3 j2_hg j2_hq j2_hk j2_hp j2_hr j2_h0 j2_hc j2_hA j2_hB j2_hm
            · skip
              refine w_un (q_X63_advance_59.eq_1 ..) ?_
              refine w_un (q_X63_advance_60.eq_1 ..) ?_
              refine w_ite (fun hc8 => ?_) (fun hc8 => ?_)
              · skip
                refine w_un (q_X63_advance_101.eq_1 ..) ?_
                have c5_hg : TCg D G g := by
                  (first | assumption)
                have c5_hq : TSq D G q := by
                  (first | assumption)
                have c5_hk : QiK q := by
                  (first | omega | assumption | (subst_vars; first | omega | assumption) | done)
                have c5_hp : TPo D G g q := by
                  (first | assumption)
                have c5_h0 : (d_I D 6325 (s_ G 63)) < cgW g ∧ 0 < sqM q ∧ sqM q ≤ 4096 := by
                  (first | omega | assumption | (subst_vars; first | omega | assumption) | done)
                refine w_b (Wp.fr (s_X63_move hN hT c5_hg c5_hq c5_hk c5_hp c5_h0) fr_X63_move) fun d2_4 h_d2_4 => ?_
                obtain ⟨⟨T_d2_4, h_d2_4⟩, F_d2_4⟩ := h_d2_4
                have rq16 : d_A d2_4 6323 (s_ G 63) = d_A D 6323 (s_ G 63) := congrFun (F_d2_4.a (i := 6323) rfl) (s_ G 63)
                have rq17 : d_I d2_4 6333 (s_ G 63) = d_I D 6333 (s_ G 63) := congrFun (F_d2_4.i (i := 6333) rfl) (s_ G 63)
                have rq18 : d_I d2_4 6331 (s_ G 63) = d_I D 6331 (s_ G 63) := congrFun (F_d2_4.i (i := 6331) rfl) (s_ G 63)
                have rq19 : d_I d2_4 6332 (s_ G 63) = d_I D 6332 (s_ G 63) := congrFun (F_d2_4.i (i := 6332) rfl) (s_ G 63)
                have rq20 : d_I d2_4 6330 (s_ G 63) = d_I D 6330 (s_ G 63) := congrFun (F_d2_4.i (i := 6330) rfl) (s_ G 63)
                have j3_hg : TCg d2_4 G g := by
                  (first | assumption | exact (TCg.fr (by assumption) F_d2_4 rfl))
                have j3_hq : TSq d2_4 G q := by
                  (first | assumption | exact (TSq.fr (by assumption) F_d2_4 rfl))
                have j3_hk : QiK q := by
                  (first | omega | assumption | (subst_vars; first | omega | assumption) | done)
                have j3_hp : TPo d2_4 G g q := by
                  exact h_d2_4.1
                have j3_hr : SqR q := by
                  (first | omega | assumption | (subst_vars; first | omega | assumption) | done)
                have j3_h0 : 0 ≤ (0 : Int) ∧ (0 : Int) ≤ 1 := by
                  (first | omega | assumption | (subst_vars; first | omega | assumption) | done)
                have j3_hc : CmI d2_4 G g q := by
                  exact hc.st h_d2_4.2.2.2.2 h_d2_4.2.1 (fun i _ _ => by rw [show d_A d2_4 6323 (s_ G 63) = d_A D 6323 (s_ G 63) from congrFun (F_d2_4.a (i := 6323) rfl) (s_ G 63)]; exact Int.le_refl _) (fun t => by rw [show d_A d2_4 6323 (s_ G 63) = d_A D 6323 (s_ G 63) from congrFun (F_d2_4.a (i := 6323) rfl) (s_ G 63), ← e_v3, ← e_v6]; omega)
                have j3_hA : (0 : Int) = 0 → (∀ i, 0 ≤ i → i < sqM q → (d_A d2_4 6323 (s_ G 63) (i)) = C0 i) ∧ (∀ w k l, Vld g q w k l → BeT d2_4 G g q w k l → B0 w k l) ∧ (∀ w k l, Cnd g q C0 w k l → B0 w k l → BeT d2_4 G g q w k l) := by
                  try simp only [rq16]
                  intro _
                  refine ⟨A.1, fun w k l v b => A.2.1 w k l v ((h_d2_4.2.1 w k l v).mp b).1, fun w k l cn b => (h_d2_4.2.1 w k l cn.1).mpr ⟨A.2.2 w k l cn b, fun u => ?_⟩⟩
                  have t := cn.2.2
                  rw [u.2.1, u.2.2, ← e_v3, ← A.1 v3 pn.1 pn.2, ← e_v6] at t
                  omega
                have j3_hB : (0 : Int) ≠ 0 → StR g q B0 C0 1 (d_I d2_4 6333 (s_ G 63)) (d_I d2_4 6331 (s_ G 63)) (d_I d2_4 6332 (s_ G 63)) (BeT d2_4 G g q) (d_A d2_4 6323 (s_ G 63)) ∧ (d_I d2_4 6330 (s_ G 63)) = 1 := by
                  try simp only [rq17, rq18, rq19, rq16, rq20]
                  intro z; exact absurd rfl z
                have j3_hm : max 0 (TMe d2_4 G g) < n := by
                  (first | omega | assumption | (subst_vars; first | omega | assumption) | done)
                exact ih T_d2_4 j3_hg j3_hq j3_hk j3_hp j3_hr j3_h0 j3_hc j3_hA j3_hB j3_hm
              · skip
                exfalso; omega
    · skip
      refine w_gd (by (first | omega | assumption | (subst_vars; first | omega | assumption) | done)) ?_
      refine w_some ?_
      try dsimp only
      refine ⟨hT, ?_⟩
      rw [show x1 = 1 by omega]
      exact ⟨(hB (by omega)).1, hp, hc, by omega, by omega, fun _ => (hB (by omega)).2⟩
