/-! specifications, printed by gen/mks.py -/
set_option maxRecDepth 100000
/-- different numbers below m are all numbers below m -/
theorem PmN.sj (n : Nat) : ∀ {S : Fz}, PmN n S → ∀ v, 0 ≤ v → v < (n : Int) → ∃ k, 0 ≤ k ∧ k < (n : Int) ∧ S k = v := by
  induction n with
  | zero => intro S h v a b; omega
  | succ n ih =>
    intro S h v v0 v1
    have ht := h.1 n (by omega) (by omega)
    have h' : PmN n (fun k => if S k = n then S n else S k) := by
      refine ⟨fun k a b => ?_, fun i j a b c d e => ?_⟩
      · have hk := h.1 k a (by omega)
        show 0 ≤ (if S k = n then S n else S k) ∧ (if S k = n then S n else S k) < n
        split
        · rename_i z
          refine ⟨ht.1, ?_⟩
          have : S n ≠ n := fun y => by have := h.2 k n a (by omega) (by omega) (by omega) (by rw [z, y]); omega
          omega
        · omega
      · have e : (if S i = n then S n else S i) = (if S j = n then S n else S j) := e
        by_cases x : S i = n
        · rw [if_pos x] at e
          by_cases y : S j = n
          · exact h.2 i j a (by omega) c (by omega) (by rw [x, y])
          · rw [if_neg y] at e
            have := h.2 n j (by omega) (by omega) c (by omega) e
            omega
        · rw [if_neg x] at e
          by_cases y : S j = n
          · rw [if_pos y] at e
            have := h.2 i n a (by omega) (by omega) (by omega) e
            omega
          · rw [if_neg y] at e; exact h.2 i j a (by omega) c (by omega) e
    by_cases z : S n = v
    · exact ⟨n, by omega, by omega, z⟩
    · by_cases y : v = n
      · have hn : S n < n := by omega
        obtain ⟨k, a, b, e⟩ := ih h' (S n) ht.1 hn
        have e : (if S k = n then S n else S k) = S n := e
        by_cases x : S k = n
        · exact ⟨k, a, by omega, by rw [x, y]⟩
        · rw [if_neg x] at e
          have := h.2 k n a (by omega) (by omega) (by omega) e
          omega
      · obtain ⟨k, a, b, e⟩ := ih h' v v0 (by omega)
        have e : (if S k = n then S n else S k) = v := e
        by_cases x : S k = n
        · rw [if_pos x] at e; exact absurd e z
        · rw [if_neg x] at e; exact ⟨k, a, by omega, e⟩
theorem PmN.sur {m : Int} {S : Fz} (h : PmN m S) {v : Int} (v0 : 0 ≤ v) (v1 : v < m) : ∃ k, 0 ≤ k ∧ k < m ∧ S k = v := by
  have e : m = (m.toNat : Int) := by omega
  rw [e] at h v1 ⊢
  exact PmN.sj _ h v v0 v1
/-- the order of places by the row's indices -/
def PxO (o : Int) (V S : Fz) (i l j l2 : Int) : Prop := if o = 0 then l < l2 ∨ l = l2 ∧ i < j else if o = 1 then V (S i) < V (S j) ∨ V (S i) = V (S j) ∧ (l < l2 ∨ l = l2 ∧ i < j) else i < j ∨ i = j ∧ l < l2
theorem AsN.lt {K : Int → List Int} {S : Fz} {m i j : Int} (h : AsN K S m) (i0 : 0 ≤ i) (i1 : i < m) (j0 : 0 ≤ j) (j1 : j < m) : ll (K (S i)) (K (S j)) ↔ i < j := by
  refine ⟨fun l => Decidable.byContradiction fun n => ?_, fun l => h i j i0 l j1⟩
  by_cases e : i = j
  · rw [e] at l; exact ll_ir _ l
  · exact ll_as (h j i j0 (by omega) i1) l
theorem ll_app {a b : List Int} (h : a.length = b.length) {x y : Int} : ll (a ++ [x]) (b ++ [y]) ↔ ll a b ∨ a = b ∧ x < y := by
  induction a generalizing b with
  | nil =>
    cases b with
    | nil =>
      show (x < y ∨ x = y ∧ False) ↔ (False ∨ _)
      simp
    | cons _ _ => simp at h
  | cons c a ih =>
    cases b with
    | nil => simp at h
    | cons d b =>
      have i := ih (b := b) (by simpa using h)
      show (c < d ∨ c = d ∧ ll (a ++ [x]) (b ++ [y])) ↔ ((c < d ∨ c = d ∧ ll a b) ∨ c :: a = d :: b ∧ x < y)
      rw [i, List.cons.injEq]
      refine ⟨fun z => ?_, fun z => ?_⟩
      · rcases z with z | ⟨z, z2⟩
        · exact .inl (.inl z)
        · rcases z2 with z2 | z2
          · exact .inl (.inr ⟨z, z2⟩)
          · exact .inr ⟨⟨z, z2.1⟩, z2.2⟩
      · rcases z with (z | z) | z
        · exact .inl z
        · exact .inr ⟨z.1, .inl z.2⟩
        · exact .inr ⟨z.1.1, .inr ⟨z.1.2, z.2⟩⟩
theorem ll_px {q : Sq} (hq : QiK q) {o : Int} {S : Fz} (hp : PmN (sqM q) S) (ha : AsN (sqK q o) S (sqM q)) {i l j l2 : Int} (i0 : 0 ≤ i) (i1 : i < sqM q) (j0 : 0 ≤ j) (j1 : j < sqM q) : ll (sqP q o (S i) l) (sqP q o (S j) l2) ↔ PxO o (sqV q) S i l j l2 := by
  have lt := ha.lt i0 i1 j0 j1
  unfold sqP PxO
  by_cases z : o = 0
  · rw [if_pos z, if_pos z, if_pos z]
    show (l < l2 ∨ l = l2 ∧ ll (sqK q o (S i)) (sqK q o (S j))) ↔ _
    rw [lt]
  · rw [if_neg z, if_neg z, if_neg z]
    by_cases y : o = 1
    · rw [if_pos y, if_pos y, if_pos y]
      subst y
      have lt : ll [sqV q (S i), sqC q (S i), sqNm q (S i)] [sqV q (S j), sqC q (S j), sqNm q (S j)] ↔ i < j := lt
      have lt : (sqV q (S i) < sqV q (S j) ∨ sqV q (S i) = sqV q (S j) ∧ ll [sqC q (S i), sqNm q (S i)] [sqC q (S j), sqNm q (S j)]) ↔ i < j := lt
      show (sqV q (S i) < sqV q (S j) ∨ sqV q (S i) = sqV q (S j) ∧ (l < l2 ∨ l = l2 ∧ ll [sqC q (S i), sqNm q (S i)] [sqC q (S j), sqNm q (S j)])) ↔ _
      refine ⟨fun z => ?_, fun z => ?_⟩
      · rcases z with z | ⟨z, z1 | ⟨z2, z3⟩⟩
        · exact .inl z
        · exact .inr ⟨z, .inl z1⟩
        · exact .inr ⟨z, .inr ⟨z2, lt.mp (.inr ⟨z, z3⟩)⟩⟩
      · rcases z with z | ⟨z, z1 | ⟨z2, z3⟩⟩
        · exact .inl z
        · exact .inr ⟨z, .inl z1⟩
        · refine .inr ⟨z, .inr ⟨z2, ?_⟩⟩
          rcases lt.mpr z3 with w | w
          · omega
          · exact w.2
    · rw [if_neg y, if_neg y, if_neg y]
      have e0 : (sqK q o (S i)).length = (sqK q o (S j)).length := ktK_l _ _
      rw [ll_app e0, lt]
      have e : sqK q o (S i) = sqK q o (S j) ↔ i = j := by
        refine ⟨fun e => ?_, fun e => by rw [e]⟩
        have a := hp.1 i i0 i1
        have b := hp.1 j j0 j1
        exact hp.2 i j i0 i1 j0 j1 (hq o _ _ a.1 a.2 b.1 b.2 e)
      rw [e]
/-- levels ascend in the row -/
theorem AsN.lv {q : Sq} {S : Fz} {m i j : Int} (h : AsN (sqK q 1) S m) (i0 : 0 ≤ i) (ij : i ≤ j) (j1 : j < m) : sqV q (S i) ≤ sqV q (S j) := by
  by_cases e : i = j
  · rw [e]; omega
  · have l : ll [sqV q (S i), sqC q (S i), sqNm q (S i)] [sqV q (S j), sqC q (S j), sqNm q (S j)] := h i j i0 (by omega) j1
    rcases l with l | l
    · omega
    · omega
/-- the group that begins at a place -/
def GrpB (o : Int) (V S : Fz) (a e m : Int) : Prop := (o = 0 → e = m) ∧ (o ≠ 0 → a + 1 ≤ e) ∧ (0 < m → e ≤ m) ∧ (o = 1 → (∀ i, a ≤ i → i < e → V (S i) = V (S a)) ∧ (e < m → V (S e) ≠ V (S a))) ∧ (2 ≤ o → e = a + 1)
set_option maxHeartbeats 8000000 in
theorem s_X63_findGroup_26 {N : Nat} {q : Sq} {o1 : Int} {ga : Int} (hN : 1099511627776 ≤ N) (n : Nat) : ∀ {x1 : Int} {G : Gt} {D : Dt}, Ty D → (TSq D G q) → (x1 = o1 ∧ 0 ≤ x1 ∧ x1 ≤ 4 ∧ (d_I D 6328 (s_ G 63)) = ga ∧ 0 ≤ ga ∧ (0 < sqM q → ga < sqM q) ∧ 0 ≤ sqM q ∧ sqM q ≤ 4096) → (PmN (sqM q) (d_A D 6324 (s_ G 63))) → ((x1 = 0 → (d_I D 6327 (s_ G 63)) = sqM q) ∧ (x1 ≠ 0 → ga + 1 ≤ (d_I D 6327 (s_ G 63))) ∧ (0 < sqM q → (d_I D 6327 (s_ G 63)) ≤ sqM q) ∧ (2 ≤ x1 → (d_I D 6327 (s_ G 63)) = ga + 1)) → (x1 = 1 → ∀ i, ga ≤ i → i < (d_I D 6327 (s_ G 63)) → sqV q ((d_A D 6324 (s_ G 63) (i))) = sqV q ((d_A D 6324 (s_ G 63) (ga)))) → 4097 - (d_I D 6327 (s_ G 63)) < n → Wp (q_X63_findGroup_26 N n x1 G D) (fun D' => Ty D' ∧ (GrpB o1 (sqV q) ((d_A D' 6324 (s_ G 63))) ga ((d_I D' 6327 (s_ G 63))) (sqM q))) := by
  induction n with
  | zero =>
    intro x1 G D hT hq h0 hp he hi hm; exfalso; have := ty_6327 hT (s_ G 63); omega
  | succ n ih =>
    intro x1 G D hT hq h0 hp he hi hm
    show Wp (q_X63_findGroup_26 N (n + 1) x1 G D) _
    rw [q_X63_findGroup_26]
    have t1 := ty_6328 hT (s_ G 63)
    have t2 := ty_6327 hT (s_ G 63)
    have t27 := ty_6327 hT (s_ G 63)
    have qm := hq.1
    refine w_ite (fun hc1 => ?_) (fun hc1 => ?_)
    · skip
      have t3 := ty_6317 hT (s_ G 63)
      refine w_ite (fun hc2 => ?_) (fun hc2 => ?_)
      · skip
        refine w_some ?_
        refine ⟨hT, ?_⟩
        exact ⟨fun z => he.1 (by omega), fun z => he.2.1 (by omega), he.2.2.1, fun z => ⟨hi hc1, fun y => by omega⟩, fun z => he.2.2.2 (by omega)⟩
      · skip
        have pg := hp.1 ga (by omega) (by omega)
        have pe := hp.1 (d_I D 6327 (s_ G 63)) (by omega) (by omega)
        refine w_lA (by (first | omega | assumption | (subst_vars; first | omega | assumption) | done)) fun v2 e_v2 => ?_
        have t_v2 : 0 ≤ v2 ∧ v2 ≤ 4095 := by rw [e_v2]; exact ty_6324 hT _ _
        refine w_lA (by (first | omega | assumption | (subst_vars; first | omega | assumption) | done)) fun v4 e_v4 => ?_
        have t_v4 : 0 ≤ v4 ∧ v4 ≤ 32 := by rw [e_v4]; exact ty_6319 hT _ _
        have e4 : v4 = sqV q (d_A D 6324 (s_ G 63) (d_I D 6327 (s_ G 63))) := by rw [e_v4, hq.2.2.1, e_v2]
        refine w_lA (by (first | omega | assumption | (subst_vars; first | omega | assumption) | done)) fun v6 e_v6 => ?_
        have t_v6 : 0 ≤ v6 ∧ v6 ≤ 4095 := by rw [e_v6]; exact ty_6324 hT _ _
        refine w_lA (by (first | omega | assumption | (subst_vars; first | omega | assumption) | done)) fun v8 e_v8 => ?_
        have t_v8 : 0 ≤ v8 ∧ v8 ≤ 32 := by rw [e_v8]; exact ty_6319 hT _ _
        have e8 : v8 = sqV q (d_A D 6324 (s_ G 63) ga) := by rw [e_v8, hq.2.2.1, e_v6, h0.2.2.2.1]
        refine w_ite (fun hc3 => ?_) (fun hc3 => ?_)
        · skip
          refine w_gd (by (first | omega | assumption | (subst_vars; first | omega | assumption) | done)) ?_
          refine w_let fun v10 e_v10 => ?_
          refine w_let fun d9 e_d9 => ?_
          have T_d9 : Ty d9 := tyI_6327 e_d9 hT (by (first | omega | assumption | (subst_vars; first | omega | assumption) | done))
          have rq1 : d_I d9 6328 (s_ G 63) = d_I D 6328 (s_ G 63) := rdI_I e_d9 rfl
          have rq2 : d_A d9 6324 (s_ G 63) = d_A D 6324 (s_ G 63) := rdA_I e_d9
          have rq3 : d_I d9 6327 (s_ G 63) = v10 := rdI_s e_d9
          have j1_hq : TSq d9 G q := by
            (first | assumption | exact (TSq.fr (by assumption) (Fr.uI e_d9) rfl))
          have j1_h0 : x1 = o1 ∧ 0 ≤ x1 ∧ x1 ≤ 4 ∧ (d_I d9 6328 (s_ G 63)) = ga ∧ 0 ≤ ga ∧ (0 < sqM q → ga < sqM q) ∧ 0 ≤ sqM q ∧ sqM q ≤ 4096 := by
            try simp only [rq1]
            (first | omega | assumption | (subst_vars; first | omega | assumption) | done)
          have j1_hp : PmN (sqM q) (d_A d9 6324 (s_ G 63)) := by
            try simp only [rq2]
            (first | omega | assumption | (subst_vars; first | omega | assumption) | done)
          have j1_he : (x1 = 0 → (d_I d9 6327 (s_ G 63)) = sqM q) ∧ (x1 ≠ 0 → ga + 1 ≤ (d_I d9 6327 (s_ G 63))) ∧ (0 < sqM q → (d_I d9 6327 (s_ G 63)) ≤ sqM q) ∧ (2 ≤ x1 → (d_I d9 6327 (s_ G 63)) = ga + 1) := by
            try simp only [rq3]
            refine ⟨by omega, by omega, by omega, by omega⟩
          have j1_hi : x1 = 1 → ∀ i, ga ≤ i → i < (d_I d9 6327 (s_ G 63)) → sqV q ((d_A d9 6324 (s_ G 63) (i))) = sqV q ((d_A d9 6324 (s_ G 63) (ga))) := by
            try simp only [rq3, rq2]
            intro z i a b; rw [e_v10] at b
            by_cases y : i = d_I D 6327 (s_ G 63)
            · rw [y, ← e4, ← e8]; exact hc3
            · exact hi hc1 i a (by omega)
          have j1_hm : 4097 - (d_I d9 6327 (s_ G 63)) < n := by
            try simp only [rq3]
            (first | omega | assumption | (subst_vars; first | omega | assumption) | done)
          exact ih T_d9 j1_hq j1_h0 j1_hp j1_he j1_hi j1_hm
        · skip
          refine w_some ?_
          refine ⟨hT, ?_⟩
          refine ⟨fun z => by omega, fun z => he.2.1 (by omega), he.2.2.1, fun z => ⟨hi hc1, fun y => ?_⟩, fun z => he.2.2.2 (by omega)⟩
          rw [← e4, ← e8]; exact hc3
    · skip
      refine w_some ?_
      refine ⟨hT, ?_⟩
      exact ⟨fun z => he.1 (by omega), fun z => he.2.1 (by omega), he.2.2.1, fun z => absurd (h0.1.trans z) hc1, fun z => he.2.2.2 (by omega)⟩
set_option maxHeartbeats 8000000 in
theorem s_X63_findGroup {N : Nat} {G : Gt} {D : Dt} (hN : 1099511627776 ≤ N) {g : Cg} {q : Sq} (hT : Ty D) (hg : TCg D G g) (hq : TSq D G q) (h0 : 0 ≤ (d_I D 6325 (s_ G 63)) ∧ (d_I D 6325 (s_ G 63)) < cgW g ∧ 0 ≤ (d_I D 6328 (s_ G 63)) ∧ (0 < sqM q → (d_I D 6328 (s_ G 63)) < sqM q) ∧ (sqM q = 0 → (d_I D 6328 (s_ G 63)) = 0) ∧ 0 ≤ sqM q ∧ sqM q ≤ 4096) (hp : PmN (sqM q) (d_A D 6324 (s_ G 63))) : Wp (q_X63_findGroup N G D) (fun D' => Ty D' ∧ (GrpB (cgO g (d_I D 6325 (s_ G 63))) (sqV q) ((d_A D 6324 (s_ G 63))) (d_I D 6328 (s_ G 63)) ((d_I D' 6327 (s_ G 63))) (sqM q))) := by
  refine w_un (q_X63_findGroup.eq_1 ..) ?_
  have t1 := ty_6325 hT (s_ G 63)
  have t2 := ty_6328 hT (s_ G 63)
  have oo := (hg.1.2.2 _ h0.1 h0.2.1).1
  have qm := hq.1
  have c1_hg : TCg D G g := by
    (first | assumption)
  have c1_h0 : 0 ≤ (d_I D 6325 (s_ G 63)) ∧ (d_I D 6325 (s_ G 63)) < cgW g := by
    (first | omega | assumption | (subst_vars; first | omega | assumption) | done)
  refine w_b (s_X63_orderNow hT c1_hg c1_h0) fun v1 h_v1 => ?_
  have r1 : 0 ≤ v1 ∧ v1 ≤ 4 := by rw [h_v1]; exact oo
  refine w_ite (fun hc1 => ?_) (fun hc1 => ?_)
  · skip
    have t3 := ty_6317 hT (s_ G 63)
    generalize e_ts0 : (d_I D 6317 (s_ G 63)) = ts0
    refine w_un (q_X63_findGroup_23.eq_1 ..) ?_
    refine w_let fun d1 e_d1 => ?_
    have T_d1 : Ty d1 := tyI_6327 e_d1 hT (by (first | omega | assumption | (subst_vars; first | omega | assumption) | done))
    have rq1 : d_I d1 6328 (s_ G 63) = d_I D 6328 (s_ G 63) := rdI_I e_d1 rfl
    have rq2 : d_A d1 6324 (s_ G 63) = d_A D 6324 (s_ G 63) := rdA_I e_d1
    have rq3 : d_I d1 6327 (s_ G 63) = ts0 := rdI_s e_d1
    have j1_hq : TSq d1 G q := by
      (first | assumption | exact (TSq.fr (by assumption) (Fr.uI e_d1) rfl))
    have j1_h0 : v1 = v1 ∧ 0 ≤ v1 ∧ v1 ≤ 4 ∧ (d_I d1 6328 (s_ G 63)) = (d_I d1 6328 (s_ G 63)) ∧ 0 ≤ (d_I d1 6328 (s_ G 63)) ∧ (0 < sqM q → (d_I d1 6328 (s_ G 63)) < sqM q) ∧ 0 ≤ sqM q ∧ sqM q ≤ 4096 := by
      try simp only [rq1]
      exact ⟨trivial, by omega, by omega, trivial, by omega, h0.2.2.2.1, by omega, by omega⟩
    have j1_hp : PmN (sqM q) (d_A d1 6324 (s_ G 63)) := by
      try simp only [rq2, rq1]
      (first | omega | assumption | (subst_vars; first | omega | assumption) | done)
    have j1_he : (v1 = 0 → (d_I d1 6327 (s_ G 63)) = sqM q) ∧ (v1 ≠ 0 → (d_I d1 6328 (s_ G 63)) + 1 ≤ (d_I d1 6327 (s_ G 63))) ∧ (0 < sqM q → (d_I d1 6327 (s_ G 63)) ≤ sqM q) ∧ (2 ≤ v1 → (d_I d1 6327 (s_ G 63)) = (d_I d1 6328 (s_ G 63)) + 1) := by
      try simp only [rq3, rq1]
      refine ⟨by omega, by omega, by omega, by omega⟩
    have j1_hi : v1 = 1 → ∀ i, (d_I d1 6328 (s_ G 63)) ≤ i → i < (d_I d1 6327 (s_ G 63)) → sqV q ((d_A d1 6324 (s_ G 63) (i))) = sqV q ((d_A d1 6324 (s_ G 63) ((d_I d1 6328 (s_ G 63))))) := by
      try simp only [rq3, rq2, rq1]
      intro z; omega
    have j1_hm : 4097 - (d_I d1 6327 (s_ G 63)) < N := by
      try simp only [rq3, rq1]
      (first | omega | assumption | (subst_vars; first | omega | assumption) | done)
    refine Wp.mo (Wp.fr (s_X63_findGroup_26 hN (q := q) (o1 := v1) (ga := (d_I d1 6328 (s_ G 63))) _ T_d1 j1_hq j1_h0 j1_hp j1_he j1_hi j1_hm) (fr_X63_findGroup_26 _)) ?_
    intro o ho
    obtain ⟨⟨hT', ho⟩, hF⟩ := ho
    try dsimp only at hF
    refine ⟨hT', ?_⟩
    try simp only [rq1] at ho
    have t4 := ty_6327 hT' (s_ G 63)
    have rq4 : d_A o 6324 (s_ G 63) = d_A D 6324 (s_ G 63) := Eq.trans (congrFun (hF.a (i := 6324) rfl) (s_ G 63)) (rdA_I e_d1)
    try simp only [rq4]
    try simp only [rq4] at ho
    rw [h_v1] at ho; exact ho
  · skip
    refine w_gd (by (first | omega | assumption | (subst_vars; first | omega | assumption) | done)) ?_
    generalize e_ts0_2 : ((d_I D 6328 (s_ G 63)) + (1 : Int)) = ts0_2
    refine w_un (q_X63_findGroup_23.eq_1 ..) ?_
    refine w_let fun d1_2 e_d1_2 => ?_
    have T_d1_2 : Ty d1_2 := tyI_6327 e_d1_2 hT (by (first | omega | assumption | (subst_vars; first | omega | assumption) | done))
    have rq5 : d_I d1_2 6328 (s_ G 63) = d_I D 6328 (s_ G 63) := rdI_I e_d1_2 rfl
    have rq6 : d_A d1_2 6324 (s_ G 63) = d_A D 6324 (s_ G 63) := rdA_I e_d1_2
    have rq7 : d_I d1_2 6327 (s_ G 63) = ts0_2 := rdI_s e_d1_2
    have j2_hq : TSq d1_2 G q := by
      (first | assumption | exact (TSq.fr (by assumption) (Fr.uI e_d1_2) rfl))
    have j2_h0 : v1 = v1 ∧ 0 ≤ v1 ∧ v1 ≤ 4 ∧ (d_I d1_2 6328 (s_ G 63)) = (d_I d1_2 6328 (s_ G 63)) ∧ 0 ≤ (d_I d1_2 6328 (s_ G 63)) ∧ (0 < sqM q → (d_I d1_2 6328 (s_ G 63)) < sqM q) ∧ 0 ≤ sqM q ∧ sqM q ≤ 4096 := by
      try simp only [rq5]
      exact ⟨trivial, by omega, by omega, trivial, by omega, h0.2.2.2.1, by omega, by omega⟩
    have j2_hp : PmN (sqM q) (d_A d1_2 6324 (s_ G 63)) := by
      try simp only [rq6, rq5]
      (first | omega | assumption | (subst_vars; first | omega | assumption) | done)
    have j2_he : (v1 = 0 → (d_I d1_2 6327 (s_ G 63)) = sqM q) ∧ (v1 ≠ 0 → (d_I d1_2 6328 (s_ G 63)) + 1 ≤ (d_I d1_2 6327 (s_ G 63))) ∧ (0 < sqM q → (d_I d1_2 6327 (s_ G 63)) ≤ sqM q) ∧ (2 ≤ v1 → (d_I d1_2 6327 (s_ G 63)) = (d_I d1_2 6328 (s_ G 63)) + 1) := by
      try simp only [rq7, rq5]
      refine ⟨by omega, by omega, by omega, by omega⟩
    have j2_hi : v1 = 1 → ∀ i, (d_I d1_2 6328 (s_ G 63)) ≤ i → i < (d_I d1_2 6327 (s_ G 63)) → sqV q ((d_A d1_2 6324 (s_ G 63) (i))) = sqV q ((d_A d1_2 6324 (s_ G 63) ((d_I d1_2 6328 (s_ G 63))))) := by
      try simp only [rq7, rq6, rq5]
      intro z i a b; rw [show i = d_I D 6328 (s_ G 63) by omega]
    have j2_hm : 4097 - (d_I d1_2 6327 (s_ G 63)) < N := by
      try simp only [rq7, rq5]
      (first | omega | assumption | (subst_vars; first | omega | assumption) | done)
    refine Wp.mo (Wp.fr (s_X63_findGroup_26 hN (q := q) (o1 := v1) (ga := (d_I d1_2 6328 (s_ G 63))) _ T_d1_2 j2_hq j2_h0 j2_hp j2_he j2_hi j2_hm) (fr_X63_findGroup_26 _)) ?_
    intro o ho
    obtain ⟨⟨hT', ho⟩, hF⟩ := ho
    try dsimp only at hF
    refine ⟨hT', ?_⟩
    try simp only [rq5] at ho
    have t5 := ty_6327 hT' (s_ G 63)
    have rq8 : d_A o 6324 (s_ G 63) = d_A D 6324 (s_ G 63) := Eq.trans (congrFun (hF.a (i := 6324) rfl) (s_ G 63)) (rdA_I e_d1_2)
    try simp only [rq8]
    try simp only [rq8] at ho
    rw [h_v1] at ho; exact ho
set_option maxHeartbeats 8000000 in
theorem s_X63_enter {N : Nat} {G : Gt} {D : Dt} (hN : 1099511627776 ≤ N) {g : Cg} {q : Sq} (hT : Ty D) (hg : TCg D G g) (hq : TSq D G q) (hk : QiK q) (h0 : 0 ≤ (d_I D 6325 (s_ G 63)) ∧ (d_I D 6325 (s_ G 63)) ≤ cgW g ∧ 0 ≤ sqM q ∧ sqM q ≤ 4096) : Wp (q_X63_enter N G D) (fun D' => Ty D' ∧ (((d_I D 6325 (s_ G 63)) < cgW g → (d_I D' 6326 (s_ G 63)) = 0 ∧ (d_I D' 6329 (s_ G 63)) = 0 ∧ (d_I D' 6328 (s_ G 63)) = 0 ∧ PmN (sqM q) ((d_A D' 6324 (s_ G 63))) ∧ AsN (sqK q (cgO g (d_I D 6325 (s_ G 63)))) ((d_A D' 6324 (s_ G 63))) (sqM q) ∧ GrpB (cgO g (d_I D 6325 (s_ G 63))) (sqV q) ((d_A D' 6324 (s_ G 63))) 0 ((d_I D' 6327 (s_ G 63))) (sqM q)) ∧ (cgW g ≤ (d_I D 6325 (s_ G 63)) → D' = D))) := by
  refine w_un (q_X63_enter.eq_1 ..) ?_
  have t1 := ty_6325 hT (s_ G 63)
  have qm := hq.1
  refine w_let fun v1 e_v1 => ?_
  simp only [q_X63_ways] at e_v1
  have ew : v1 = cgW g := by rw [e_v1, hg.w]
  refine w_ite (fun hc1 => ?_) (fun hc1 => ?_)
  · skip
    have c2_hg : TCg D G g := by
      (first | assumption)
    have c2_h0 : 0 ≤ (d_I D 6325 (s_ G 63)) ∧ (d_I D 6325 (s_ G 63)) < cgW g := by
      (first | omega | assumption | (subst_vars; first | omega | assumption) | done)
    refine w_b (s_X63_orderNow (g := g) hT c2_hg c2_h0) fun v2 h_v2 => ?_
    have t2 := ty_6317 hT (s_ G 63)
    have c3_h0 : 0 ≤ v2 ∧ 0 ≤ (sqM q) ∧ (sqM q) ≤ 4096 ∧ (d_I D 6317 (s_ G 63)) = (sqM q) := by
      refine ⟨?_, by omega, by omega, by omega⟩
      rw [h_v2]; exact (hg.1.2.2 _ h0.1 (by omega)).1.1
    have c3_hV : ∀ a b, 0 ≤ a → a < (sqM q) → 0 ≤ b → b < (sqM q) → a ≠ b → ll (kD v2 D G a) (kD v2 D G b) ∨ ll (kD v2 D G b) (kD v2 D G a) := by
      intro a b a0 a1 b0 b1 ne
      rw [hq.kD]
      exact ll_tot _ _ (ktK_l a b) (fun e => ne (hk _ _ _ a0 a1 b0 b1 e))
    refine w_b (Wp.fr (s_X63_sort (m := (sqM q)) hN hT c3_h0 c3_hV) fr_X63_sort) fun d4 h_d4 => ?_
    obtain ⟨⟨T_d4, h_d4⟩, F_d4⟩ := h_d4
    refine w_let fun d5 e_d5 => ?_
    have T_d5 : Ty d5 := tyI_6328 e_d5 T_d4 (by (first | omega | assumption | (subst_vars; first | omega | assumption) | done))
    have rq1 : d_I d5 6325 (s_ G 63) = d_I D 6325 (s_ G 63) := Eq.trans (rdI_I e_d5 rfl) (congrFun (F_d4.i (i := 6325) rfl) (s_ G 63))
    have rq2 : d_I d5 6328 (s_ G 63) = (0 : Int) := rdI_s e_d5
    have rq3 : d_A d5 6324 (s_ G 63) = d_A d4 6324 (s_ G 63) := rdA_I e_d5
    have c4_hg : TCg d5 G g := by
      (first | assumption | exact (TCg.fr (by assumption) (Fr.uI e_d5) rfl) | exact (TCg.fr (TCg.fr (by assumption) F_d4 rfl) (Fr.uI e_d5) rfl))
    have c4_hq : TSq d5 G q := by
      (first | assumption | exact (TSq.fr (by assumption) (Fr.uI e_d5) rfl) | exact (TSq.fr (TSq.fr (by assumption) F_d4 rfl) (Fr.uI e_d5) rfl))
    have c4_h0 : 0 ≤ (d_I d5 6325 (s_ G 63)) ∧ (d_I d5 6325 (s_ G 63)) < cgW g ∧ 0 ≤ (d_I d5 6328 (s_ G 63)) ∧ (0 < sqM q → (d_I d5 6328 (s_ G 63)) < sqM q) ∧ (sqM q = 0 → (d_I d5 6328 (s_ G 63)) = 0) ∧ 0 ≤ sqM q ∧ sqM q ≤ 4096 := by
      try simp only [rq1, rq2]
      exact ⟨by omega, by omega, by omega, fun z => z, fun _ => trivial, by omega, by omega⟩
    have c4_hp : PmN (sqM q) (d_A d5 6324 (s_ G 63)) := by
      try simp only [rq3]
      exact h_d4.1
    refine w_b (Wp.fr (s_X63_findGroup (g := g) (q := q) hN T_d5 c4_hg c4_hq c4_h0 c4_hp) fr_X63_findGroup) fun d7 h_d7 => ?_
    obtain ⟨⟨T_d7, h_d7⟩, F_d7⟩ := h_d7
    try simp only [rq1, rq3, rq2] at h_d7
    refine w_let fun d8 e_d8 => ?_
    have T_d8 : Ty d8 := tyI_6326 e_d8 T_d7 (by (first | omega | assumption | (subst_vars; first | omega | assumption) | done))
    refine w_let fun d9 e_d9 => ?_
    have T_d9 : Ty d9 := tyI_6329 e_d9 T_d8 (by (first | omega | assumption | (subst_vars; first | omega | assumption) | done))
    refine w_some ?_
    refine ⟨T_d9, ?_⟩
    have rq4 : d_I d9 6326 (s_ G 63) = (0 : Int) := Eq.trans (rdI_I e_d9 rfl) (rdI_s e_d8)
    have rq5 : d_I d9 6329 (s_ G 63) = (0 : Int) := rdI_s e_d9
    have rq6 : d_I d9 6328 (s_ G 63) = (0 : Int) := Eq.trans (rdI_I e_d9 rfl) (Eq.trans (rdI_I e_d8 rfl) (Eq.trans (congrFun (F_d7.i (i := 6328) rfl) (s_ G 63)) (rdI_s e_d5)))
    have rq7 : d_A d9 6324 (s_ G 63) = d_A d4 6324 (s_ G 63) := Eq.trans (rdA_I e_d9) (Eq.trans (rdA_I e_d8) (Eq.trans (congrFun (F_d7.a (i := 6324) rfl) (s_ G 63)) (rdA_I e_d5)))
    have rq8 : d_I d9 6327 (s_ G 63) = d_I d7 6327 (s_ G 63) := Eq.trans (rdI_I e_d9 rfl) (rdI_I e_d8 rfl)
    have t3 := ty_6327 T_d7 (s_ G 63)
    try simp only [rq4, rq5, rq6, rq7, rq8]
    refine ⟨fun _ => ⟨trivial, trivial, trivial, h_d4.1, ?_, h_d7⟩, fun z => by omega⟩
    have a := h_d4.2
    rw [hq.kD, h_v2] at a
    exact a
  · skip
    refine w_some ?_
    refine ⟨hT, ?_⟩
    have t4 := ty_6326 hT (s_ G 63)
    have t5 := ty_6329 hT (s_ G 63)
    have t6 := ty_6328 hT (s_ G 63)
    have t7 := ty_6327 hT (s_ G 63)
    refine ⟨fun z => by omega, fun _ => rfl⟩
