/-! specifications, printed by gen/mks.py -/
set_option maxRecDepth 100000
/-- one more component -/
def odC (o : Od) (c dx dy n : Int) : Od := (o.1, c + 1, (fun k => if k = c then dx else oDX o k), (fun k => if k = c then dy else oDY o k), (fun k => if k = c then n else oNL o k), (fun k r => if k = c then 15 else oWD o k r), (fun k r => if k = c then 15 else oHG o k r))
def odP (o : Od) (c r w h : Int) : Od := (o.1, o.2.1, o.2.2.1, o.2.2.2.1, o.2.2.2.2.1, (fun k i => if k = c ∧ i = r then w else oWD o k i), (fun k i => if k = c ∧ i = r then h else oHG o k i))
def odT (x0 y0 x1 y1 : Int) : Od := ((x0, y0, x1, y1), 0, (fun _ => 0), (fun _ => 0), (fun _ => 0), (fun _ _ => 0), (fun _ _ => 0))
theorem odC_ok {o : Od} (h : OdOk o) {c dx dy n : Int} (e : oNC o = c) (c1 : c < 16) (a : 1 ≤ dx ∧ dx ≤ 255) (b : 1 ≤ dy ∧ dy ≤ 255) (d : 0 ≤ n ∧ n ≤ 32) : OdOk (odC o c dx dy n) := by
  obtain ⟨h1, h2, h3, h4, h5⟩ := h
  refine ⟨h1, h2, ⟨?_, ?_⟩, fun k k0 k1 => ?_, fun k r k0 k1 r0 r1 => ?_⟩
  · show 0 ≤ c + 1; omega
  · show c + 1 ≤ 16; omega
  · have k1 : k < c + 1 := k1
    show 1 ≤ (if k = c then dx else oDX o k) ∧ (if k = c then dx else oDX o k) ≤ 255 ∧ 1 ≤ (if k = c then dy else oDY o k) ∧ (if k = c then dy else oDY o k) ≤ 255 ∧ 0 ≤ (if k = c then n else oNL o k) ∧ (if k = c then n else oNL o k) ≤ 32
    by_cases z : k = c
    · rw [if_pos z, if_pos z, if_pos z]; exact ⟨a.1, a.2, b.1, b.2, d.1, d.2⟩
    · rw [if_neg z, if_neg z, if_neg z]; exact h4 k k0 (by omega)
  · have k1 : k < c + 1 := k1
    have r1 : r ≤ (if k = c then n else oNL o k) := r1
    show 0 ≤ (if k = c then 15 else oWD o k r) ∧ (if k = c then 15 else oWD o k r) ≤ 15 ∧ 0 ≤ (if k = c then 15 else oHG o k r) ∧ (if k = c then 15 else oHG o k r) ≤ 15
    by_cases z : k = c
    · rw [if_pos z, if_pos z]; decide
    · rw [if_neg z] at r1
      rw [if_neg z, if_neg z]; exact h5 k r k0 (by omega) r0 r1
theorem odP_ok {o : Od} (h : OdOk o) {c r w k : Int} (a : 0 ≤ w ∧ w ≤ 15) (b : 0 ≤ k ∧ k ≤ 15) : OdOk (odP o c r w k) := by
  obtain ⟨h1, h2, h3, h4, h5⟩ := h
  refine ⟨h1, h2, h3, h4, fun j i k0 k1 r0 r1 => ?_⟩
  show 0 ≤ (if j = c ∧ i = r then w else oWD o j i) ∧ (if j = c ∧ i = r then w else oWD o j i) ≤ 15 ∧ 0 ≤ (if j = c ∧ i = r then k else oHG o j i) ∧ (if j = c ∧ i = r then k else oHG o j i) ≤ 15
  split
  · exact ⟨a.1, a.2, b.1, b.2⟩
  · exact h5 j i k0 k1 r0 r1
theorem cm3 {D d2 d5 d7 d9 : Dt} {a : Nat} {K x y z : Int} (b : d_A d2 = d_A D) (e5 : d5 = u_A d2 6307 a K x) (e7 : d7 = u_A d5 6308 a K y) (e9 : d9 = u_A d7 6309 a K z) : (∀ k, d_A d9 6307 a k = if k = K then x else d_A D 6307 a k) ∧ (∀ k, d_A d9 6308 a k = if k = K then y else d_A D 6308 a k) ∧ (∀ k, d_A d9 6309 a k = if k = K then z else d_A D 6309 a k) ∧ d_A d9 6310 = d_A D 6310 ∧ d_A d9 6311 = d_A D 6311 := by
  rw [e9, e7, e5]
  refine ⟨fun k => ?_, fun k => ?_, fun k => ?_, ?_, ?_⟩
  · simp only [rA_A, b]; simp
  · simp only [rA_A, b]; simp
  · simp only [rA_A, b]; simp
  · rw [← b]; rfl
  · rw [← b]; rfl
theorem TOd.pr {D D' : Dt} {G : Gt} {o : Od} (h : TOd D G o) {c r w k : Int} (c0 : 0 ≤ c) (c1 : c < oNC o) (r0 : 0 ≤ r) (r1 : r ≤ oNL o c) (a : 0 ≤ w ∧ w ≤ 15) (b : 0 ≤ k ∧ k ≤ 15) (e2 : d_I D' 6302 = d_I D 6302) (e3 : d_I D' 6303 = d_I D 6303) (e4 : d_I D' 6304 = d_I D 6304) (e5 : d_I D' 6305 = d_I D 6305) (e6 : d_I D' 6306 = d_I D 6306) (e7 : d_A D' 6307 = d_A D 6307) (e8 : d_A D' 6308 = d_A D 6308) (e9 : d_A D' 6309 = d_A D 6309)
    (p : ∀ i, d_A D' 6310 (s_ G 63) i = if i = 33 * c + r then w else d_A D 6310 (s_ G 63) i) (q : ∀ i, d_A D' 6311 (s_ G 63) i = if i = 33 * c + r then k else d_A D 6311 (s_ G 63) i) : TOd D' G (odP o c r w k) := by
  obtain ⟨h1, h2, h3, h4, h5⟩ := h
  refine ⟨odP_ok h1 a b, by rw [e2, e3, e4, e5]; exact h2, by rw [e6]; exact h3, by rw [e7, e8, e9]; exact h4, fun j i j0 j1 i0 i1 => ?_⟩
  have i1 : i ≤ oNL o j := i1
  have j1 : j < oNC o := j1
  rw [p, q]
  show _ = (if j = c ∧ i = r then w else oWD o j i) ∧ _ = (if j = c ∧ i = r then k else oHG o j i)
  by_cases z : j = c ∧ i = r
  · rw [if_pos z, if_pos z, if_pos (by rw [z.1, z.2]), if_pos (by rw [z.1, z.2])]; exact ⟨rfl, rfl⟩
  · have lj := (h1.2.2.2.1 j j0 j1)
    have lc := (h1.2.2.2.1 c c0 c1)
    rw [if_neg z, if_neg z, if_neg (by omega), if_neg (by omega)]; exact h5 j i j0 j1 i0 i1
theorem pr2 {D d2 d5 d7 : Dt} {a : Nat} {K x y : Int} (b : d_A d2 = d_A D) (e5 : d5 = u_A d2 6310 a K x) (e7 : d7 = u_A d5 6311 a K y) : (∀ k, d_A d7 6310 a k = if k = K then x else d_A D 6310 a k) ∧ (∀ k, d_A d7 6311 a k = if k = K then y else d_A D 6311 a k) := by
  rw [e7, e5]
  refine ⟨fun k => ?_, fun k => ?_⟩
  · simp only [rA_A, b]; simp
  · simp only [rA_A, b]; simp
set_option maxHeartbeats 8000000 in
theorem s_X63_component_107 {N : Nat} {c : Int} {Dz : Dt} (hN : 1099511627776 ≤ N) (n : Nat) : ∀ {x5 : Int} {G : Gt} {D : Dt}, Ty D → ((d_I D 6306 (s_ G 63)) = c ∧ 0 ≤ c ∧ c < 16 ∧ 0 ≤ x5 ∧ x5 ≤ 33) → (∀ k, 0 ≤ k → k < 33 * c → d_A D 6310 (s_ G 63) k = d_A Dz 6310 (s_ G 63) k ∧ d_A D 6311 (s_ G 63) k = d_A Dz 6311 (s_ G 63) k) → (∀ r, 0 ≤ r → r < x5 → d_A D 6310 (s_ G 63) (33 * c + r) = 15 ∧ d_A D 6311 (s_ G 63) (33 * c + r) = 15) → 33 - x5 < n → Wp (q_X63_component_107 N n x5 G D) (fun o => (fun r D' => Ty D' ∧ (r = c ∧ (d_I D' 6306 (s_ G 63)) = c + 1 ∧ (d_I D' 6316 (s_ G 63)) = 0 ∧ (∀ k, 0 ≤ k → k < 33 * c → d_A D' 6310 (s_ G 63) k = d_A Dz 6310 (s_ G 63) k ∧ d_A D' 6311 (s_ G 63) k = d_A Dz 6311 (s_ G 63) k) ∧ (∀ r, 0 ≤ r → r < 33 → d_A D' 6310 (s_ G 63) (33 * c + r) = 15 ∧ d_A D' 6311 (s_ G 63) (33 * c + r) = 15))) o.1 o.2) := by
  induction n with
  | zero =>
    intro x5 G D hT h0 ha hb hm; exfalso; omega
  | succ n ih =>
    intro x5 G D hT h0 ha hb hm
    show Wp (q_X63_component_107 N (n + 1) x5 G D) _
    rw [q_X63_component_107]
    have t1 := ty_6306 hT (s_ G 63)
    refine w_ite (fun hc1 => ?_) (fun hc1 => ?_)
    · skip
      refine w_let fun d1 e_d1 => ?_
      have T_d1 : Ty d1 := tyI_6316 e_d1 hT (by (first | omega | assumption | (subst_vars; first | omega | assumption) | done))
      refine w_gd (by (first | omega | assumption | (subst_vars; first | omega | assumption) | done)) ?_
      refine w_let fun v3 e_v3 => ?_
      refine w_let fun d2 e_d2 => ?_
      have T_d2 : Ty d2 := tyI_6306 e_d2 T_d1 (by (first | omega | assumption | (subst_vars; first | omega | assumption) | done))
      refine w_gd (by (first | omega | assumption | (subst_vars; first | omega | assumption) | done)) ?_
      refine w_some ?_
      try dsimp only
      refine ⟨T_d2, ?_⟩
      have rq1 : d_I d2 6306 (s_ G 63) = v3 := rdI_s e_d2
      have rq2 : d_I d2 6316 (s_ G 63) = (0 : Int) := Eq.trans (rdI_I e_d2 rfl) (rdI_s e_d1)
      try simp only [rq1, rq2]
      have a2 : d_A d2 = d_A D := by rw [e_d2, e_d1]; rfl
      rw [a2]
      exact ⟨by omega, by omega, trivial, ha, fun r a b => hb r a (by omega)⟩
    · skip
      refine w_gd (by (first | omega | assumption | (subst_vars; first | omega | assumption) | done)) ?_
      refine w_gd (by (first | omega | assumption | (subst_vars; first | omega | assumption) | done)) ?_
      refine w_tA (by (first | omega | assumption | (subst_vars; first | omega | assumption) | done)) fun d5 e_d5 => ?_
      have T_d5 : Ty d5 := tyA_6310 e_d5 hT (by (first | omega | assumption | (subst_vars; first | omega | assumption) | done))
      have w_d5 := wA e_d5
      refine w_tA (by (first | omega | assumption | (subst_vars; first | omega | assumption) | done)) fun d7 e_d7 => ?_
      have T_d7 : Ty d7 := tyA_6311 e_d7 T_d5 (by (first | omega | assumption | (subst_vars; first | omega | assumption) | done))
      have w_d7 := wA e_d7
      have rq3 : d_A d5 6311 (s_ G 63) = d_A D 6311 (s_ G 63) := rdA_A e_d5 rfl
      try simp only [rq3] at w_d7
      have p2' := pr2 (D := D) rfl e_d5 e_d7
      refine w_gd (by (first | omega | assumption | (subst_vars; first | omega | assumption) | done)) ?_
      refine w_let fun v8 e_v8 => ?_
      have rq4 : d_I d7 6306 (s_ G 63) = d_I D 6306 (s_ G 63) := Eq.trans (rdI_A e_d7) (rdI_A e_d5)
      have j1_h0 : (d_I d7 6306 (s_ G 63)) = c ∧ 0 ≤ c ∧ c < 16 ∧ 0 ≤ v8 ∧ v8 ≤ 33 := by
        try simp only [rq4]
        (first | omega | assumption | (subst_vars; first | omega | assumption) | done)
      have j1_ha : ∀ k, 0 ≤ k → k < 33 * c → d_A d7 6310 (s_ G 63) k = d_A Dz 6310 (s_ G 63) k ∧ d_A d7 6311 (s_ G 63) k = d_A Dz 6311 (s_ G 63) k := by
        intro k a b; rw [p2'.1, p2'.2, if_neg (by omega), if_neg (by omega)]; exact ha k a b
      have j1_hb : ∀ r, 0 ≤ r → r < v8 → d_A d7 6310 (s_ G 63) (33 * c + r) = 15 ∧ d_A d7 6311 (s_ G 63) (33 * c + r) = 15 := by
        intro r a b; rw [p2'.1, p2'.2]
        by_cases z : r = x5
        · rw [if_pos (by omega), if_pos (by omega)]; exact ⟨rfl, rfl⟩
        · rw [if_neg (by omega), if_neg (by omega)]; exact hb r a (by omega)
      have j1_hm : 33 - v8 < n := by
        (first | omega | assumption | (subst_vars; first | omega | assumption) | done)
      exact ih T_d7 j1_h0 j1_ha j1_hb j1_hm
set_option maxHeartbeats 8000000 in
theorem s_X63_component {N : Nat} {x1 : Int} {x2 : Int} {x3 : Int} {G : Gt} {D : Dt} (hN : 1099511627776 ≤ N) {od : Od} (hT : Ty D) (hT0 : TOd D G od) (h0 : 1 ≤ x1 ∧ x1 ≤ 255 ∧ 1 ≤ x2 ∧ x2 ≤ 255 ∧ 0 ≤ x3 ∧ x3 ≤ 32 ∧ oNC od < 16) : Wp (q_X63_component N x1 x2 x3 G D) (fun o => (fun r D' => Ty D' ∧ (r = oNC od ∧ TOd D' G (odC od (oNC od) x1 x2 x3))) o.1 o.2) := by
  refine w_un (q_X63_component.eq_1 ..) ?_
  have n6 := hT0.2.2.1
  have nc := hT0.1.2.2.1
  refine w_ite (fun hc1 => ?_) (fun hc1 => ?_)
  · skip
    exfalso; omega
  · skip
    refine w_ite (fun hc2 => ?_) (fun hc2 => ?_)
    · skip
      exfalso; omega
    · skip
      refine w_ite (fun hc3 => ?_) (fun hc3 => ?_)
      · skip
        exfalso; omega
      · skip
        refine w_ite (fun hc4 => ?_) (fun hc4 => ?_)
        · skip
          exfalso; omega
        · skip
          refine w_ite (fun hc5 => ?_) (fun hc5 => ?_)
          · skip
            exfalso; omega
          · skip
            refine w_ite (fun hc6 => ?_) (fun hc6 => ?_)
            · skip
              exfalso; omega
            · skip
              refine w_un (q_X63_component_39.eq_1 ..) ?_
              generalize e_ts0 : (if (1 : Int) = (0 : Int) then (1 : Int) else (0 : Int)) = ts0
              refine w_un (q_X63_component_52.eq_1 ..) ?_
              have t1 := ty_6306 hT (s_ G 63)
              generalize e_ts0_2 : (if (d_I D 6306 (s_ G 63)) = (16 : Int) then (1 : Int) else (0 : Int)) = ts0_2
              refine w_un (q_X63_component_66.eq_1 ..) ?_
              unfold q_X63_refuse q_X63_refuse_18
              generalize e_ts0_3 : (if ts0 = (0 : Int) then (if ts0_2 = (0 : Int) then (0 : Int) else (2 : Int)) else (1 : Int)) = ts0_3
              refine w_ll2 ?_
              refine w_let fun d1 e_d1 => ?_
              have T_d1 : Ty d1 := tyI_no e_d1 hT rfl
              refine w_lif2 (fun hc7 => ?_) (fun hc7 => ?_)
              · skip
                refine w_let2 fun v3 d2 e_v3 e_d2 => ?_
                have T_d2 : Ty d2 := ty_e e_d2 T_d1
                refine w_ite (fun hc8 => ?_) (fun hc8 => ?_)
                · skip
                  refine w_tA (by (first | omega | assumption | (subst_vars; first | omega | assumption) | done)) fun d5 e_d5 => ?_
                  have T_d5 : Ty d5 := tyA_6307 e_d5 T_d2 (by (first | omega | assumption | (subst_vars; first | omega | assumption) | done))
                  have w_d5 := wA e_d5
                  have rq1 : d_A d2 6307 (s_ G 63) = d_A D 6307 (s_ G 63) := Eq.trans (rdA_e e_d2) (rdA_I e_d1)
                  try simp only [rq1] at w_d5
                  refine w_tA (by (first | omega | assumption | (subst_vars; first | omega | assumption) | done)) fun d7 e_d7 => ?_
                  have T_d7 : Ty d7 := tyA_6308 e_d7 T_d5 (by (first | omega | assumption | (subst_vars; first | omega | assumption) | done))
                  have w_d7 := wA e_d7
                  have rq2 : d_A d5 6308 (s_ G 63) = d_A D 6308 (s_ G 63) := Eq.trans (rdA_A e_d5 rfl) (Eq.trans (rdA_e e_d2) (rdA_I e_d1))
                  try simp only [rq2] at w_d7
                  refine w_tA (by (first | omega | assumption | (subst_vars; first | omega | assumption) | done)) fun d9 e_d9 => ?_
                  have T_d9 : Ty d9 := tyA_6309 e_d9 T_d7 (by (first | omega | assumption | (subst_vars; first | omega | assumption) | done))
                  have w_d9 := wA e_d9
                  have rq3 : d_A d7 6309 (s_ G 63) = d_A D 6309 (s_ G 63) := Eq.trans (rdA_A e_d7 rfl) (Eq.trans (rdA_A e_d5 rfl) (Eq.trans (rdA_e e_d2) (rdA_I e_d1)))
                  try simp only [rq3] at w_d9
                  have c3' := cm3 (D := D) (by rw [e_d2, e_d1]; rfl) e_d5 e_d7 e_d9
                  have rq4 : d_I d9 6306 (s_ G 63) = d_I D 6306 (s_ G 63) := Eq.trans (rdI_A e_d9) (Eq.trans (rdI_A e_d7) (Eq.trans (rdI_A e_d5) (Eq.trans (rdI_e e_d2) (rdI_I e_d1 rfl))))
                  have j1_h0 : (d_I d9 6306 (s_ G 63)) = (d_I d9 6306 (s_ G 63)) ∧ 0 ≤ (d_I d9 6306 (s_ G 63)) ∧ (d_I d9 6306 (s_ G 63)) < 16 ∧ 0 ≤ (0 : Int) ∧ (0 : Int) ≤ 33 := by
                    try simp only [rq4]
                    exact ⟨trivial, by omega, by omega, by omega, by omega⟩
                  have j1_ha : ∀ k, 0 ≤ k → k < 33 * (d_I d9 6306 (s_ G 63)) → d_A d9 6310 (s_ G 63) k = d_A d9 6310 (s_ G 63) k ∧ d_A d9 6311 (s_ G 63) k = d_A d9 6311 (s_ G 63) k := by
                    try simp only [rq4]
                    exact fun _ _ _ => ⟨trivial, trivial⟩
                  have j1_hb : ∀ r, 0 ≤ r → r < (0 : Int) → d_A d9 6310 (s_ G 63) (33 * (d_I d9 6306 (s_ G 63)) + r) = 15 ∧ d_A d9 6311 (s_ G 63) (33 * (d_I d9 6306 (s_ G 63)) + r) = 15 := by
                    try simp only [rq4]
                    (first | omega | assumption | (subst_vars; first | omega | assumption) | done)
                  have j1_hm : 33 - (0 : Int) < N := by
                    try simp only [rq4]
                    (first | omega | assumption | (subst_vars; first | omega | assumption) | done)
                  refine Wp.mo (Wp.fr (s_X63_component_107 hN (c := (d_I d9 6306 (s_ G 63))) (Dz := d9) _ T_d9 j1_h0 j1_ha j1_hb j1_hm) (fr_X63_component_107 _)) ?_
                  intro o ho
                  obtain ⟨⟨hT', ho⟩, hF⟩ := ho
                  try dsimp only at hF
                  refine ⟨hT', ?_⟩
                  try simp only [rq4] at ho
                  have t2 := ty_6306 hT' (s_ G 63)
                  have t3 := ty_6316 hT' (s_ G 63)
                  have q := ho.2.2.2
                  rw [n6] at c3' ho
                  refine ⟨ho.1, odC_ok hT0.1 rfl h0.2.2.2.2.2.2 ⟨h0.1, h0.2.1⟩ ⟨h0.2.2.1, h0.2.2.2.1⟩ ⟨h0.2.2.2.2.1, h0.2.2.2.2.2.1⟩, ⟨?_, ?_, ?_, ?_⟩, ho.2.1, fun k k0 k1 => ?_, fun k r k0 k1 r0 r1 => ?_⟩
                  · rw [show d_I o.2 6302 = d_I d9 6302 from hF.i rfl, e_d9, e_d7, e_d5, e_d2, e_d1]; exact hT0.2.1.1
                  · rw [show d_I o.2 6303 = d_I d9 6303 from hF.i rfl, e_d9, e_d7, e_d5, e_d2, e_d1]; exact hT0.2.1.2.1
                  · rw [show d_I o.2 6304 = d_I d9 6304 from hF.i rfl, e_d9, e_d7, e_d5, e_d2, e_d1]; exact hT0.2.1.2.2.1
                  · rw [show d_I o.2 6305 = d_I d9 6305 from hF.i rfl, e_d9, e_d7, e_d5, e_d2, e_d1]; exact hT0.2.1.2.2.2
                  · have k1 : k < oNC od + 1 := k1
                    rw [show d_A o.2 6307 = d_A d9 6307 from hF.a rfl, show d_A o.2 6308 = d_A d9 6308 from hF.a rfl, show d_A o.2 6309 = d_A d9 6309 from hF.a rfl, c3'.1, c3'.2.1, c3'.2.2.1]
                    show _ = (if k = oNC od then x1 else oDX od k) ∧ _ = (if k = oNC od then x2 else oDY od k) ∧ _ = (if k = oNC od then x3 else oNL od k)
                    by_cases z : k = oNC od
                    · rw [if_pos z, if_pos z, if_pos z, if_pos z, if_pos z, if_pos z]; exact ⟨rfl, rfl, rfl⟩
                    · rw [if_neg z, if_neg z, if_neg z, if_neg z, if_neg z, if_neg z]; exact hT0.2.2.2.1 k k0 (by omega)
                  · have k1 : k < oNC od + 1 := k1
                    have r1 : r ≤ (if k = oNC od then x3 else oNL od k) := r1
                    show _ = (if k = oNC od then 15 else oWD od k r) ∧ _ = (if k = oNC od then 15 else oHG od k r)
                    by_cases z : k = oNC od
                    · rw [if_pos z] at r1
                      rw [if_pos z, if_pos z, z]; exact ho.2.2.2.2 r r0 (by omega)
                    · rw [if_neg z] at r1
                      have nl := (hT0.1.2.2.2.1 k k0 (by omega))
                      have u := ho.2.2.2.1 (33 * k + r) (by omega) (by omega)
                      rw [if_neg z, if_neg z, u.1, u.2, c3'.2.2.2.1, c3'.2.2.2.2]; exact hT0.2.2.2.2 k r k0 (by omega) r0 r1
                · skip
                  exfalso; omega
              · skip
                exfalso; omega
set_option maxHeartbeats 8000000 in
theorem s_X63_isLevel {x1 : Int} {x2 : Int} {G : Gt} {D : Dt} {od : Od} (hT : Ty D) (hT0 : TOd D G od) (h0 : 0 ≤ x1 ∧ x1 < oNC od ∧ 0 ≤ x2 ∧ x2 ≤ oNL od x1) : Wp (q_X63_isLevel x1 x2 G D) (fun r => r = 1) := by
  refine w_un (q_X63_isLevel.eq_1 ..) ?_
  have n6 := hT0.2.2.1
  have nc := hT0.1.2.2.1
  have tt := hT0.2.2.2.1 x1 h0.1 h0.2.1
  refine w_ite (fun hc1 => ?_) (fun hc1 => ?_)
  · skip
    exfalso; omega
  · skip
    have t1 := ty_6306 hT (s_ G 63)
    refine w_ite (fun hc2 => ?_) (fun hc2 => ?_)
    · skip
      exfalso; omega
    · skip
      refine w_ite (fun hc3 => ?_) (fun hc3 => ?_)
      · skip
        exfalso; omega
      · skip
        refine w_ite (fun hc4 => ?_) (fun hc4 => ?_)
        · skip
          exfalso; omega
        · skip
          refine w_ite (fun hc5 => ?_) (fun hc5 => ?_)
          · skip
            exfalso; omega
          · skip
            refine w_un (q_X63_isLevel_36.eq_1 ..) ?_
            refine w_lA (by (first | omega | assumption | (subst_vars; first | omega | assumption) | done)) fun v2 e_v2 => ?_
            have t_v2 : 0 ≤ v2 ∧ v2 ≤ 32 := by rw [e_v2]; exact ty_6309 hT _ _
            refine w_ite (fun hc6 => ?_) (fun hc6 => ?_)
            · skip
              refine w_some ?_
              exfalso; have := tt.2.2; omega
            · skip
              refine w_some ?_
              (first | omega | assumption | (subst_vars; first | omega | assumption) | done)
set_option maxHeartbeats 8000000 in
theorem s_X63_precincts {x1 : Int} {x2 : Int} {x3 : Int} {x4 : Int} {G : Gt} {D : Dt} {od : Od} (hT : Ty D) (hT0 : TOd D G od) (h0 : 0 ≤ x1 ∧ x1 < oNC od ∧ 0 ≤ x2 ∧ x2 ≤ oNL od x1 ∧ 0 ≤ x3 ∧ x3 ≤ 15 ∧ 0 ≤ x4 ∧ x4 ≤ 15 ∧ (x2 = 0 ∨ 0 < x3 ∧ 0 < x4)) : Wp (q_X63_precincts x1 x2 x3 x4 G D) (fun D' => Ty D' ∧ (TOd D' G (odP od x1 x2 x3 x4))) := by
  refine w_un (q_X63_precincts.eq_1 ..) ?_
  have n6 := hT0.2.2.1
  have nc := hT0.1.2.2.1
  have nl := hT0.1.2.2.2.1 x1 h0.1 h0.2.1
  refine w_ite (fun hc1 => ?_) (fun hc1 => ?_)
  · skip
    exfalso; omega
  · skip
    refine w_ite (fun hc2 => ?_) (fun hc2 => ?_)
    · skip
      exfalso; omega
    · skip
      refine w_ite (fun hc3 => ?_) (fun hc3 => ?_)
      · skip
        exfalso; omega
      · skip
        refine w_ite (fun hc4 => ?_) (fun hc4 => ?_)
        · skip
          exfalso; omega
        · skip
          refine w_ite (fun hc5 => ?_) (fun hc5 => ?_)
          · skip
            refine w_un (q_X63_precincts_35.eq_1 ..) ?_
            refine w_un (q_X63_precincts_40.eq_1 ..) ?_
            have c1_hT0 : TOd D G od := by
              (first | assumption)
            have c1_h0 : 0 ≤ x1 ∧ x1 < oNC od ∧ 0 ≤ x2 ∧ x2 ≤ oNL od x1 := by
              (first | omega | assumption | (subst_vars; first | omega | assumption) | done)
            refine w_b (s_X63_isLevel hT c1_hT0 c1_h0) fun v1 h_v1 => ?_
            generalize e_ts0 : (if v1 = (0 : Int) then (1 : Int) else (0 : Int)) = ts0
            refine w_un (q_X63_precincts_57.eq_1 ..) ?_
            generalize e_ts0_2 : (if (1 : Int) = (0 : Int) then (1 : Int) else (0 : Int)) = ts0_2
            refine w_un (q_X63_precincts_67.eq_1 ..) ?_
            unfold q_X63_refuse q_X63_refuse_18
            generalize e_ts0_3 : (if ts0 = (0 : Int) then (if ts0_2 = (0 : Int) then (0 : Int) else (2 : Int)) else (1 : Int)) = ts0_3
            refine w_ll2 ?_
            refine w_let fun d1 e_d1 => ?_
            have T_d1 : Ty d1 := tyI_no e_d1 hT rfl
            refine w_lif2 (fun hc6 => ?_) (fun hc6 => ?_)
            · skip
              refine w_let2 fun v3 d2 e_v3 e_d2 => ?_
              have T_d2 : Ty d2 := ty_e e_d2 T_d1
              refine w_ite (fun hc7 => ?_) (fun hc7 => ?_)
              · skip
                refine w_gd (by (first | omega | assumption | (subst_vars; first | omega | assumption) | done)) ?_
                refine w_gd (by (first | omega | assumption | (subst_vars; first | omega | assumption) | done)) ?_
                refine w_tA (by (first | omega | assumption | (subst_vars; first | omega | assumption) | done)) fun d5 e_d5 => ?_
                have T_d5 : Ty d5 := tyA_6310 e_d5 T_d2 (by (first | omega | assumption | (subst_vars; first | omega | assumption) | done))
                have w_d5 := wA e_d5
                have rq1 : d_A d2 6310 (s_ G 63) = d_A D 6310 (s_ G 63) := Eq.trans (rdA_e e_d2) (rdA_I e_d1)
                try simp only [rq1] at w_d5
                refine w_tA (by (first | omega | assumption | (subst_vars; first | omega | assumption) | done)) fun d7 e_d7 => ?_
                have T_d7 : Ty d7 := tyA_6311 e_d7 T_d5 (by (first | omega | assumption | (subst_vars; first | omega | assumption) | done))
                have w_d7 := wA e_d7
                have rq2 : d_A d5 6311 (s_ G 63) = d_A D 6311 (s_ G 63) := Eq.trans (rdA_A e_d5 rfl) (Eq.trans (rdA_e e_d2) (rdA_I e_d1))
                try simp only [rq2] at w_d7
                refine w_let fun d8 e_d8 => ?_
                have T_d8 : Ty d8 := tyI_6316 e_d8 T_d7 (by (first | omega | assumption | (subst_vars; first | omega | assumption) | done))
                refine w_some ?_
                refine ⟨T_d8, ?_⟩
                have c2' := pr2 (D := D) (by rw [e_d2, e_d1]; rfl) e_d5 e_d7
                have a8 : d_A d8 = d_A d7 := by rw [e_d8]; rfl
                exact TOd.pr hT0 h0.1 h0.2.1 h0.2.2.1 h0.2.2.2.1 ⟨h0.2.2.2.2.1, h0.2.2.2.2.2.1⟩ ⟨h0.2.2.2.2.2.2.1, h0.2.2.2.2.2.2.2.1⟩ (by rw [e_d8, e_d7, e_d5, e_d2, e_d1]; rfl) (by rw [e_d8, e_d7, e_d5, e_d2, e_d1]; rfl) (by rw [e_d8, e_d7, e_d5, e_d2, e_d1]; rfl) (by rw [e_d8, e_d7, e_d5, e_d2, e_d1]; rfl) (by rw [e_d8, e_d7, e_d5, e_d2, e_d1]; rfl) (by rw [e_d8, e_d7, e_d5, e_d2, e_d1]; rfl) (by rw [e_d8, e_d7, e_d5, e_d2, e_d1]; rfl) (by rw [e_d8, e_d7, e_d5, e_d2, e_d1]; rfl) (fun i => by rw [a8, c2'.1]) (fun i => by rw [a8, c2'.2])
              · skip
                exfalso; omega
            · skip
              exfalso; omega
          · skip
            refine w_ite (fun hc8 => ?_) (fun hc8 => ?_)
            · skip
              exfalso; omega
            · skip
              refine w_ite (fun hc9 => ?_) (fun hc9 => ?_)
              · skip
                exfalso; omega
              · skip
                refine w_un (q_X63_precincts_35.eq_1 ..) ?_
                refine w_un (q_X63_precincts_40.eq_1 ..) ?_
                have c3_hT0 : TOd D G od := by
                  (first | assumption)
                have c3_h0 : 0 ≤ x1 ∧ x1 < oNC od ∧ 0 ≤ x2 ∧ x2 ≤ oNL od x1 := by
                  (first | omega | assumption | (subst_vars; first | omega | assumption) | done)
                refine w_b (s_X63_isLevel hT c3_hT0 c3_h0) fun v1_2 h_v1_2 => ?_
                generalize e_ts0_4 : (if v1_2 = (0 : Int) then (1 : Int) else (0 : Int)) = ts0_4
                refine w_un (q_X63_precincts_57.eq_1 ..) ?_
                generalize e_ts0_5 : (if (1 : Int) = (0 : Int) then (1 : Int) else (0 : Int)) = ts0_5
                refine w_un (q_X63_precincts_67.eq_1 ..) ?_
                unfold q_X63_refuse q_X63_refuse_18
                generalize e_ts0_6 : (if ts0_4 = (0 : Int) then (if ts0_5 = (0 : Int) then (0 : Int) else (2 : Int)) else (1 : Int)) = ts0_6
                refine w_ll2 ?_
                refine w_let fun d1_2 e_d1_2 => ?_
                have T_d1_2 : Ty d1_2 := tyI_no e_d1_2 hT rfl
                refine w_lif2 (fun hc10 => ?_) (fun hc10 => ?_)
                · skip
                  refine w_let2 fun v3_2 d2_2 e_v3_2 e_d2_2 => ?_
                  have T_d2_2 : Ty d2_2 := ty_e e_d2_2 T_d1_2
                  refine w_ite (fun hc11 => ?_) (fun hc11 => ?_)
                  · skip
                    refine w_gd (by (first | omega | assumption | (subst_vars; first | omega | assumption) | done)) ?_
                    refine w_gd (by (first | omega | assumption | (subst_vars; first | omega | assumption) | done)) ?_
                    refine w_tA (by (first | omega | assumption | (subst_vars; first | omega | assumption) | done)) fun d5_2 e_d5_2 => ?_
                    have T_d5_2 : Ty d5_2 := tyA_6310 e_d5_2 T_d2_2 (by (first | omega | assumption | (subst_vars; first | omega | assumption) | done))
                    have w_d5_2 := wA e_d5_2
                    have rq3 : d_A d2_2 6310 (s_ G 63) = d_A D 6310 (s_ G 63) := Eq.trans (rdA_e e_d2_2) (rdA_I e_d1_2)
                    try simp only [rq3] at w_d5_2
                    refine w_tA (by (first | omega | assumption | (subst_vars; first | omega | assumption) | done)) fun d7_2 e_d7_2 => ?_
                    have T_d7_2 : Ty d7_2 := tyA_6311 e_d7_2 T_d5_2 (by (first | omega | assumption | (subst_vars; first | omega | assumption) | done))
                    have w_d7_2 := wA e_d7_2
                    have rq4 : d_A d5_2 6311 (s_ G 63) = d_A D 6311 (s_ G 63) := Eq.trans (rdA_A e_d5_2 rfl) (Eq.trans (rdA_e e_d2_2) (rdA_I e_d1_2))
                    try simp only [rq4] at w_d7_2
                    refine w_let fun d8_2 e_d8_2 => ?_
                    have T_d8_2 : Ty d8_2 := tyI_6316 e_d8_2 T_d7_2 (by (first | omega | assumption | (subst_vars; first | omega | assumption) | done))
                    refine w_some ?_
                    refine ⟨T_d8_2, ?_⟩
                    have c2' := pr2 (D := D) (by rw [e_d2_2, e_d1_2]; rfl) e_d5_2 e_d7_2
                    have a8 : d_A d8_2 = d_A d7_2 := by rw [e_d8_2]; rfl
                    exact TOd.pr hT0 h0.1 h0.2.1 h0.2.2.1 h0.2.2.2.1 ⟨h0.2.2.2.2.1, h0.2.2.2.2.2.1⟩ ⟨h0.2.2.2.2.2.2.1, h0.2.2.2.2.2.2.2.1⟩ (by rw [e_d8_2, e_d7_2, e_d5_2, e_d2_2, e_d1_2]; rfl) (by rw [e_d8_2, e_d7_2, e_d5_2, e_d2_2, e_d1_2]; rfl) (by rw [e_d8_2, e_d7_2, e_d5_2, e_d2_2, e_d1_2]; rfl) (by rw [e_d8_2, e_d7_2, e_d5_2, e_d2_2, e_d1_2]; rfl) (by rw [e_d8_2, e_d7_2, e_d5_2, e_d2_2, e_d1_2]; rfl) (by rw [e_d8_2, e_d7_2, e_d5_2, e_d2_2, e_d1_2]; rfl) (by rw [e_d8_2, e_d7_2, e_d5_2, e_d2_2, e_d1_2]; rfl) (by rw [e_d8_2, e_d7_2, e_d5_2, e_d2_2, e_d1_2]; rfl) (fun i => by rw [a8, c2'.1]) (fun i => by rw [a8, c2'.2])
                  · skip
                    exfalso; omega
                · skip
                  exfalso; omega
