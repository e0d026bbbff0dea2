/-! specifications, printed by gen/mks.py -/
set_option maxRecDepth 100000
/-- a component's object stays -/
def CoSm (D D' : Dt) (b : Nat) : Prop := d_I D' 7200 b = d_I D 7200 b ∧ d_I D' 7201 b = d_I D 7201 b ∧ d_I D' 7202 b = d_I D 7202 b ∧ ∀ r, d_A D' 7205 b r = d_A D 7205 b r ∧ d_A D' 7206 b r = d_A D 7206 b r
theorem CoSm.rf {D : Dt} {b : Nat} : CoSm D D b := ⟨rfl, rfl, rfl, fun _ => ⟨rfl, rfl⟩⟩
theorem CoSm.tr {D E F : Dt} {b : Nat} (h : CoSm D E b) (k : CoSm E F b) : CoSm D F b := ⟨k.1.trans h.1, k.2.1.trans h.2.1, k.2.2.1.trans h.2.2.1, fun r => ⟨(k.2.2.2 r).1.trans (h.2.2.2 r).1, (k.2.2.2 r).2.trans (h.2.2.2 r).2⟩⟩
theorem CoD.sm {D D' : Dt} {od : Od} {k : Int} {b : Nat} (h : CoD D od k b) (s : CoSm D D' b) : CoD D' od k b := ⟨s.1.trans h.1, s.2.1.trans h.2.1, s.2.2.1.trans h.2.2.1, fun r r0 r1 => ⟨(s.2.2.2 r).1.trans (h.2.2.2 r r0 r1).1, (s.2.2.2 r).2.trans (h.2.2.2 r r0 r1).2⟩⟩
theorem CoSm.fr' {D D' : Dt} {b : Nat} {S : List Nat} (F : Fr S D D') (hd : ([7200, 7201, 7202, 7205, 7206].all fun j => !S.contains j) = true) : CoSm D D' b := by
  unfold CoSm
  rw [F.i (i := 7200) (dsO_o hd (by decide)), F.i (i := 7201) (dsO_o hd (by decide)), F.i (i := 7202) (dsO_o hd (by decide)), F.a (i := 7205) (dsO_o hd (by decide)), F.a (i := 7206) (dsO_o hd (by decide))]
  exact ⟨rfl, rfl, rfl, fun _ => ⟨rfl, rfl⟩⟩
theorem CoSm.uI {D : Dt} {i a b : Nat} {v : Int} (h : b ≠ a) : CoSm D (u_I D i a v) b := by
  refine ⟨?_, ?_, ?_, fun _ => ⟨rfl, rfl⟩⟩
  all_goals (rw [rI_I, if_neg (fun z => h z.2)])
theorem CoSm.uA {D : Dt} {i a b : Nat} {k v : Int} (h : b ≠ a) : CoSm D (u_A D i a k v) b := by
  refine ⟨rfl, rfl, rfl, fun r => ⟨?_, ?_⟩⟩
  all_goals (rw [rA_A, if_neg (fun z => h z.2.1)])
/-- the class is told so -/
def ClO (D : Dt) (G : Gt) (od : Od) : Prop := OdOk od ∧ d_I D 2101 (s_ G 21) = oNC od ∧ CoA D G od ∧ ArT D G od
theorem ClO.fr {D D' : Dt} {G : Gt} {od : Od} {S : List Nat} (h : ClO D G od) (F : Fr S D D') (hd : ([2101, 7200, 7201, 7202, 7205, 7206, 2400, 2401, 2402, 2403].all fun j => !S.contains j) = true) : ClO D' G od :=
  ⟨h.1, by rw [F.i (i := 2101) (dsO_o hd (by decide))]; exact h.2.1, h.2.2.1.fr F (all_sub hd (by decide)), h.2.2.2.fr F (all_sub hd (by decide))⟩
theorem ClO.o {D : Dt} {G G' : Gt} {od : Od} {c : Ct} (h : ClO D G od) (hG : PoG G c) (X : GoX c.1 G G') : ClO D G' od := ⟨h.1, by rw [X.1]; exact h.2.1, h.2.2.1.o X, h.2.2.2.o hG X⟩
theorem CoA.s {D D' : Dt} {G : Gt} {od : Od} {c : Ct} {K dx dy n : Int} {co : Nat} (hG : PoG G c) (h : CoA D G od) (hK : oNC od = K) (hz : z_Q G 2100 (s_ G 21) K = some co) (hs : ∀ bb, bb ≠ co → CoSm D D' bb) (hc : CoD D' (odC od K dx dy n) K co) : CoA D' G (odC od K dx dy n) := fun k k0 k1 => by
  have k1 : k < K + 1 := k1
  by_cases z : k = K
  · rw [z]; exact ⟨co, hz, hc⟩
  · obtain ⟨c2, a, b⟩ := h k k0 (by omega)
    have ne : c2 ≠ co := fun y => z ((hG.2.2.1 k c2 a).2 K (by rw [y]; exact hz))
    have b := b.sm (hs c2 ne)
    refine ⟨c2, a, ?_⟩
    unfold CoD oDX oDY oNL oWD oHG at b ⊢
    unfold odC
    dsimp only
    simp only [if_neg z]
    exact b
set_option maxHeartbeats 8000000 in
theorem s_X72_begin_29 {N : Nat} {Dz : Dt} (hN : 1099511627776 ≤ N) (n : Nat) : ∀ {a0 : Nat} {x3 : Int} {G : Gt} {D : Dt}, Ty D → (0 ≤ x3 ∧ x3 ≤ 33) → (∀ bb, bb ≠ a0 → CoSm Dz D bb) → (∀ r, 0 ≤ r → r < x3 → d_A D 7205 a0 r = 15 ∧ d_A D 7206 a0 r = 15) → (d_I D 7200 a0 = d_I Dz 7200 a0 ∧ d_I D 7201 a0 = d_I Dz 7201 a0) → 33 - x3 < n → Wp (q_X72_begin_29 N n a0 x3 G D) (fun D' => Ty D' ∧ ((∀ r, 0 ≤ r → r < 33 → d_A D' 7205 a0 r = 15 ∧ d_A D' 7206 a0 r = 15) ∧ (∀ bb, bb ≠ a0 → CoSm Dz D' bb) ∧ d_I D' 7200 a0 = d_I Dz 7200 a0 ∧ d_I D' 7201 a0 = d_I Dz 7201 a0)) := by
  induction n with
  | zero =>
    intro a0 x3 G D hT h0 hb hc hd hm; exfalso; omega
  | succ n ih =>
    intro a0 x3 G D hT h0 hb hc hd hm
    show Wp (q_X72_begin_29 N (n + 1) a0 x3 G D) _
    rw [q_X72_begin_29]
    refine w_ite (fun hc1 => ?_) (fun hc1 => ?_)
    · skip
      refine w_some ?_
      refine ⟨hT, ?_⟩
      exact ⟨fun r a b => hc r a (by omega), hb, hd⟩
    · skip
      refine w_tA (by (first | omega | assumption | (subst_vars; first | omega | assumption) | done)) fun d2 e_d2 => ?_
      have T_d2 : Ty d2 := tyA_7205 e_d2 hT (by (first | omega | assumption | (subst_vars; first | omega | assumption) | done))
      have w_d2 := wA e_d2
      refine w_tA (by (first | omega | assumption | (subst_vars; first | omega | assumption) | done)) fun d4 e_d4 => ?_
      have T_d4 : Ty d4 := tyA_7206 e_d4 T_d2 (by (first | omega | assumption | (subst_vars; first | omega | assumption) | done))
      have w_d4 := wA e_d4
      have rq1 : d_A d2 7206 a0 = d_A D 7206 a0 := rdA_A e_d2 rfl
      try simp only [rq1] at w_d4
      refine w_gd (by (first | omega | assumption | (subst_vars; first | omega | assumption) | done)) ?_
      refine w_let fun v5 e_v5 => ?_
      have j1_h0 : 0 ≤ v5 ∧ v5 ≤ 33 := by
        (first | omega | assumption | (subst_vars; first | omega | assumption) | done)
      have j1_hb : ∀ bb, bb ≠ a0 → CoSm Dz d4 bb := by
        intro bb h
        rw [e_d4, e_d2]
        exact ((hb bb h).tr (CoSm.uA h)).tr (CoSm.uA h)
      have j1_hc : ∀ r, 0 ≤ r → r < v5 → d_A d4 7205 a0 r = 15 ∧ d_A d4 7206 a0 r = 15 := by
        intro r a b
        rw [e_d4, e_d2]
        simp only [rA_A]
        by_cases z : r = x3
        · rw [z]; simp
        · have := hc r a (by omega)
          simp [z, this.1, this.2]
      have j1_hd : d_I d4 7200 a0 = d_I Dz 7200 a0 ∧ d_I d4 7201 a0 = d_I Dz 7201 a0 := by
        rw [e_d4, e_d2]; exact hd
      have j1_hm : 33 - v5 < n := by
        (first | omega | assumption | (subst_vars; first | omega | assumption) | done)
      exact ih T_d4 j1_h0 j1_hb j1_hc j1_hd j1_hm
set_option maxHeartbeats 8000000 in
theorem s_X72_begin {N : Nat} {a0 : Nat} {x1 : Int} {x2 : Int} {G : Gt} {D : Dt} (hN : 1099511627776 ≤ N) (hT : Ty D) (h0 : 1 ≤ x1 ∧ x1 ≤ 255 ∧ 1 ≤ x2 ∧ x2 ≤ 255) : Wp (q_X72_begin N a0 x1 x2 G D) (fun D' => Ty D' ∧ ((∀ r, 0 ≤ r → r < 33 → d_A D' 7205 a0 r = 15 ∧ d_A D' 7206 a0 r = 15) ∧ (∀ bb, bb ≠ a0 → CoSm D D' bb) ∧ d_I D' 7200 a0 = x1 ∧ d_I D' 7201 a0 = x2)) := by
  refine w_un (q_X72_begin.eq_1 ..) ?_
  refine w_let fun d1 e_d1 => ?_
  have T_d1 : Ty d1 := tyI_7200 e_d1 hT (by (first | omega | assumption | (subst_vars; first | omega | assumption) | done))
  refine w_let fun d2 e_d2 => ?_
  have T_d2 : Ty d2 := tyI_7201 e_d2 T_d1 (by (first | omega | assumption | (subst_vars; first | omega | assumption) | done))
  refine w_let fun d3 e_d3 => ?_
  have T_d3 : Ty d3 := tyI_7202 e_d3 T_d2 (by (first | omega | assumption | (subst_vars; first | omega | assumption) | done))
  refine w_let fun d4 e_d4 => ?_
  have T_d4 : Ty d4 := tyI_7203 e_d4 T_d3 (by (first | omega | assumption | (subst_vars; first | omega | assumption) | done))
  refine w_let fun d5 e_d5 => ?_
  have T_d5 : Ty d5 := tyI_7204 e_d5 T_d4 (by (first | omega | assumption | (subst_vars; first | omega | assumption) | done))
  have j1_h0 : 0 ≤ (0 : Int) ∧ (0 : Int) ≤ 33 := by
    (first | omega | assumption | (subst_vars; first | omega | assumption) | done)
  have j1_hb : ∀ bb, bb ≠ a0 → CoSm d5 d5 bb := by
    exact fun _ _ => CoSm.rf
  have j1_hc : ∀ r, 0 ≤ r → r < (0 : Int) → d_A d5 7205 a0 r = 15 ∧ d_A d5 7206 a0 r = 15 := by
    intro r a b; omega
  have j1_hd : d_I d5 7200 a0 = d_I d5 7200 a0 ∧ d_I d5 7201 a0 = d_I d5 7201 a0 := by
    exact ⟨rfl, rfl⟩
  have j1_hm : 33 - (0 : Int) < N := by
    (first | omega | assumption | (subst_vars; first | omega | assumption) | done)
  refine Wp.mo (Wp.fr (s_X72_begin_29 hN (Dz := d5) _ T_d5 j1_h0 j1_hb j1_hc j1_hd j1_hm) (fr_X72_begin_29 _)) ?_
  intro o ho
  obtain ⟨⟨hT', ho⟩, hF⟩ := ho
  try dsimp only at hF
  refine ⟨hT', ?_⟩
  refine ⟨ho.1, fun bb h => ?_, ?_, ?_⟩
  · have q : CoSm D d5 bb := by
     rw [e_d5, e_d4, e_d3, e_d2, e_d1]
     exact ((((CoSm.uI h).tr (CoSm.uI h)).tr (CoSm.uI h)).tr (CoSm.uI h)).tr (CoSm.uI h)
    exact q.tr (ho.2.1 bb h)
  · rw [ho.2.2.1, e_d5, e_d4, e_d3, e_d2, e_d1]; simp only [rI_I]; simp
  · rw [ho.2.2.2, e_d5, e_d4, e_d3, e_d2, e_d1]; simp only [rI_I]; simp
set_option maxHeartbeats 8000000 in
theorem s_X21_component_85 {N : Nat} {x1 : Int} {x2 : Int} {x3 : Int} {G : Gt} {D : Dt} {c : Ct} (hN : 1099511627776 ≤ N) {od : Od} {K : Int} {co : Nat} (hT : Ty D) (hG : PoG G c) (hO : ClO D G od) (h0 : oNC od = K ∧ K < 16 ∧ 1 ≤ x1 ∧ x1 ≤ 255 ∧ 1 ≤ x2 ∧ x2 ≤ 255 ∧ 0 ≤ x3 ∧ x3 ≤ 32) (hz : z_Q G 2100 (s_ G 21) K = some co) : Wp (q_X21_component_85 N x1 x2 x3 G D c) (Th (fun r s => (fun r D' G' c' => Ty D' ∧ (r = K ∧ ClO D' G' (odC od K x1 x2 x3) ∧ G' = G ∧ c' = c)) r s.1 s.2.1 s.2.2) (fun e s => (fun (e : Nat) D' G' c' => Ty D' ∧ (False)) e s.1 s.2.1 s.2.2)) := by
  refine w_un (q_X21_component_85.eq_1 ..) ?_
  have nc := hO.1.2.2.1
  have e1 := hO.2.1
  have t1 := ty_2101 hT (s_ G 21)
  refine w_lQ (by (first | omega | assumption | (subst_vars; first | omega | assumption) | done)) fun w2 e_w2 => ?_
  have q2 : w2 = some co := by rw [e_w2, e1, h0.1]; exact hz
  refine w_on (by (first | (rw [q2]; exact Option.some_ne_none _) | (rw [q7]; exact Option.some_ne_none _))) fun b3 e_b3 => ?_
  have E3 : b3 = co := by rw [q2] at e_b3; exact (Option.some.inj e_b3).symm
  have c1_h0 : 1 ≤ x1 ∧ x1 ≤ 255 ∧ 1 ≤ x2 ∧ x2 ≤ 255 := by
    (first | omega | assumption | (subst_vars; first | omega | assumption) | done)
  refine w_b (Wp.fr (s_X72_begin hN hT c1_h0) fr_X72_begin) fun d5 h_d5 => ?_
  obtain ⟨⟨T_d5, h_d5⟩, F_d5⟩ := h_d5
  refine w_lQ (by (first | omega | assumption | (subst_vars; first | omega | assumption) | done)) fun w7 e_w7 => ?_
  have q7 : w7 = some co := by rw [e_w7, e1, h0.1]; exact hz
  refine w_on (by (first | (rw [q2]; exact Option.some_ne_none _) | (rw [q7]; exact Option.some_ne_none _))) fun b8 e_b8 => ?_
  have E8 : b8 = co := by rw [q7] at e_b8; exact (Option.some.inj e_b8).symm
  refine w_let fun d9 e_d9 => ?_
  have T_d9 : Ty d9 := tyI_7202 e_d9 T_d5 (by (first | omega | assumption | (subst_vars; first | omega | assumption) | done))
  refine w_let fun d10 e_d10 => ?_
  have T_d10 : Ty d10 := tyI_2111 e_d10 T_d9 (by (first | omega | assumption | (subst_vars; first | omega | assumption) | done))
  refine w_let fun v11 e_v11 => ?_
  refine w_gd (by (first | omega | assumption | (subst_vars; first | omega | assumption) | done)) ?_
  refine w_let fun v13 e_v13 => ?_
  refine w_let fun d12 e_d12 => ?_
  have T_d12 : Ty d12 := tyI_2101 e_d12 T_d10 (by (first | omega | assumption | (subst_vars; first | omega | assumption) | done))
  refine w_thl ?_
  try dsimp only
  refine ⟨T_d12, ?_⟩
  rw [E3] at h_d5
  have E21 : d_I d10 2101 (s_ G 21) = d_I D 2101 (s_ G 21) := by rw [e_d10, rI_I, if_neg (by omega), e_d9, rI_I, if_neg (by omega), F_d5.i (i := 2101) rfl]
  have sm : ∀ bb, bb ≠ co → CoSm D d12 bb := fun bb h => by
   have q := h_d5.2.1 bb h
   rw [e_d12]
   have u : CoSm d5 d9 bb := by rw [e_d9, E8]; exact CoSm.uI h
   exact ((q.tr u).tr (CoSm.fr' (Fr.uI e_d10) rfl)).tr (CoSm.fr' (Fr.uI rfl) rfl)
  refine ⟨by omega, ⟨odC_ok hO.1 h0.1 h0.2.1 (by omega) (by omega) (by omega), ?_, CoA.s hG hO.2.2.1 h0.1 hz sm ?_, ?_⟩, rfl, rfl⟩
  · rw [e_d12, rI_I, if_pos ⟨rfl, rfl⟩]
    show _ = K + 1
    omega
  · have f : ∀ i, i ≠ 7202 → i ≠ 2111 → i ≠ 2101 → d_I d12 i co = d_I d5 i co := fun i n1 n2 n3 => by rw [e_d12, rI_I, if_neg (by omega), e_d10, rI_I, if_neg (by omega), e_d9, rI_I, if_neg (by omega)]
    have g : ∀ i j, d_A d12 i co j = d_A d5 i co j := fun i j => by rw [e_d12, e_d10, e_d9]; rfl
    refine ⟨?_, ?_, ?_, fun r r0 r1 => ?_⟩
    · rw [f _ (by decide) (by decide) (by decide), h_d5.2.2.1]; exact (if_pos rfl).symm
    · rw [f _ (by decide) (by decide) (by decide), h_d5.2.2.2]; exact (if_pos rfl).symm
    · rw [e_d12, rI_I, if_neg (by omega), e_d10, rI_I, if_neg (by omega), e_d9, E8, rI_I, if_pos ⟨rfl, rfl⟩]; exact (if_pos rfl).symm
    · have r1 : r ≤ x3 := by
       have e : oNL (odC od K x1 x2 x3) K = x3 := if_pos rfl
       omega
      have z := h_d5.1 r r0 (by omega)
      rw [g, g, z.1, z.2]
      exact ⟨(if_pos rfl).symm, (if_pos rfl).symm⟩
  · exact (((hO.2.2.2.fr F_d5 rfl).fr (Fr.uI e_d9) rfl).fr (Fr.uI e_d10) rfl).fr (Fr.uI e_d12) rfl
set_option maxHeartbeats 8000000 in
theorem s_X21_need {x0 : Int} {G : Gt} {D : Dt} {c : Ct} (hT : Ty D) : Wp (q_X21_need x0 G D c) (Th (fun r s => (fun r D' c' => Ty D' ∧ (¬ x0 = 0 ∧ D' = D ∧ c' = c)) r s.1 s.2) (fun e s => (fun (e : Nat) D' c' => Ty D' ∧ (x0 = 0 ∧ e = 0 ∧ D' = D)) e s.1 s.2)) := by
  refine w_un (q_X21_need.eq_1 ..) ?_
  refine w_ite (fun hc1 => ?_) (fun hc1 => ?_)
  · skip
    refine w_thr ?_
    try dsimp only
    refine ⟨hT, ?_⟩
    exact ⟨by omega, rfl, rfl⟩
  · skip
    refine w_thl ?_
    try dsimp only
    refine ⟨hT, ?_⟩
    exact ⟨by omega, rfl, rfl⟩
set_option maxHeartbeats 8000000 in
theorem s_X21_must {x0 : Int} {G : Gt} {D : Dt} {c : Ct} (hT : Ty D) : Wp (q_X21_must x0 G D c) (Th (fun r s => (fun r D' c' => Ty D' ∧ (¬ x0 = 0 ∧ D' = D ∧ c' = c)) r s.1 s.2) (fun e s => (fun (e : Nat) D' c' => Ty D' ∧ (x0 = 0 ∧ e = 1 ∧ D' = D)) e s.1 s.2)) := by
  refine w_un (q_X21_must.eq_1 ..) ?_
  refine w_ite (fun hc1 => ?_) (fun hc1 => ?_)
  · skip
    refine w_thr ?_
    try dsimp only
    refine ⟨hT, ?_⟩
    exact ⟨by omega, rfl, rfl⟩
  · skip
    refine w_thl ?_
    try dsimp only
    refine ⟨hT, ?_⟩
    exact ⟨by omega, rfl, rfl⟩
theorem s_X21_component_54 {N : Nat} {x1 x2 x3 ts0 : Int} {G : Gt} {D : Dt} {c : Ct} (hN : 1099511627776 ≤ N) {od : Od} {K : Int} (hT : Ty D) (hG : PoG G c) (hP : PoD D G) (hO : ClO D G od) (h0 : oNC od = K ∧ K < 16 ∧ 1 ≤ x1 ∧ x1 ≤ 255 ∧ 1 ≤ x2 ∧ x2 ≤ 255 ∧ 0 ≤ x3 ∧ x3 ≤ 32 ∧ ts0 ≠ 0) : Wp (q_X21_component_54 N x1 x2 x3 ts0 G D c) (Th (fun r s => (fun r D' G' c' => Ty D' ∧ (r = K ∧ ClO D' G' (odC od K x1 x2 x3) ∧ PoG G' c' ∧ PoD D' G' ∧ GoX c.1 G G' ∧ c.1 ≤ c'.1)) r s.1 s.2.1 s.2.2) (fun e s => (fun (e : Nat) D' G' c' => Ty D' ∧ (e = 99 ∧ False)) e s.1 s.2.1 s.2.2)) := by
  refine w_un (q_X21_component_54.eq_1 ..) ?_
  have hm : q_X21_must ts0 G D c = some (.inl (), (D, c)) := by unfold q_X21_must; rw [if_neg h0.2.2.2.2.2.2.2.2]
  have nc := hO.1.2.2.1
  refine w_thu (R := fun p => p = (.inl (), (D, c))) ⟨_, hm, rfl⟩ (fun u p2 h => ?_) (fun e p2 h => by cases h)
  have hp : p2 = (D, c) := by injection h
  subst hp
  dsimp only
  rw [hO.2.1, h0.1]
  have fin : ∀ (g : Gt) (c2 : Ct) (co : Nat), PoG g c2 → PoD D g → GoX c.1 G g → c.1 ≤ c2.1 → z_Q g 2100 (s_ g 21) K = some co → Wp (q_X21_component_85 N x1 x2 x3 g D c2) (Th (fun r s => (fun r D' G' c' => Ty D' ∧ (r = K ∧ ClO D' G' (odC od K x1 x2 x3) ∧ PoG G' c' ∧ PoD D' G' ∧ GoX c.1 G G' ∧ c.1 ≤ c'.1)) r s.1 s.2.1 s.2.2) (fun e s => (fun (e : Nat) D' G' c' => Ty D' ∧ (e = 99 ∧ False)) e s.1 s.2.1 s.2.2)) := fun g c2 co k1 k2 k3 k4 k5 => by
    have b := s_X21_component_85 (N := N) (x1 := x1) (x2 := x2) (x3 := x3) (od := od) (K := K) (co := co) (G := g) (D := D) (c := c2) hN hT k1 (hO.o hG k3) (by omega) k5
    refine w_thm (Wp.fr b fr_X21_component_85) (fun r s P F => ?_) (fun e s P F => absurd P.2 id)
    obtain ⟨sa, sg, sc⟩ := s
    obtain ⟨T, r1, r2, r3, r4⟩ := P
    dsimp only at r2 r3 r4
    subst r3; subst r4
    exact ⟨T, r1, r2, k1, k2.fr F rfl, k3, k4⟩
  refine w_lQ ⟨by omega, by omega⟩ fun w4 e4 => ?_
  refine w_ite (fun z => ?_) (fun z => ?_)
  · refine w_let fun b6 e6 => ?_
    subst e6
    refine w_b (R := fun p => p = (D, (mkA G c 73 7).1, c_ar (c_ar (mkA G c 73 7).2 33) 33)) ⟨_, rfl, rfl⟩ fun p7 e7 => ?_
    subst e7
    dsimp only
    refine w_tQ ⟨by omega, by omega⟩ fun g9 e9 => ?_
    have hn : z_Q G 2100 (s_ G 21) K = none := by rw [← e4]; exact z
    have hx : GtX c.1 G (mkA G c 73 7).1 := ⟨rfl, fun _ _ _ => rfl, fun _ _ _ _ => rfl, fun _ _ _ => rfl, fun _ _ _ => rfl⟩
    have P := hG.c (c' := c_ar (c_ar (mkA G c 73 7).2 33) 33) (k := K) hn hx (by show c.1 < c.1 + 1 + 1 + 1; omega)
    rw [← show g9 = w_Q (mkA G c 73 7).1 2100 (s_ G 21) K (some c.1) from e9] at P
    have q2 : ∀ m a j, m ≠ 2100 → z_Q g9 m a j = z_Q G m a j := fun m a j n => by
      rw [e9, zQ_w, if_neg (fun q => n q.1)]; rfl
    exact fin g9 _ c.1 P.1 (hP.o hG DtX.rf P.2.1 (fun _ => q2 _ _ _ (by decide)) (fun _ => q2 _ _ _ (by decide))) P.2 (by show c.1 ≤ c.1 + 1 + 1 + 1; omega) (by
      rw [P.2.1, e9, zQ_w, if_pos ⟨rfl, rfl, rfl⟩])
  · cases hw : w4 with
    | none => exact absurd hw z
    | some co => exact fin G c co hG hP GoX.rf (Nat.le_refl _) (by rw [← e4]; exact hw)
set_option maxHeartbeats 8000000 in
theorem s_X21_component {N : Nat} {x1 : Int} {x2 : Int} {x3 : Int} {G : Gt} {D : Dt} {c : Ct} (hN : 1099511627776 ≤ N) {od : Od} {K : Int} (hT : Ty D) (hG : PoG G c) (hP : PoD D G) (hO : ClO D G od) (h0 : oNC od = K ∧ K < 16 ∧ 1 ≤ x1 ∧ x1 ≤ 255 ∧ 1 ≤ x2 ∧ x2 ≤ 255 ∧ 0 ≤ x3 ∧ x3 ≤ 32) : Wp (q_X21_component N x1 x2 x3 G D c) (Th (fun r s => (fun r D' G' c' => Ty D' ∧ (r = K ∧ ClO D' G' (odC od K x1 x2 x3) ∧ PoG G' c' ∧ PoD D' G' ∧ GoX c.1 G G' ∧ c.1 ≤ c'.1)) r s.1 s.2.1 s.2.2) (fun e s => (fun (e : Nat) D' G' c' => Ty D' ∧ (e = 99 ∧ False)) e s.1 s.2.1 s.2.2)) := by
  refine w_un (q_X21_component.eq_1 ..) ?_
  have n21 := hO.2.1
  have nc := hO.1.2.2.1
  refine w_let fun v1 e_v1 => ?_
  simp only [q_X21_is] at e_v1
  rw [if_neg (by omega), if_neg (by omega)] at e_v1
  refine w_ite (fun hc1 => ?_) (fun hc1 => ?_)
  · skip
    exfalso; omega
  · skip
    refine w_let fun v2 e_v2 => ?_
    simp only [q_X21_is] at e_v2
    rw [if_neg (by omega), if_neg (by omega)] at e_v2
    refine w_ite (fun hc2 => ?_) (fun hc2 => ?_)
    · skip
      exfalso; omega
    · skip
      refine w_let fun v3 e_v3 => ?_
      simp only [q_X21_is] at e_v3
      rw [if_neg (by omega), if_neg (by omega)] at e_v3
      refine w_ite (fun hc3 => ?_) (fun hc3 => ?_)
      · skip
        exfalso; omega
      · skip
        refine w_un (q_X21_component_37.eq_1 ..) ?_
        refine w_thu (Wp.fr (s_X21_need hT) fr_X21_need) (fun u p2_2 h_p2_2 => ?_) (fun e_x p2_2 h_p2_2 => ?_)
        · skip
          obtain ⟨⟨T_p2_2, h_p2_2⟩, F_p2_2⟩ := h_p2_2
          try dsimp only at T_p2_2 h_p2_2 F_p2_2
          have t1 := ty_2101 hT (s_ G 21)
          generalize e_ts0 : (if (16 : Int) ≤ (d_I D 2101 (s_ G 21)) then (0 : Int) else (1 : Int)) = ts0
          have j1_hG : PoG G p2_2.2 := by
            rw [h_p2_2.2.2]; exact hG
          have j1_hP : PoD p2_2.1 G := by
            (first | assumption | exact (PoD.fr (by assumption) F_p2_2 rfl))
          have j1_hO : ClO p2_2.1 G od := by
            (first | assumption | exact (ClO.fr (by assumption) F_p2_2 rfl))
          have j1_h0 : oNC od = K ∧ K < 16 ∧ 1 ≤ x1 ∧ x1 ≤ 255 ∧ 1 ≤ x2 ∧ x2 ≤ 255 ∧ 0 ≤ x3 ∧ x3 ≤ 32 ∧ ts0 ≠ 0 := by
            (first | omega | assumption | (subst_vars; first | omega | assumption) | done)
          refine w_thm (Wp.fr (s_X21_component_54 hN (od := od) (K := K) T_p2_2 j1_hG j1_hP j1_hO j1_h0) fr_X21_component_54) (fun r s ho hF => ?_) (fun e s ho hF => ?_)
          · skip
            obtain ⟨hT', ho⟩ := ho
            try dsimp only at hT' ho ⊢
            try dsimp only at hF
            refine ⟨hT', ?_⟩
            rw [h_p2_2.2.2] at ho; exact ho
          · skip
            obtain ⟨hT', ho⟩ := ho
            try dsimp only at hT' ho ⊢
            try dsimp only at hF
            refine ⟨hT', ?_⟩
            exact ho
        · skip
          obtain ⟨⟨T_p2_2, h_p2_2⟩, F_p2_2⟩ := h_p2_2
          try dsimp only at T_p2_2 h_p2_2 F_p2_2
          refine th_inr ?_
          try dsimp only
          refine ⟨T_p2_2, ?_⟩
          (first | omega | assumption | (subst_vars; first | omega | assumption) | done)
