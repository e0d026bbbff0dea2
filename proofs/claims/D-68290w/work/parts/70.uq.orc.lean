/-! specifications, printed by gen/mks.py -/
set_option maxRecDepth 100000
/-- what is to come for the class -/
def BecC (D : Dt) (G : Gt) (g : Cg) (q : Sq) (w k l : Int) : Prop := d_I D 2112 (s_ G 21) < w ∨ w = d_I D 2112 (s_ G 21) ∧ BwC D G g q w k l
/-- the class's sequence -/
def CurC (D : Dt) (G : Gt) (c : Ct) (od : Od) (g : Cg) (q : Sq) : Prop := CSt D G c od g ∧ StO q od ∧ KdW G ∧ (-1 ≤ d_I D 2112 (s_ G 21) ∧ d_I D 2112 (s_ G 21) < cgW g) ∧ (d_R D 2113 (s_ G 21) = none ∧ d_I D 2112 (s_ G 21) = -1 ∨ ∃ b, d_R D 2113 (s_ G 21) = some b ∧ 0 ≤ d_I D 2112 (s_ G 21) ∧ WlkS D G od g q (d_I D 2112 (s_ G 21)) b)
theorem StR.w1 {g : Cg} {q : Sq} {n : Int} {B0 B' : Int → Int → Int → Prop} {W W' : Int → Int → Prop} {C0 C' : Fz} {f k l : Int} (hf : f ≠ 0) (h : StpW g q n W C0 f k l W' C') (hA : ∀ w k l, Cnd g q C0 w k l → B0 w k l → n < w ∨ w = n ∧ W k l) (hB : ∀ k l, VdT g q n k l → W k l → B0 n k l) (h' : ∀ w k l, B' w k l ↔ n < w ∨ w = n ∧ W' k l) : StR g q B0 C0 f n k l B' C' := by
  obtain ⟨a, b, c, d, e⟩ := h.2 hf
  refine ⟨fun z => absurd z hf, fun _ => ⟨a, hB k l ⟨a.1, a.2.1⟩ b, fun w2 k2 l2 c2 b2 => ?_, fun w2 k2 l2 v2 => ?_, e⟩⟩
  · rcases hA w2 k2 l2 c2 b2 with y | ⟨y, z⟩
    · exact .inl y
    · subst y; exact .inr ⟨rfl, c k2 l2 c2 z⟩
  · rw [h']
    constructor
    · intro y
      rcases y with y | ⟨y, z⟩
      · exact .inl y
      · subst y; exact .inr ⟨rfl, (d k2 l2 v2).mp z⟩
    · intro y
      rcases y with y | ⟨y, z⟩
      · exact .inl y
      · subst y; exact .inr ⟨rfl, (d k2 l2 v2).mpr z⟩
theorem StR.w0 {g : Cg} {q : Sq} {B0 B' : Int → Int → Int → Prop} {C0 C' : Fz} {w k l : Int} (hA : ∀ w k l, Cnd g q C0 w k l → ¬ B0 w k l) (hB : ∀ w k l, VdT g q w k l → ¬ B' w k l) (hC : ∀ i, 0 ≤ i → i < sqM q → C' i = C0 i) : StR g q B0 C0 0 w k l B' C' := ⟨fun _ => ⟨hA, hB, hC⟩, fun z => absurd rfl z⟩
theorem WlkS.fr {D D' : Dt} {G : Gt} {od : Od} {g : Cg} {q : Sq} {w : Int} {b : Nat} {S : List Nat} (h : WlkS D G od g q w b) (F : Fr S D D') (hd : ([2303, 7302, 7603, 7600, 7400, 2400, 2401, 2402, 2403, 7403, 7404, 7405, 7406, 7200, 7201, 7202, 7205, 7206, 2600, 2601, 2200, 2201, 2202, 2203, 2204, 2205, 7604, 2805, 2806, 2603, 2704, 2705, 2706, 2804].all fun j => !S.contains j) = true) : WlkS D' G od g q w b := by
  rcases h with ⟨e, z, ch, h⟩ | ⟨e, z, ch, h1, h2⟩
  · exact .inl ⟨e, z, ch, h.fr F (all_sub hd (by decide))⟩
  · have em : mtA D' G = mtA D G := mtA_fr F (all_sub hd (by decide))
    have ea : atK D' G q = atK D G q := by funext k; unfold atK; rw [em]
    refine .inr ⟨e, z, ch, h1.fr F (all_sub hd (by decide)), ?_⟩
    rcases h2 with y | ⟨st, c, r, y1, y2, y3, y4, y5⟩
    · exact .inl (by rw [F.r (i := 2804) (dsO_o hd (by decide))]; exact y)
    · exact .inr ⟨st, c, r, by rw [F.r (i := 2804) (dsO_o hd (by decide))]; exact y1, y2.fr F (all_sub hd (by decide)), ⟨y3.1, y3.2.1, by rw [F.i (i := 2805) (dsO_o hd (by decide))]; exact y3.2.2.1, by rw [em]; exact y3.2.2.2⟩, by rw [F.i (i := 2603) (dsO_o hd (by decide))]; exact y4, by rw [ea, em]; exact y5⟩
theorem bwC_fr {D D' : Dt} {G : Gt} {g : Cg} {q : Sq} {w : Int} {S : List Nat} (F : Fr S D D') (hd : ([2603, 2704, 2705, 2706, 7604, 2804].all fun j => !S.contains j) = true) : BwC D' G g q w = BwC D G g q w := by
  funext k l
  unfold BwC BmC atK
  rw [bnC_fr F (all_sub hd (by decide)), mtA_fr F (all_sub hd (by decide)), F.r (i := 2804) (dsO_o hd (by decide)), F.i (i := 2603) (dsO_o hd (by decide))]
theorem StpW.c {g : Cg} {q : Sq} {w : Int} {B B' : Int → Int → Prop} {C C0 C' : Fz} {f k l : Int} (h : StpW g q w B C f k l B' C') (e : ∀ i, 0 ≤ i → i < sqM q → C i = C0 i) : StpW g q w B C0 f k l B' C' := by
  have cd : ∀ k l, Cnd g q C0 w k l → Cnd g q C w k l := fun k l c => ⟨c.1, c.2.1, by rw [e k c.1.2.2.1 c.1.2.2.2.1]; exact c.2.2⟩
  refine ⟨fun z => ?_, fun z => ?_⟩
  · obtain ⟨a, b, c⟩ := h.1 z
    exact ⟨fun k l cn => a k l (cd k l cn), b, fun i i0 i1 => (c i i0 i1).trans (e i i0 i1)⟩
  · obtain ⟨a, b, c, d, m⟩ := h.2 z
    refine ⟨⟨a.1, a.2.1, by rw [← e k a.1.2.2.1 a.1.2.2.2.1]; exact a.2.2⟩, b, fun k2 l2 c2 => c k2 l2 (cd k2 l2 c2), d, fun i i0 i1 => ?_⟩
    rw [m i i0 i1, e i i0 i1]
set_option maxHeartbeats 8000000 in
theorem s_X21_turn {N : Nat} {G : Gt} {D : Dt} (hN : 1099511627776 ≤ N) {od : Od} {g : Cg} {q : Sq} {cc : Ct} (hT : Ty D) (hs : CSt D G cc od g) (hq : StO q od) (hK : KdW G) (hw : -1 ≤ d_I D 2112 (s_ G 21) ∧ d_I D 2112 (s_ G 21) < cgW g) : Wp (q_X21_turn N G D) (fun o => (fun r D' => Ty D' ∧ ((r = 0 → cgW g ≤ d_I D 2112 (s_ G 21) + 1 ∧ D' = D) ∧ (r ≠ 0 → d_I D' 2112 (s_ G 21) = d_I D 2112 (s_ G 21) + 1 ∧ d_I D 2112 (s_ G 21) + 1 < cgW g ∧ CSt D' G cc od g ∧ ∃ b, WlkS D' G od g q (d_I D 2112 (s_ G 21) + 1) b ∧ (∀ k l, VdT g q (d_I D 2112 (s_ G 21) + 1) k l → BwC D' G g q (d_I D 2112 (s_ G 21) + 1) k l) ∧ d_R D' 2113 (s_ G 21) = some b))) o.1 o.2) := by
  refine w_un (q_X21_turn.eq_1 ..) ?_
  have hg := hs.2.1
  have w32 := hg.1.2.1
  have wW : cgW g = if d_I D 2106 (s_ G 21) = 0 then 1 else d_I D 2106 (s_ G 21) := by
   split
   · exact (hg.2.2.1 (by assumption)).1
   · exact (hg.2.2.2 (by assumption)).1
  obtain ⟨w, ew⟩ : ∃ w, w = d_I D 2112 (s_ G 21) + 1 := ⟨_, rfl⟩
  have t1 := ty_2106 hT (s_ G 21)
  generalize e_ts0 : (if (d_I D 2106 (s_ G 21)) = (0 : Int) then (1 : Int) else (d_I D 2106 (s_ G 21))) = ts0
  refine w_un (q_X21_turn_15.eq_1 ..) ?_
  have t2 := ty_2112 hT (s_ G 21)
  refine w_gd (by (first | omega | assumption | (subst_vars; first | omega | assumption) | done)) ?_
  refine w_ite (fun hc1 => ?_) (fun hc1 => ?_)
  · skip
    refine w_let fun v2 e_v2 => ?_
    refine w_let fun d1 e_d1 => ?_
    have T_d1 : Ty d1 := tyI_2112 e_d1 hT (by (first | omega | assumption | (subst_vars; first | omega | assumption) | done))
    refine w_ite (fun hc2 => ?_) (fun hc2 => ?_)
    · skip
      obtain ⟨a8, ea8⟩ : ∃ a8, a8 = z_P G 2104 (s_ G 21) := ⟨_, rfl⟩
      have w0 : w = 0 := by
       rw [if_pos hc2] at e_ts0; omega
      have g2 := hg.2.2.1 hc2
      have c9 := hs.2.2.2.2.2.2.2.2 hc2
      have ha8 : ∃ l, ChS d1 a8 (cgA g w) (cgB g w) (cgC g w) (cgE g w) l (cgO g w) ∧ cgL g w = min l (d_I D 2102 (s_ G 21)) ∧ (d_I D 2106 (s_ G 21) = 0 → l = d_I D 2102 (s_ G 21)) := by
       refine ⟨d_I D 2102 (s_ G 21), ?_, ?_, fun _ => rfl⟩
       · rw [ea8, w0, g2.2.1, g2.2.2.2.1, g2.2.2.2.2.1, g2.2.2.2.2.2.1, g2.2.2.2.2.2.2]
         exact c9.sm (ChSm.fr' (Fr.uI e_d1) rfl)
       · rw [w0, g2.2.2.1]; omega
      have rq1 : d_I d1 2102 (s_ G 21) = d_I D 2102 (s_ G 21) := rdI_I e_d1 rfl
      have t3 := ty_2102 hT (s_ G 21)
      have rq2 : d_I d1 2106 (s_ G 21) = d_I D 2106 (s_ G 21) := rdI_I e_d1 rfl
      have j1_hs : CSt d1 G cc od g := by
        (first | assumption | exact (CSt.fr (by assumption) (Fr.uI e_d1) rfl))
      have j1_hq : StO q od := by
        (first | omega | assumption | (subst_vars; first | omega | assumption) | done)
      have j1_hK : KdW G := by
        (first | omega | assumption | (subst_vars; first | omega | assumption) | done)
      have j1_hw : 0 ≤ w ∧ w < cgW g := by
        (first | omega | assumption | (subst_vars; first | omega | assumption) | done)
      have j1_ha : ∃ l, ChS d1 a8 (cgA g w) (cgB g w) (cgC g w) (cgE g w) l (cgO g w) ∧ cgL g w = min l (d_I d1 2102 (s_ G 21)) ∧ (d_I d1 2106 (s_ G 21) = 0 → l = d_I d1 2102 (s_ G 21)) := by
        try simp only [rq1, rq2]
        exact ha8
      have j1_hu : (some (z_P G 2104 (s_ G 21))) = some a8 := by
        rw [ea8]
      refine Wp.mo (Wp.fr (s_X21_turn_61 hN (od := od) (g := g) (q := q) (w := w) (cc := cc) (a8 := a8) T_d1 j1_hs j1_hq j1_hK j1_hw j1_ha j1_hu) fr_X21_turn_61) ?_
      intro o ho
      obtain ⟨⟨hT', ho⟩, hF⟩ := ho
      try dsimp only at hF
      refine ⟨hT', ?_⟩
      obtain ⟨h1, b, h2, h3, h4, h5⟩ := ho
      rw [ew] at h2 h3
      exact ⟨fun z => by omega, fun _ => ⟨by rw [hF.i (i := 2112) rfl, e_d1, rI_I, if_pos ⟨rfl, rfl⟩, e_v2], by omega, h4, b, h2, h3, h5⟩⟩
    · skip
      have g2 := hg.2.2.2 hc2
      obtain ⟨a8, l8, y1, y2, y3⟩ := g2.2 w (by omega) (by rw [if_neg hc2] at e_ts0; omega)
      refine w_lQ (by (first | omega | assumption | (subst_vars; first | omega | assumption) | done)) fun w4 e_w4 => ?_
      have rq3 : d_I d1 2102 (s_ G 21) = d_I D 2102 (s_ G 21) := rdI_I e_d1 rfl
      have t4 := ty_2102 hT (s_ G 21)
      have rq4 : d_I d1 2106 (s_ G 21) = d_I D 2106 (s_ G 21) := rdI_I e_d1 rfl
      have j2_hs : CSt d1 G cc od g := by
        (first | assumption | exact (CSt.fr (by assumption) (Fr.uI e_d1) rfl))
      have j2_hq : StO q od := by
        (first | omega | assumption | (subst_vars; first | omega | assumption) | done)
      have j2_hK : KdW G := by
        (first | omega | assumption | (subst_vars; first | omega | assumption) | done)
      have j2_hw : 0 ≤ w ∧ w < cgW g := by
        (first | omega | assumption | (subst_vars; first | omega | assumption) | done)
      have j2_ha : ∃ l, ChS d1 a8 (cgA g w) (cgB g w) (cgC g w) (cgE g w) l (cgO g w) ∧ cgL g w = min l (d_I d1 2102 (s_ G 21)) ∧ (d_I d1 2106 (s_ G 21) = 0 → l = d_I d1 2102 (s_ G 21)) := by
        try simp only [rq3, rq4]
        exact ⟨l8, y2.sm (ChSm.fr' (Fr.uI e_d1) rfl), y3, fun z => absurd z hc2⟩
      have j2_hu : w4 = some a8 := by
        rw [e_w4, e_v2, ← ew]; exact y1
      refine Wp.mo (Wp.fr (s_X21_turn_61 hN (od := od) (g := g) (q := q) (w := w) (cc := cc) (a8 := a8) T_d1 j2_hs j2_hq j2_hK j2_hw j2_ha j2_hu) fr_X21_turn_61) ?_
      intro o ho
      obtain ⟨⟨hT', ho⟩, hF⟩ := ho
      try dsimp only at hF
      refine ⟨hT', ?_⟩
      obtain ⟨h1, b, h2, h3, h4, h5⟩ := ho
      rw [ew] at h2 h3
      exact ⟨fun z => by omega, fun _ => ⟨by rw [hF.i (i := 2112) rfl, e_d1, rI_I, if_pos ⟨rfl, rfl⟩, e_v2], by omega, h4, b, h2, h3, h5⟩⟩
  · skip
    refine w_some ?_
    try dsimp only
    refine ⟨hT, ?_⟩
    refine ⟨fun _ => ⟨?_, rfl⟩, fun z => absurd rfl z⟩
    rw [wW]; rw [← e_ts0] at hc1; omega
set_option maxHeartbeats 8000000 in
theorem s_X21_goOn_0 {N : Nat} {od : Od} {g : Cg} {q : Sq} {cc : Ct} {B0 : Int → Int → Int → Prop} {C0 : Fz} (hN : 1099511627776 ≤ N) (n : Nat) : ∀ {G : Gt} {D : Dt}, Ty D → (CurC D G cc od g q) → (∀ w k l, Cnd g q C0 w k l → B0 w k l → BecC D G g q w k l) → (∀ w k l, VdT g q w k l → BecC D G g q w k l → B0 w k l) → (∀ i, 0 ≤ i → i < sqM q → d_A D 2305 (s_ G 23) i = C0 i) → max 0 (cgW g - d_I D 2112 (s_ G 21)) < n → Wp (q_X21_goOn_0 N n G D) (fun o => (fun r D' => Ty D' ∧ ((r = 0 ∨ r = 1) ∧ (∃ k l, StR g q B0 C0 r (d_I D' 2502 (s_ G 25)) k l (BecC D' G g q) (d_A D' 2305 (s_ G 23)) ∧ (r ≠ 0 → NwP D' G od k l)) ∧ CurC D' G cc od g q)) o.1 o.2) := by
  induction n with
  | zero =>
    intro G D hT hC hA hB hZ hm; exfalso; omega
  | succ n ih =>
    intro G D hT hC hA hB hZ hm
    show Wp (q_X21_goOn_0 N (n + 1) G D) _
    rw [q_X21_goOn_0]
    have hs := hC.1
    have hq := hC.2.1
    have hK := hC.2.2.1
    have hw := hC.2.2.2.1
    have w1 := hs.2.1.1.1
    refine w_ite (fun hc1 => ?_) (fun hc1 => ?_)
    · skip
      have n1 : d_I D 2112 (s_ G 21) = -1 := by
       rcases hC.2.2.2.2 with y | ⟨b, y, -⟩
       · exact y.2
       · rw [hc1] at y; exact absurd y (by simp)
      refine w_un (q_X21_goOn_17.eq_1 ..) ?_
      have c1_hs : CSt D G cc od g := by
        (first | assumption)
      have c1_hq : StO q od := by
        (first | omega | assumption | (subst_vars; first | omega | assumption) | done)
      have c1_hK : KdW G := by
        (first | omega | assumption | (subst_vars; first | omega | assumption) | done)
      have c1_hw : -1 ≤ d_I D 2112 (s_ G 21) ∧ d_I D 2112 (s_ G 21) < cgW g := by
        first | exact hw | (rw [i3]; exact hw)
      refine w_b2 (Wp.fr (s_X21_turn hN hT c1_hs c1_hq c1_hK c1_hw) fr_X21_turn) fun v3 d2 h_v3 => ?_
      obtain ⟨⟨T_d2, h_v3⟩, F_d2⟩ := h_v3
      try dsimp only at T_d2 h_v3 F_d2
      refine w_ite (fun hc2 => ?_) (fun hc2 => ?_)
      · skip
        refine w_some ?_
        try dsimp only
        refine ⟨T_d2, ?_⟩
        exfalso; have := h_v3.1 (by assumption); omega
      · skip
        obtain ⟨p1, p2, p3, b, p4, p5, p6⟩ := h_v3.2 (by assumption)
        have j1_hC : CurC d2 G cc od g q := by
          exact ⟨p3, hq, hK, by omega, .inr ⟨b, p6, by omega, by rw [p1]; exact p4⟩⟩
        have j1_hA : ∀ w k l, Cnd g q C0 w k l → B0 w k l → BecC d2 G g q w k l := by
          intro w k l cn b0
          by_cases z : w = d_I D 2112 (s_ G 21) + 1
          · refine .inr ⟨by omega, ?_⟩
            subst z
            exact p5 k l ⟨cn.1, cn.2.1⟩
          · have := cn.1.1
            exact .inl (by omega)
        have j1_hB : ∀ w k l, VdT g q w k l → BecC d2 G g q w k l → B0 w k l := by
          intro w k l v b0
          exact hB w k l v (.inl (by have := v.1.1; omega))
        have j1_hZ : ∀ i, 0 ≤ i → i < sqM q → d_A d2 2305 (s_ G 23) i = C0 i := by
          intro i i0 i1; rw [F_d2.a (i := 2305) rfl]; exact hZ i i0 i1
        have j1_hm : max 0 (cgW g - d_I d2 2112 (s_ G 21)) < n := by
          omega
        exact ih T_d2 j1_hC j1_hA j1_hB j1_hZ j1_hm
    · skip
      obtain ⟨b, y1, y2, y3⟩ : ∃ b, d_R D 2113 (s_ G 21) = some b ∧ 0 ≤ d_I D 2112 (s_ G 21) ∧ WlkS D G od g q (d_I D 2112 (s_ G 21)) b := by
       rcases hC.2.2.2.2 with y | y
       · exact absurd y.1 hc1
       · exact y
      refine w_on (by (rw [y1]; exact Option.some_ne_none _)) fun b1 e_b1 => ?_
      have E1 : b1 = b := by rw [y1] at e_b1; exact (Option.some.inj e_b1).symm
      rw [← E1] at y3
      have t1 := ty_2112 hT (s_ G 21)
      have c2_hS : OrS D G od := by
        exact hs.smo
      have c2_hq : StO q od := by
        (first | omega | assumption | (subst_vars; first | omega | assumption) | done)
      have c2_hg : 0 ≤ (d_I D 2112 (s_ G 21)) ∧ (d_I D 2112 (s_ G 21)) < cgW g := by
        (first | omega | assumption | (subst_vars; first | omega | assumption) | done)
      have c2_hW : WlkS D G od g q (d_I D 2112 (s_ G 21)) b1 := by
        (first | assumption)
      have c2_hK : KdW G := by
        (first | omega | assumption | (subst_vars; first | omega | assumption) | done)
      refine w_b2 (Wp.fr (s_qv_PacketOrder_Walk_next (od := od) (g := g) (q := q) (w := (d_I D 2112 (s_ G 21))) hN hT c2_hS c2_hq c2_hg c2_hW c2_hK) frv_PacketOrder_Walk_next) fun v4 d3 h_v4 => ?_
      obtain ⟨⟨T_d3, h_v4⟩, F_d3⟩ := h_v4
      try dsimp only at T_d3 h_v4 F_d3
      obtain ⟨⟨k0, l0, sw, nw⟩, wk⟩ := h_v4
      have s3 : CSt d3 G cc od g := hs.fr F_d3 rfl
      have i3 : d_I d3 2112 (s_ G 21) = d_I D 2112 (s_ G 21) := by rw [F_d3.i (i := 2112) rfl]
      have r3 : d_R d3 2113 (s_ G 21) = some b1 := by rw [F_d3.r (i := 2113) rfl, E1]; exact y1
      have sw := sw.c hZ
      refine w_ite (fun hc3 => ?_) (fun hc3 => ?_)
      · skip
        obtain ⟨nC, nB, hcC⟩ := sw.1 (by assumption)
        refine w_un (q_X21_goOn_17.eq_1 ..) ?_
        have c3_hs : CSt d3 G cc od g := by
          (first | assumption | exact (CSt.fr (by assumption) F_d3 rfl))
        have c3_hq : StO q od := by
          (first | omega | assumption | (subst_vars; first | omega | assumption) | done)
        have c3_hK : KdW G := by
          (first | omega | assumption | (subst_vars; first | omega | assumption) | done)
        have c3_hw : -1 ≤ d_I d3 2112 (s_ G 21) ∧ d_I d3 2112 (s_ G 21) < cgW g := by
          first | exact hw | (rw [i3]; exact hw)
        refine w_b2 (Wp.fr (s_X21_turn hN T_d3 c3_hs c3_hq c3_hK c3_hw) fr_X21_turn) fun v3_2 d2_2 h_v3_2 => ?_
        obtain ⟨⟨T_d2_2, h_v3_2⟩, F_d2_2⟩ := h_v3_2
        try dsimp only at T_d2_2 h_v3_2 F_d2_2
        rw [i3] at h_v3_2
        refine w_ite (fun hc4 => ?_) (fun hc4 => ?_)
        · skip
          refine w_some ?_
          try dsimp only
          refine ⟨T_d2_2, ?_⟩
          obtain ⟨g1, g2⟩ := h_v3_2.1 (by assumption)
          rw [g2]
          refine ⟨.inl rfl, ⟨0, 0, StR.w0 (fun w k l cn b0 => ?_) (fun w k l v b' => ?_) hcC, fun z => absurd rfl z⟩, s3, hq, hK, by rw [i3]; exact hw, .inr ⟨b1, r3, by rw [i3]; exact y2, by rw [i3]; exact wk⟩⟩
          · have w9 := cn.1.2.1
            rcases hA w k l cn b0 with z | ⟨z, z2⟩
            · omega
            · subst z; exact nC k l cn z2
          · have w9 := v.1.2.1
            unfold BecC at b'
            rw [i3] at b'
            rcases b' with z | ⟨z, z2⟩
            · omega
            · subst z; exact nB k l v z2
        · skip
          obtain ⟨p1, p2, p3, b, p4, p5, p6⟩ := h_v3_2.2 (by assumption)
          have j2_hC : CurC d2_2 G cc od g q := by
            exact ⟨p3, hq, hK, by omega, .inr ⟨b, p6, by omega, by rw [p1]; exact p4⟩⟩
          have j2_hA : ∀ w k l, Cnd g q C0 w k l → B0 w k l → BecC d2_2 G g q w k l := by
            intro w k l cn b0
            rcases hA w k l cn b0 with z | ⟨z, z2⟩
            · by_cases y : w = d_I D 2112 (s_ G 21) + 1
              · refine .inr ⟨by omega, ?_⟩
                subst y
                exact p5 k l ⟨cn.1, cn.2.1⟩
              · exact .inl (by omega)
            · subst z; exact absurd z2 (nC k l cn)
          have j2_hB : ∀ w k l, VdT g q w k l → BecC d2_2 G g q w k l → B0 w k l := by
            intro w k l v b'
            refine hB w k l v (.inl ?_)
            rcases b' with z | ⟨z, z2⟩ <;> omega
          have j2_hZ : ∀ i, 0 ≤ i → i < sqM q → d_A d2_2 2305 (s_ G 23) i = C0 i := by
            intro i i0 i1
            rw [F_d2_2.a (i := 2305) rfl]
            exact hcC i i0 i1
          have j2_hm : max 0 (cgW g - d_I d2_2 2112 (s_ G 21)) < n := by
            omega
          exact ih T_d2_2 j2_hC j2_hA j2_hB j2_hZ j2_hm
      · skip
        refine w_let fun v7 e_v7 => ?_
        refine w_let fun d6 e_d6 => ?_
        have T_d6 : Ty d6 := tyI_2502 e_d6 T_d3 (by (first | omega | assumption | (subst_vars; first | omega | assumption) | done))
        refine w_some ?_
        try dsimp only
        refine ⟨T_d6, ?_⟩
        have F6 : Fr [2502] d3 d6 := by rw [e_d6]; exact Fr.rf.I rfl
        have i6 : d_I d6 2502 (s_ G 25) = d_I D 2112 (s_ G 21) := by rw [e_d6, rI_I, if_pos ⟨rfl, rfl⟩, e_v7]
        have i12 : d_I d6 2112 (s_ G 21) = d_I D 2112 (s_ G 21) := by rw [F6.i (i := 2112) rfl]; exact i3
        have bw : BwC d6 G g q (d_I D 2112 (s_ G 21)) = BwC d3 G g q (d_I D 2112 (s_ G 21)) := bwC_fr F6 rfl
        refine ⟨.inr rfl, ⟨k0, l0, ?_, fun _ => ?_⟩, s3.fr F6 rfl, hq, hK, by rw [i12]; exact hw, .inr ⟨b1, by rw [F6.r (i := 2113) rfl]; exact r3, by rw [i12]; exact y2, by rw [i12]; exact wk.fr F6 rfl⟩⟩
        · rw [i6, F6.a (i := 2305) rfl]
          have sw' : StpW g q (d_I D 2112 (s_ G 21)) (BwC D G g q (d_I D 2112 (s_ G 21))) C0 1 k0 l0 (BwC d3 G g q (d_I D 2112 (s_ G 21))) (d_A d3 2305 (s_ G 23)) := ⟨fun z => absurd z (by decide), fun _ => sw.2 (by assumption)⟩
          refine StR.w1 (by decide) sw' (fun w k l cn b0 => by rcases hA w k l cn b0 with y | ⟨y, z⟩; exact .inl y; subst y; exact .inr ⟨rfl, z⟩) (fun k l v b => hB _ k l v (.inr ⟨rfl, b⟩)) (fun w k l => ?_)
          unfold BecC
          rw [i12]
          constructor
          · intro y
            rcases y with y | ⟨y, z⟩
            · exact .inl y
            · subst y; rw [bw] at z; exact .inr ⟨rfl, z⟩
          · intro y
            rcases y with y | ⟨y, z⟩
            · exact .inl y
            · subst y; exact .inr ⟨rfl, by rw [bw]; exact z⟩
        · obtain ⟨c, r', p, st, n1, n2, n3, n4, n5, n6⟩ := nw (by assumption)
          exact ⟨c, r', p, st, n1, n2, by rw [F6.i (i := 2500) rfl]; exact n3, by rw [F6.i (i := 2501) rfl]; exact n4, by rw [F6.r (i := 2503) rfl]; exact n5, n6.fr F6 rfl⟩
set_option maxHeartbeats 8000000 in
theorem s_X21_goOn {N : Nat} {G : Gt} {D : Dt} (hN : 1099511627776 ≤ N) {od : Od} {g : Cg} {q : Sq} {cc : Ct} (hT : Ty D) (hC : CurC D G cc od g q) : Wp (q_X21_goOn N G D) (fun o => (fun r D' => Ty D' ∧ ((r = 0 ∨ r = 1) ∧ (∃ k l, StR g q (BecC D G g q) (d_A D 2305 (s_ G 23)) r (d_I D' 2502 (s_ G 25)) k l (BecC D' G g q) (d_A D' 2305 (s_ G 23)) ∧ (r ≠ 0 → NwP D' G od k l)) ∧ CurC D' G cc od g q)) o.1 o.2) := by
  refine w_un (q_X21_goOn.eq_1 ..) ?_
  have hw := hC.2.2.2.1
  have w32 := hC.1.2.1.1.2.1
  have j1_hC : CurC D G cc od g q := by
    (first | omega | assumption | (subst_vars; first | omega | assumption) | done)
  have j1_hA : ∀ w k l, Cnd g q (d_A D 2305 (s_ G 23)) w k l → (BecC D G g q) w k l → BecC D G g q w k l := by
    exact fun w k l _ b => b
  have j1_hB : ∀ w k l, VdT g q w k l → BecC D G g q w k l → (BecC D G g q) w k l := by
    exact fun w k l _ b => b
  have j1_hZ : ∀ i, 0 ≤ i → i < sqM q → d_A D 2305 (s_ G 23) i = (d_A D 2305 (s_ G 23)) i := by
    (first | omega | assumption | (subst_vars; first | omega | assumption) | done)
  have j1_hm : max 0 (cgW g - d_I D 2112 (s_ G 21)) < N := by
    (first | omega | assumption | (subst_vars; first | omega | assumption) | done)
  refine Wp.mo (s_X21_goOn_0 hN (od := od) (g := g) (q := q) (cc := cc) (B0 := BecC D G g q) (C0 := d_A D 2305 (s_ G 23)) _ hT j1_hC j1_hA j1_hB j1_hZ j1_hm) ?_
  intro o ho
  exact ho
set_option maxHeartbeats 8000000 in
theorem s_X21_next {N : Nat} {G : Gt} {D : Dt} {c : Ct} (hN : 1099511627776 ≤ N) {od : Od} {g : Cg} {q : Sq} {cc : Ct} (hT : Ty D) (hC : CurC D G cc od g q) : Wp (q_X21_next N G D c) (Th (fun r s => (fun r D' c' => Ty D' ∧ ((r = 0 ∨ r = 1) ∧ (∃ k l, StR g q (BecC D G g q) (d_A D 2305 (s_ G 23)) r (d_I D' 2502 (s_ G 25)) k l (BecC D' G g q) (d_A D' 2305 (s_ G 23)) ∧ (r ≠ 0 → NwP D' G od k l)) ∧ CurC D' G cc od g q ∧ c' = c)) r s.1 s.2) (fun e s => (fun (e : Nat) D' c' => Ty D' ∧ (e = 99 ∧ False)) e s.1 s.2)) := by
  refine w_un (q_X21_next.eq_1 ..) ?_
  have h8 := hC.1.2.2.2.2.2.2.2.1
  have t1 := ty_2111 hT (s_ G 21)
  refine w_tht (Wp.fr (s_X21_must hT) fr_X21_must) (fun u p2_2 h_p2_2 => ?_) (fun e_x p2_2 h_p2_2 => ?_)
  · skip
    obtain ⟨⟨T_p2_2, h_p2_2⟩, F_p2_2⟩ := h_p2_2
    try dsimp only at T_p2_2 h_p2_2 F_p2_2
    have c2_hC : CurC p2_2.1 G cc od g q := by
      rw [h_p2_2.2.1]; exact hC
    refine w_b2 (Wp.fr (s_X21_goOn hN T_p2_2 c2_hC) fr_X21_goOn) fun v5 d4 h_v5 => ?_
    obtain ⟨⟨T_d4, h_v5⟩, F_d4⟩ := h_v5
    try dsimp only at T_d4 h_v5 F_d4
    refine w_gd (by (first | omega | assumption | (subst_vars; first | omega | assumption) | done)) ?_
    refine w_thl ?_
    try dsimp only
    refine ⟨T_d4, ?_⟩
    rw [h_p2_2.2.1] at h_v5; exact ⟨h_v5.1, h_v5.2.1, h_v5.2.2, h_p2_2.2.2⟩
  · skip
    obtain ⟨⟨T_p2_2, h_p2_2⟩, F_p2_2⟩ := h_p2_2
    try dsimp only at T_p2_2 h_p2_2 F_p2_2
    refine th_inr ?_
    try dsimp only
    refine ⟨T_p2_2, ?_⟩
    (first | omega | assumption | (subst_vars; first | omega | assumption) | done)
