/-! specifications, printed by gen/mks.py -/
set_option maxRecDepth 100000
/-- the walk at hand in change w -/
def WlkS (D : Dt) (G : Gt) (od : Od) (g : Cg) (q : Sq) (w : Int) (b : Nat) : Prop := (b = s_ G 27 ∧ cgO g w < 2 ∧ ∃ ch, CnS D G od g w ch) ∨ (b = s_ G 28 ∧ 2 ≤ cgO g w ∧ ∃ ch, MgT D G od g q w ch ∧ MgC D G od g q w)
/-- what is to come in change w -/
def BwC (D : Dt) (G : Gt) (g : Cg) (q : Sq) (w k l : Int) : Prop := if cgO g w < 2 then BnC D G q (cgO g w) k l else BmC D G q k l
/-- the walks' kinds -/
def KdW (G : Gt) : Prop := z_K G (s_ G 27) = 28 ∧ z_K G (s_ G 28) = 29
theorem BwC.n {D : Dt} {G : Gt} {g : Cg} {q : Sq} {w : Int} (h : cgO g w < 2) : BwC D G g q w = BnC D G q (cgO g w) := by funext k l; exact if_pos h
theorem BwC.m {D : Dt} {G : Gt} {g : Cg} {q : Sq} {w : Int} (h : 2 ≤ cgO g w) : BwC D G g q w = BmC D G q := by funext k l; exact if_neg (by omega)
theorem s_qv_PacketOrder_Walk_begin {N b x2 : Nat} {G : Gt} {D : Dt} (hN : 1099511627776 ≤ N) {od : Od} {g : Cg} {q : Sq} {w : Int} (hT : Ty D) (hS : OrS D G od) (hq : StO q od) (hg : CgOk g ∧ CgR g (oNC od) ∧ 0 ≤ w ∧ w < cgW g) (hc : ChS D x2 (cgA g w) (cgB g w) (cgC g w) (cgE g w) (cgL g w) (cgO g w)) (hK : KdW G) (hb : b = if cgO g w < 2 then s_ G 27 else s_ G 28) :
    Wp (qv_PacketOrder_Walk_begin N b x2 G D) (fun D' => Ty D' ∧ (WlkS D' G od g q w b ∧ ∀ k l, VdT g q w k l → BwC D' G g q w k l)) := by
  unfold qv_PacketOrder_Walk_begin
  by_cases z : cgO g w < 2
  · rw [if_pos z] at hb
    subst hb
    rw [if_pos hK.1]
    refine Wp.mo (s_X27_begin hN hT hS hq ⟨hg.1, hg.2.1, hg.2.2.1, hg.2.2.2, z⟩ hc) fun o ho => ?_
    exact ⟨ho.1, .inl ⟨rfl, z, _, ho.2.1⟩, by rw [BwC.n z]; exact ho.2.2⟩
  · rw [if_neg z] at hb
    subst hb
    rw [if_neg (by rw [hK.2]; decide), if_pos hK.2]
    refine Wp.mo (s_X28_begin hN hT hS hq ⟨hg.1, hg.2.1, hg.2.2.1, hg.2.2.2, by omega⟩ hc) fun o ho => ?_
    exact ⟨ho.1, .inr ⟨rfl, by omega, _, ho.2.1, ho.2.2.1⟩, by rw [BwC.m (by omega)]; exact ho.2.2.2⟩
theorem s_qv_PacketOrder_Walk_next {N b : Nat} {G : Gt} {D : Dt} (hN : 1099511627776 ≤ N) {od : Od} {g : Cg} {q : Sq} {w : Int} (hT : Ty D) (hS : OrS D G od) (hq : StO q od) (hg : 0 ≤ w ∧ w < cgW g) (hW : WlkS D G od g q w b) (hK : KdW G) :
    Wp (qv_PacketOrder_Walk_next N b G D) (fun o => (fun r D' => Ty D' ∧ ((∃ k l, StpW g q w (BwC D G g q w) (d_A D 2305 (s_ G 23)) r k l (BwC D' G g q w) (d_A D' 2305 (s_ G 23)) ∧ (r ≠ 0 → NwP D' G od k l)) ∧ WlkS D' G od g q w b)) o.1 o.2) := by
  unfold qv_PacketOrder_Walk_next
  rcases hW with ⟨e, z, ch, h⟩ | ⟨e, z, ch, h1, h2⟩
  · subst e
    rw [if_pos hK.1]
    refine Wp.mo (s_X27_next hN hT hS hq h hg) fun o ho => ?_
    rw [BwC.n z]
    exact ⟨ho.1, by rw [BwC.n z]; exact ho.2.1, .inl ⟨rfl, z, ch, ho.2.2⟩⟩
  · subst e
    rw [if_neg (by rw [hK.2]; decide), if_pos hK.2]
    refine Wp.mo (s_X28_next hN hT h1 h2) fun o ho => ?_
    rw [BwC.m z]
    exact ⟨ho.1, by rw [BwC.m z]; exact ho.2.1, .inr ⟨rfl, z, ch, ho.2.2.1, ho.2.2.2⟩⟩
set_option maxHeartbeats 8000000 in
theorem s_X21_turn_132 {N : Nat} {od : Od} {g : Cg} {q : Sq} {w : Int} {bb : Nat} {r2 : Nat} {G : Gt} {D : Dt} (hN : 1099511627776 ≤ N) (hT : Ty D) (hS : OrS D G od) (hq : StO q od) (hg : CgOk g ∧ CgR g (oNC od) ∧ 0 ≤ w ∧ w < cgW g) (hc : ChS D r2 (cgA g w) (cgB g w) (cgC g w) (cgE g w) (cgL g w) (cgO g w)) (hK : KdW G) (hb : bb = (if cgO g w < 2 then s_ G 27 else s_ G 28) ∧ d_R D 2113 (s_ G 21) = some bb) : Wp (q_X21_turn_132 N r2 G D) (fun o => (fun r D' => Ty D' ∧ (r = 1 ∧ WlkS D' G od g q w bb ∧ ∀ k l, VdT g q w k l → BwC D' G g q w k l)) o.1 o.2) := by
  refine w_un (q_X21_turn_132.eq_1 ..) ?_
  refine w_on (by (rw [hb.2]; exact Option.some_ne_none _)) fun b1 e_b1 => ?_
  have E1 : b1 = bb := by rw [hb.2] at e_b1; exact (Option.some.inj e_b1).symm
  have c1_hS : OrS D G od := by
    (first | assumption)
  have c1_hq : StO q od := by
    (first | omega | assumption | (subst_vars; first | omega | assumption) | done)
  have c1_hg : CgOk g ∧ CgR g (oNC od) ∧ 0 ≤ w ∧ w < cgW g := by
    (first | omega | assumption | (subst_vars; first | omega | assumption) | done)
  have c1_hc : ChS D r2 (cgA g w) (cgB g w) (cgC g w) (cgE g w) (cgL g w) (cgO g w) := by
    (first | omega | assumption | (subst_vars; first | omega | assumption) | done)
  have c1_hK : KdW G := by
    (first | omega | assumption | (subst_vars; first | omega | assumption) | done)
  have c1_hb : b1 = if cgO g w < 2 then s_ G 27 else s_ G 28 := by
    rw [E1]; exact hb.1
  refine w_b (Wp.fr (s_qv_PacketOrder_Walk_begin hN hT c1_hS c1_hq c1_hg c1_hc c1_hK c1_hb) frv_PacketOrder_Walk_begin) fun d3 h_d3 => ?_
  obtain ⟨⟨T_d3, h_d3⟩, F_d3⟩ := h_d3
  refine w_some ?_
  try dsimp only
  refine ⟨T_d3, ?_⟩
  rw [E1] at h_d3; exact ⟨rfl, h_d3⟩
