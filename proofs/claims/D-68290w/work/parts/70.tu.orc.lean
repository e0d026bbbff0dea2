/-! specifications, printed by gen/mks.py -/
set_option maxRecDepth 100000
/-- the tile's area -/
def ArT (D : Dt) (G : Gt) (od : Od) : Prop := d_I D 2400 (z_P G 2300 (s_ G 23)) = oX0 od ∧ d_I D 2401 (z_P G 2300 (s_ G 23)) = oY0 od ∧ d_I D 2402 (z_P G 2300 (s_ G 23)) = oX1 od ∧ d_I D 2403 (z_P G 2300 (s_ G 23)) = oY1 od
/-- components told -/
def CoA (D : Dt) (G : Gt) (od : Od) : Prop := ∀ k, 0 ≤ k → k < oNC od → ∃ co, z_Q G 2100 (s_ G 21) k = some co ∧ CoD D od k co
/-- parts laid before K -/
def PtB (D : Dt) (G : Gt) (od : Od) (K : Int) : Prop := ∀ k, 0 ≤ k → k < K → ∃ pt, z_Q G 2301 (s_ G 23) k = some pt ∧ PtC D G od k pt
/-- streams laid before (K, R) -/
def StB (D : Dt) (G : Gt) (od : Od) (K R : Int) : Prop := ∀ k r, 0 ≤ k → 0 ≤ r → r ≤ oNL od k → (k < K ∨ k = K ∧ r < R) → ∃ st, z_Q G 2302 (s_ G 23) (k * 33 + r) = some st ∧ d_I D 7603 st = opF od k r
/-- all laid -/
def LaC (D : Dt) (G : Gt) (od : Od) : Prop := d_I D 2304 (s_ G 23) = opN od ∧ d_I D 2303 (s_ G 23) = oNC od ∧ PtB D G od (oNC od) ∧ StB D G od (oNC od) 0
theorem CoA.fr {D D' : Dt} {G : Gt} {od : Od} {S : List Nat} (h : CoA D G od) (F : Fr S D D') (hd : ([7200, 7201, 7202, 7205, 7206].all fun j => !S.contains j) = true) : CoA D' G od := fun k k0 k1 => by
  obtain ⟨co, a, b⟩ := h k k0 k1
  exact ⟨co, a, b.fr F hd⟩
theorem CoA.o {D : Dt} {G G' : Gt} {od : Od} {b : Nat} (h : CoA D G od) (X : GoX b G G') : CoA D G' od := fun k k0 k1 => by
  obtain ⟨co, a, c⟩ := h k k0 k1
  exact ⟨co, by rw [X.1]; exact X.2.2.2.2.2 _ _ _ _ a, c⟩
theorem ArT.fr {D D' : Dt} {G : Gt} {od : Od} {S : List Nat} (h : ArT D G od) (F : Fr S D D') (hd : ([2400, 2401, 2402, 2403].all fun j => !S.contains j) = true) : ArT D' G od := by
  unfold ArT at h ⊢
  rw [F.i (i := 2400) (dsO_o hd (by decide)), F.i (i := 2401) (dsO_o hd (by decide)), F.i (i := 2402) (dsO_o hd (by decide)), F.i (i := 2403) (dsO_o hd (by decide))]
  exact h
theorem ArT.o {D : Dt} {G G' : Gt} {od : Od} {c : Ct} (h : ArT D G od) (hG : PoG G c) (X : GoX c.1 G G') : ArT D G' od := by
  unfold ArT at h ⊢
  rw [X.1, X.2.1 _ _ hG.2.2.2.2.2.2.2.2]
  exact h
theorem LvC.fr {D D' : Dt} {G : Gt} {od : Od} {k r : Int} {l : Nat} {S : List Nat} (h : LvC D G od k r l) (F : Fr S D D') (hd : ([2400, 2401, 2402, 2403, 7403, 7404, 7405, 7406].all fun j => !S.contains j) = true) : LvC D' G od k r l := h.sm (ArE.fr' F (all_sub hd (by decide))) (LwSm.fr' F (all_sub hd (by decide)))
theorem PtC.fr {D D' : Dt} {G : Gt} {od : Od} {k : Int} {pt : Nat} {S : List Nat} (h : PtC D G od k pt) (F : Fr S D D') (hd : ([2400, 2401, 2402, 2403, 7302, 7403, 7404, 7405, 7406].all fun j => !S.contains j) = true) : PtC D' G od k pt :=
  ⟨by rw [F.i (i := 7302) (dsO_o hd (by decide))]; exact h.1, fun r r0 r1 => (h.2 r r0 r1).fr F (all_sub hd (by decide))⟩
theorem PtB.fr {D D' : Dt} {G : Gt} {od : Od} {K : Int} {S : List Nat} (h : PtB D G od K) (F : Fr S D D') (hd : ([2400, 2401, 2402, 2403, 7302, 7403, 7404, 7405, 7406].all fun j => !S.contains j) = true) : PtB D' G od K := fun k k0 k1 => by
  obtain ⟨pt, a, b⟩ := h k k0 k1
  exact ⟨pt, a, b.fr F hd⟩
theorem StB.fr {D D' : Dt} {G : Gt} {od : Od} {K R : Int} {S : List Nat} (h : StB D G od K R) (F : Fr S D D') (hd : ([7603].all fun j => !S.contains j) = true) : StB D' G od K R := fun k r k0 r0 r1 l => by
  obtain ⟨st, a, b⟩ := h k r k0 r0 r1 l
  exact ⟨st, a, by rw [F.i (i := 7603) (dsO_o hd (by decide))]; exact b⟩
theorem PtC.o {D : Dt} {G G' : Gt} {od : Od} {k : Int} {pt b : Nat} (hod : OdOk od) (k0 : 0 ≤ k) (k1 : k < oNC od) (h : PtC D G od k pt) (hA : PtA G pt) (hb : pt + 296 ≤ b) (X : GoX b G G') : PtC D G' od k pt := by
  have nl := (hod.2.2.2.1 k k0 k1).2.2.2.2
  refine ⟨h.1, fun r r0 r1 => ?_⟩
  have l := hA.lv r0 (show r < 33 by omega)
  have u := loN_u (show r.toNat < 33 by omega)
  have v := h.2 r r0 r1
  rw [X.2.2.1 _ _ _ (by omega)]
  unfold LvC at v ⊢
  rw [X.2.1 _ _ (by omega)]
  exact v
theorem PtB.o {D : Dt} {G G' : Gt} {od : Od} {K : Int} {c : Ct} (hod : OdOk od) (hK : K ≤ oNC od) (h : PtB D G od K) (hG : PoG G c) (X : GoX c.1 G G') : PtB D G' od K := fun k k0 k1 => by
  obtain ⟨pt, a, b⟩ := h k k0 k1
  have g := hG.1 k pt a
  exact ⟨pt, by rw [X.1]; exact X.2.2.2.2.2 _ _ _ _ a, b.o hod k0 (by omega) g.1 g.2.2.1 X⟩
theorem StB.o {D : Dt} {G G' : Gt} {od : Od} {K R : Int} {b : Nat} (h : StB D G od K R) (X : GoX b G G') : StB D G' od K R := fun k r k0 r0 r1 l => by
  obtain ⟨st, a, d⟩ := h k r k0 r0 r1 l
  exact ⟨st, by rw [X.1]; exact X.2.2.2.2.2 _ _ _ _ a, d⟩
theorem opF_sr {o : Od} {c r : Int} (r0 : 0 ≤ r) : opF o c (r + 1) = opF o c r + olP o c r := by
  unfold opF
  rw [Int.add_assoc, ← olF_s r0]
theorem opF_sc {o : Od} {c : Int} (c0 : 0 ≤ c) (h : 0 ≤ oNL o c) : opF o (c + 1) 0 = opF o c (oNL o c + 1) := by
  unfold opF
  rw [olF_0, show (c + 1).toNat = c.toNat + 1 by omega]
  show ocF o c.toNat + olF o c.toNat (oNL o (c.toNat : Nat) + 1).toNat + 0 = _
  rw [show ((c.toNat : Nat) : Int) = c by omega]; omega
theorem opF_cn {o : Od} : opF o (oNC o) 0 = opN o := by
  unfold opF opN
  rw [olF_0]; omega
theorem StB.s {D D' : Dt} {G : Gt} {od : Od} {K R : Int} {c : Ct} {st : Nat} {v : Int} (hod : OdOk od) (hG : PoG G c) (h : StB D G od K R) (e : D' = u_I D 7603 st v) (hz : z_Q G 2302 (s_ G 23) (K * 33 + R) = some st) (hv : v = opF od K R) (K0 : 0 ≤ K) (K1 : K < oNC od) (R0 : 0 ≤ R) (R1 : R ≤ oNL od K) : StB D' G od K (R + 1) := fun k r k0 r0 r1 l => by
  have nK := (hod.2.2.2.1 K K0 K1).2.2.2.2
  have nk := (hod.2.2.2.1 k k0 (by omega)).2.2.2.2
  by_cases z : k = K ∧ r = R
  · rw [z.1, z.2, e]
    exact ⟨st, hz, by rw [rI_I, if_pos ⟨rfl, rfl⟩]; exact hv⟩
  · obtain ⟨s2, a, b⟩ := h k r k0 r0 r1 (by omega)
    refine ⟨s2, a, ?_⟩
    rw [e, rI_I, if_neg (fun y => ?_)]
    · exact b
    · have := (hG.2.1 _ _ a).2 (K * 33 + R) (by rw [y.2]; exact hz)
      omega
theorem StB.c {D : Dt} {G : Gt} {od : Od} {K : Int} (h : StB D G od K (oNL od K + 1)) : StB D G od (K + 1) 0 := fun k r k0 r0 r1 l => by
  by_cases z : k = K
  · exact h k r k0 r0 r1 (.inr ⟨z, by rw [z] at r1; omega⟩)
  · exact h k r k0 r0 r1 (.inl (by omega))
theorem PtB.s {D D' : Dt} {G : Gt} {od : Od} {K : Int} {c : Ct} {pt : Nat} (hod : OdOk od) (hG : PoG G c) (K1 : K ≤ oNC od) (h : PtB D G od K) (hz : z_Q G 2301 (s_ G 23) K = some pt) (hp : PtC D' G od K pt) (hO : PtO D D' pt) (h3 : ∀ bb, bb ≠ pt → d_I D' 7302 bb = d_I D 7302 bb) : PtB D' G od (K + 1) := fun k k0 k1 => by
  by_cases z : k = K
  · rw [z]; exact ⟨pt, hz, hp⟩
  · obtain ⟨p2, a, b⟩ := h k k0 (by omega)
    have g := hG.1 k p2 a
    have dj := g.2.2.2 K pt hz
    have nl := (hod.2.2.2.1 k k0 (by omega)).2.2.2.2
    refine ⟨p2, a, by rw [h3 _ (by omega)]; exact b.1, fun r r0 r1 => ?_⟩
    have l := g.1.lv r0 (show r < 33 by omega)
    have u := loN_u (show r.toNat < 33 by omega)
    exact (b.2 r r0 r1).sm (hO _ (by omega)).2 (hO _ (by omega)).1
set_option maxHeartbeats 8000000 in
theorem s_X23_lay_150 {N : Nat} {od : Od} {c0 : Ct} {G0 : Gt} (hN : 1099511627776 ≤ N) (n : Nat) : ∀ {x3 : Int} {x4 : Int} {G : Gt} {D : Dt} {c : Ct}, Ty D → (OdOk od) → (PoG G c) → (GoX c0.1 G0 G ∧ c0.1 ≤ c.1) → (PoD D G) → (CoA D G od) → (ArT D G od) → (0 ≤ x4 ∧ x4 ≤ 4096 ∧ (x3 = 0 ∨ x3 = 1)) → ((x3 = 0 → 4096 < opN od) ∧ (x3 ≠ 0 → opN od ≤ 4096 ∧ LaC D G od)) → (∀ i, 0 ≤ i → i < x4 → (d_A D 2305 (s_ G 23) (i)) = 0) → 4096 - x4 < n → Wp (q_X23_lay_150 N n x3 x4 G D c) (fun o => (fun r D' G' c' => Ty D' ∧ (((r = 0 → 4096 < opN od) ∧ (r ≠ 0 → opN od ≤ 4096 ∧ LaC D' G' od ∧ ∀ i, 0 ≤ i → i < 4096 → d_A D' 2305 (s_ G' 23) i = 0)) ∧ PoG G' c' ∧ (GoX c0.1 G0 G' ∧ c0.1 ≤ c'.1) ∧ PoD D' G' ∧ CoA D' G' od ∧ ArT D' G' od)) o.1 o.2.1 o.2.2.1 o.2.2.2) := by
  induction n with
  | zero =>
    intro x3 x4 G D c hT hod hG hX hD hC hA h1 hS hZ hm; exfalso; omega
  | succ n ih =>
    intro x3 x4 G D c hT hod hG hX hD hC hA h1 hS hZ hm
    show Wp (q_X23_lay_150 N (n + 1) x3 x4 G D c) _
    rw [q_X23_lay_150]
    have z0 : tos 0 = 0 := by decide
    refine w_ite (fun hc1 => ?_) (fun hc1 => ?_)
    · skip
      refine w_gd (by (first | omega | assumption | (subst_vars; first | omega | assumption) | done)) ?_
      refine w_some ?_
      try dsimp only
      refine ⟨hT, ?_⟩
      exact ⟨⟨hS.1, fun z => ⟨(hS.2 z).1, (hS.2 z).2, fun i i0 i1 => hZ i i0 (by omega)⟩⟩, hG, hX, hD, hC, hA⟩
    · skip
      refine w_tA (by (first | omega | assumption | (subst_vars; first | omega | assumption) | done)) fun d2 e_d2 => ?_
      have T_d2 : Ty d2 := tyA_2305 e_d2 hT (by (first | omega | assumption | (subst_vars; first | omega | assumption) | done))
      have w_d2 := wA e_d2
      refine w_gd (by (first | omega | assumption | (subst_vars; first | omega | assumption) | done)) ?_
      refine w_let fun v3 e_v3 => ?_
      have j1_hod : OdOk od := by
        (first | omega | assumption | (subst_vars; first | omega | assumption) | done)
      have j1_hG : PoG G c := by
        (first | omega | assumption | (subst_vars; first | omega | assumption) | done)
      have j1_hX : GoX c0.1 G0 G ∧ c0.1 ≤ c.1 := by
        (first | omega | assumption | (subst_vars; first | omega | assumption) | done)
      have j1_hD : PoD d2 G := by
        (first | assumption | exact (PoD.fr (by assumption) (Fr.uA e_d2) rfl))
      have j1_hC : CoA d2 G od := by
        (first | assumption | exact (CoA.fr (by assumption) (Fr.uA e_d2) rfl))
      have j1_hA : ArT d2 G od := by
        (first | assumption | exact (ArT.fr (by assumption) (Fr.uA e_d2) rfl))
      have j1_h1 : 0 ≤ v3 ∧ v3 ≤ 4096 ∧ (x3 = 0 ∨ x3 = 1) := by
        (first | omega | assumption | (subst_vars; first | omega | assumption) | done)
      have j1_hS : (x3 = 0 → 4096 < opN od) ∧ (x3 ≠ 0 → opN od ≤ 4096 ∧ LaC d2 G od) := by
        (first | omega | assumption | (subst_vars; first | omega | assumption) | done)
      have j1_hZ : ∀ i, 0 ≤ i → i < v3 → (d_A d2 2305 (s_ G 23) (i)) = 0 := by
        intro i i0 i1
        rw [e_d2, rA_A]
        by_cases z : i = x4
        · rw [if_pos ⟨rfl, rfl, z⟩]; exact z0
        · rw [if_neg (fun y => z y.2.2)]; exact hZ i i0 (by omega)
      have j1_hm : 4096 - v3 < n := by
        (first | omega | assumption | (subst_vars; first | omega | assumption) | done)
      exact ih T_d2 j1_hod j1_hG j1_hX j1_hD j1_hC j1_hA j1_h1 j1_hS j1_hZ j1_hm
set_option maxHeartbeats 8000000 in
theorem s_X23_lay_54 {N : Nat} {od : Od} {c0 : Ct} {G0 : Gt} (hN : 1099511627776 ≤ N) {k15 : Nat → Int → Int → Int → Gt → Dt → Ct → Option (Int × (Dt × Gt × Ct))} {M15 : Int} (hk15 : ∀ {r1 : Nat} {x2 : Int} {x3 : Int} {x4 : Int} {G : Gt} {D : Dt} {c : Ct}, Ty D → (OdOk od) → (PoG G c) → (GoX c0.1 G0 G ∧ c0.1 ≤ c.1) → (PoD D G) → (CoA D G od) → (ArT D G od) → (r1 = s_ G 21 ∧ x2 = oNC od ∧ 0 ≤ x4 ∧ x4 ≤ oNC od ∧ (x3 = 0 ∨ x3 = 1) ∧ d_I D 2303 (s_ G 23) = oNC od) → (PtB D G od x4) → ((x3 = 0 → 4096 < opN od) ∧ (x3 ≠ 0 → (d_I D 2304 (s_ G 23)) = opF od x4 0 ∧ (d_I D 2304 (s_ G 23)) ≤ 4096 ∧ StB D G od x4 0)) → oNC od - x4 < M15 → Wp (k15 r1 x2 x3 x4 G D c) (fun o => (fun r D' G' c' => Ty D' ∧ (((r = 0 → 4096 < opN od) ∧ (r ≠ 0 → opN od ≤ 4096 ∧ LaC D' G' od ∧ ∀ i, 0 ≤ i → i < 4096 → d_A D' 2305 (s_ G' 23) i = 0)) ∧ PoG G' c' ∧ (GoX c0.1 G0 G' ∧ c0.1 ≤ c'.1) ∧ PoD D' G' ∧ CoA D' G' od ∧ ArT D' G' od)) o.1 o.2.1 o.2.2.1 o.2.2.2)) (n : Nat) : ∀ {a1 : Nat} {x2 : Int} {x3 : Int} {x4 : Int} {x5 : Int} {G : Gt} {D : Dt} {c : Ct}, Ty D → (OdOk od) → (PoG G c) → (GoX c0.1 G0 G ∧ c0.1 ≤ c.1) → (PoD D G) → (CoA D G od) → (ArT D G od) → (a1 = s_ G 21 ∧ x2 = oNC od ∧ 0 ≤ x4 ∧ x4 < oNC od ∧ 0 ≤ x5 ∧ x5 ≤ oNL od x4 + 1 ∧ (x3 = 0 ∨ x3 = 1) ∧ d_I D 2303 (s_ G 23) = oNC od) → (PtB D G od (x4 + 1)) → ((x3 = 0 → 4096 < opN od) ∧ (x3 ≠ 0 → (d_I D 2304 (s_ G 23)) = opF od x4 x5 ∧ (d_I D 2304 (s_ G 23)) ≤ 4096 ∧ StB D G od x4 x5)) → (oNC od - (x4 + 1) < M15) → oNL od x4 + 1 - x5 < n → Wp (q_X23_lay_54 N k15 n a1 x2 x3 x4 x5 G D c) (fun o => (fun r D' G' c' => Ty D' ∧ (((r = 0 → 4096 < opN od) ∧ (r ≠ 0 → opN od ≤ 4096 ∧ LaC D' G' od ∧ ∀ i, 0 ≤ i → i < 4096 → d_A D' 2305 (s_ G' 23) i = 0)) ∧ PoG G' c' ∧ (GoX c0.1 G0 G' ∧ c0.1 ≤ c'.1) ∧ PoD D' G' ∧ CoA D' G' od ∧ ArT D' G' od)) o.1 o.2.1 o.2.2.1 o.2.2.2) := by
  induction n with
  | zero =>
    intro a1 x2 x3 x4 x5 G D c hT hod hG hX hD hC hA h0 hP hS hM hm; exfalso; omega
  | succ n ih =>
    intro a1 x2 x3 x4 x5 G D c hT hod hG hX hD hC hA h0 hP hS hM hm
    show Wp (q_X23_lay_54 N k15 (n + 1) a1 x2 x3 x4 x5 G D c) _
    rw [q_X23_lay_54]
    have nc := hod.2.2.1
    have dd := (hod.2.2.2.1 x4 h0.2.2.1 h0.2.2.2.1).2.2.2.2
    obtain ⟨co, c1, c2⟩ := hC x4 h0.2.2.1 h0.2.2.2.1
    refine w_lQ (by (first | omega | assumption | (subst_vars; first | omega | assumption) | done)) fun w1 e_w1 => ?_
    have q1 : w1 = some co := by rw [e_w1, h0.1]; exact c1
    refine w_on (by (first | (rw [q1]; exact Option.some_ne_none _) | (rw [q5]; exact Option.some_ne_none _) | (rw [m1]; exact Option.some_ne_none _))) fun b2 e_b2 => ?_
    have E2 : b2 = co := by rw [q1] at e_b2; exact (Option.some.inj e_b2).symm
    have n2 : d_I D 7202 b2 = oNL od x4 := by rw [E2]; exact c2.2.2.1
    have t1 := ty_7202 hT b2
    refine w_ite (fun hc1 => ?_) (fun hc1 => ?_)
    · skip
      have x5e : x5 = oNL od x4 + 1 := by omega
      refine w_gd (by (first | omega | assumption | (subst_vars; first | omega | assumption) | done)) ?_
      refine w_let fun v3 e_v3 => ?_
      have j1_hod : OdOk od := by
        (first | omega | assumption | (subst_vars; first | omega | assumption) | done)
      have j1_hG : PoG G c := by
        (first | omega | assumption | (subst_vars; first | omega | assumption) | done)
      have j1_hX : GoX c0.1 G0 G ∧ c0.1 ≤ c.1 := by
        (first | omega | assumption | (subst_vars; first | omega | assumption) | done)
      have j1_hD : PoD D G := by
        (first | assumption)
      have j1_hC : CoA D G od := by
        (first | assumption)
      have j1_hA : ArT D G od := by
        (first | assumption)
      have j1_h0 : a1 = s_ G 21 ∧ x2 = oNC od ∧ 0 ≤ v3 ∧ v3 ≤ oNC od ∧ (x3 = 0 ∨ x3 = 1) ∧ d_I D 2303 (s_ G 23) = oNC od := by
        (first | omega | assumption | (subst_vars; first | omega | assumption) | done)
      have j1_hP : PtB D G od v3 := by
        rw [e_v3]; exact hP
      have j1_hS : (x3 = 0 → 4096 < opN od) ∧ (x3 ≠ 0 → (d_I D 2304 (s_ G 23)) = opF od v3 0 ∧ (d_I D 2304 (s_ G 23)) ≤ 4096 ∧ StB D G od v3 0) := by
        refine ⟨hS.1, fun z => ?_⟩
        have s := hS.2 z
        rw [x5e] at s
        rw [e_v3, opF_sc h0.2.2.1 (by omega)]
        exact ⟨s.1, s.2.1, s.2.2.c⟩
      have j1_hm : oNC od - v3 < M15 := by
        (first | omega | assumption | (subst_vars; first | omega | assumption) | done)
      exact hk15 hT j1_hod j1_hG j1_hX j1_hD j1_hC j1_hA j1_h0 j1_hP j1_hS j1_hm
    · skip
      refine w_ite (fun hc2 => ?_) (fun hc2 => ?_)
      · skip
        refine w_gd (by (first | omega | assumption | (subst_vars; first | omega | assumption) | done)) ?_
        refine w_let fun v4 e_v4 => ?_
        have j2_hod : OdOk od := by
          (first | omega | assumption | (subst_vars; first | omega | assumption) | done)
        have j2_hG : PoG G c := by
          (first | omega | assumption | (subst_vars; first | omega | assumption) | done)
        have j2_hX : GoX c0.1 G0 G ∧ c0.1 ≤ c.1 := by
          (first | omega | assumption | (subst_vars; first | omega | assumption) | done)
        have j2_hD : PoD D G := by
          (first | assumption)
        have j2_hC : CoA D G od := by
          (first | assumption)
        have j2_hA : ArT D G od := by
          (first | assumption)
        have j2_h0 : a1 = s_ G 21 ∧ x2 = oNC od ∧ 0 ≤ v4 ∧ v4 ≤ oNC od ∧ (x3 = 0 ∨ x3 = 1) ∧ d_I D 2303 (s_ G 23) = oNC od := by
          (first | omega | assumption | (subst_vars; first | omega | assumption) | done)
        have j2_hP : PtB D G od v4 := by
          rw [e_v4]; exact hP
        have j2_hS : (x3 = 0 → 4096 < opN od) ∧ (x3 ≠ 0 → (d_I D 2304 (s_ G 23)) = opF od v4 0 ∧ (d_I D 2304 (s_ G 23)) ≤ 4096 ∧ StB D G od v4 0) := by
          exact ⟨hS.1, fun z => absurd (by assumption) z⟩
        have j2_hm : oNC od - v4 < M15 := by
          (first | omega | assumption | (subst_vars; first | omega | assumption) | done)
        exact hk15 hT j2_hod j2_hG j2_hX j2_hD j2_hC j2_hA j2_h0 j2_hP j2_hS j2_hm
      · skip
        refine w_lQ (by (first | omega | assumption | (subst_vars; first | omega | assumption) | done)) fun w5 e_w5 => ?_
        have q5 : w5 = some co := by rw [e_w5, h0.1]; exact c1
        refine w_on (by (first | (rw [q1]; exact Option.some_ne_none _) | (rw [q5]; exact Option.some_ne_none _) | (rw [m1]; exact Option.some_ne_none _))) fun b6 e_b6 => ?_
        have E6 : b6 = co := by rw [q5] at e_b6; exact (Option.some.inj e_b6).symm
        have c1_hG : PoG G c := by
          (first | omega | assumption | (subst_vars; first | omega | assumption) | done)
        have c1_hD : PoD D G := by
          (first | assumption)
        have c1_h0 : 0 ≤ x4 ∧ x4 < 16 ∧ 0 ≤ x5 ∧ x5 ≤ 32 := by
          (first | omega | assumption | (subst_vars; first | omega | assumption) | done)
        have c1_hr : z_Q G 2100 (s_ G 21) x4 = some b6 := by
          rw [E6]; exact c1
        refine w_b2 (Wp.fr (s_X23_stream hN hT c1_hG c1_hD c1_h0 c1_hr) fr_X23_stream) fun w9 p8 h_w9 => ?_
        obtain ⟨⟨T_p8, h_w9⟩, F_p8⟩ := h_w9
        try dsimp only at T_p8 h_w9 F_p8
        obtain ⟨⟨st, pt, m1, m2, m3⟩, m4, m5, m6, m7, m8⟩ := h_w9
        have sG := m6.1
        refine w_on (by (first | (rw [q1]; exact Option.some_ne_none _) | (rw [q5]; exact Option.some_ne_none _) | (rw [m1]; exact Option.some_ne_none _))) fun b10 e_b10 => ?_
        have E10 : b10 = st := by rw [m1] at e_b10; exact (Option.some.inj e_b10).symm
        obtain ⟨p2, co2, u1, u2, u3, u4⟩ := m4.2.2.2.2.1 x4 x5 0 st h0.2.2.1 h0.2.2.2.2.1 (by omega) (by rw [sG]; exact m2)
        have P' : PtB p8.1 p8.2.1 od (x4 + 1) := (PtB.o hod (by omega) hP hG m6).fr F_p8 rfl
        obtain ⟨p3, b1, b3⟩ := P' x4 h0.2.2.1 (by omega)
        have e3 : p3 = p2 := by rw [u1] at b1; exact (Option.some.inj b1).symm
        have lv := b3.2 x5 h0.2.2.2.2.1 (by omega)
        have la : d_I D 7405 (z_P p8.2.1 7602 b10) * d_I D 7406 (z_P p8.2.1 7602 b10) = olP od x4 x5 := by
         rw [E10, u3, ← e3, ← F_p8.i (i := 7405) rfl, ← F_p8.i (i := 7406) rfl, lv.2.2.2.1, lv.2.2.2.2]; rfl
        have lr := olP_r hod h0.2.2.1 h0.2.2.2.1 h0.2.2.2.2.1 (show x5 ≤ oNL od x4 by omega)
        have fb := opF_b hod h0.2.2.1 h0.2.2.2.1 h0.2.2.2.2.1 (show x5 ≤ oNL od x4 by omega)
        have z3 : x3 ≠ 0 := by assumption
        have S3 := hS.2 z3
        have e23 : d_I D 2304 (s_ p8.2.1 23) = opF od x4 x5 := by rw [sG]; exact S3.1
        refine w_let fun v12 e_v12 => ?_
        refine w_let fun d11 e_d11 => ?_
        have T_d11 : Ty d11 := tyI_7603 e_d11 T_p8 (by (first | omega | assumption | (subst_vars; first | omega | assumption) | done))
        refine w_bb ?_
        refine w_un (q_X74_precincts.eq_1 ..) ?_
        have rq1 : d_I d11 7405 (z_P p8.2.1 7602 b10) = d_I D 7405 (z_P p8.2.1 7602 b10) := Eq.trans (rdI_I e_d11 rfl) (congrFun (F_p8.i (i := 7405) rfl) (z_P p8.2.1 7602 b10))
        have t2 := ty_7405 hT (z_P p8.2.1 7602 b10)
        have rq2 : d_I d11 7406 (z_P p8.2.1 7602 b10) = d_I D 7406 (z_P p8.2.1 7602 b10) := Eq.trans (rdI_I e_d11 rfl) (congrFun (F_p8.i (i := 7406) rfl) (z_P p8.2.1 7602 b10))
        have t3 := ty_7406 hT (z_P p8.2.1 7602 b10)
        refine w_gd (by (try simp only [rq1, rq2]); (first | omega | assumption | (subst_vars; first | omega | assumption) | done)) ?_
        refine w_some fun v14 e_v14 => ?_
        refine w_gd (by (first | omega | assumption | (subst_vars; first | omega | assumption) | done)) ?_
        generalize e_ts0 : (if ((4096 : Int) - (d_I D 2304 (s_ p8.2.1 23))) < v14 then (0 : Int) else (1 : Int)) = ts0
        refine w_un (q_X23_lay_117.eq_1 ..) ?_
        refine w_bb ?_
        refine w_un (q_X74_precincts.eq_1 ..) ?_
        refine w_gd (by (try simp only [rq1, rq2]); (first | omega | assumption | (subst_vars; first | omega | assumption) | done)) ?_
        refine w_some fun v2 e_v2 => ?_
        have E14 : v14 = olP od x4 x5 := by rw [e_v14, show d_I d11 7405 = d_I D 7405 by rw [e_d11]; exact F_p8.i (i := 7405) rfl, show d_I d11 7406 = d_I D 7406 by rw [e_d11]; exact F_p8.i (i := 7406) rfl]; exact la
        have E2' : v2 = olP od x4 x5 := by rw [← E14, e_v2, e_v14]
        have Pd : PtB d11 p8.2.1 od (x4 + 1) := P'.fr (Fr.uI e_d11) rfl
        have rq3 : d_I d11 2304 (s_ p8.2.1 23) = d_I D 2304 (s_ p8.2.1 23) := Eq.trans (rdI_I e_d11 rfl) (congrFun (F_p8.i (i := 2304) rfl) (s_ p8.2.1 23))
        refine w_gd (by (try simp only [rq3]); (first | omega | assumption | (subst_vars; first | omega | assumption) | done)) ?_
        refine w_let fun v4_2 e_v4_2 => ?_
        try simp only [rq3] at e_v4_2
        refine w_let fun d3 e_d3 => ?_
        have T_d3 : Ty d3 := tyI_no e_d3 T_d11 rfl
        refine w_gd (by (first | omega | assumption | (subst_vars; first | omega | assumption) | done)) ?_
        refine w_let fun v5 e_v5 => ?_
        have rq4 : d_I d3 2304 (s_ p8.2.1 23) = v4_2 := rdI_s e_d3
        have j3_hod : OdOk od := by
          (first | omega | assumption | (subst_vars; first | omega | assumption) | done)
        have j3_hG : PoG p8.2.1 p8.2.2 := by
          (first | omega | assumption | (subst_vars; first | omega | assumption) | done)
        have j3_hX : GoX c0.1 G0 p8.2.1 ∧ c0.1 ≤ p8.2.2.1 := by
          exact ⟨hX.1.tr m6 hX.2, by omega⟩
        have j3_hD : PoD d3 p8.2.1 := by
          (first | assumption | exact (PoD.fr (by assumption) (Fr.uI e_d3) rfl) | exact (PoD.fr (PoD.fr (by assumption) (Fr.uI e_d11) rfl) (Fr.uI e_d3) rfl) | exact (PoD.fr (PoD.fr (PoD.fr (by assumption) F_p8 rfl) (Fr.uI e_d11) rfl) (Fr.uI e_d3) rfl))
        have j3_hC : CoA d3 p8.2.1 od := by
          exact (((hC.o m6).fr F_p8 rfl).fr (Fr.uI e_d11) rfl).fr (Fr.uI e_d3) rfl
        have j3_hA : ArT d3 p8.2.1 od := by
          exact (((hA.o hG m6).fr F_p8 rfl).fr (Fr.uI e_d11) rfl).fr (Fr.uI e_d3) rfl
        have j3_h0 : a1 = s_ p8.2.1 21 ∧ x2 = oNC od ∧ 0 ≤ x4 ∧ x4 < oNC od ∧ 0 ≤ v5 ∧ v5 ≤ oNL od x4 + 1 ∧ (ts0 = 0 ∨ ts0 = 1) ∧ d_I d3 2303 (s_ p8.2.1 23) = oNC od := by
          have f23 : d_I d3 2303 (s_ p8.2.1 23) = oNC od := by
           rw [e_d3, rI_I, if_neg (by omega), e_d11, rI_I, if_neg (by omega), F_p8.i (i := 2303) rfl, sG]; exact h0.2.2.2.2.2.2.2
          refine ⟨by rw [sG]; exact h0.1, h0.2.1, h0.2.2.1, h0.2.2.2.1, by omega, by omega, ?_, f23⟩
          rw [← e_ts0]; split; exact .inl rfl; exact .inr rfl
        have j3_hP : PtB d3 p8.2.1 od (x4 + 1) := by
          exact Pd.fr (Fr.uI e_d3) rfl
        have j3_hS : (ts0 = 0 → 4096 < opN od) ∧ (ts0 ≠ 0 → (d_I d3 2304 (s_ p8.2.1 23)) = opF od x4 v5 ∧ (d_I d3 2304 (s_ p8.2.1 23)) ≤ 4096 ∧ StB d3 p8.2.1 od x4 v5) := by
          try simp only [rq4]
          rw [e23] at e_ts0 e_v4_2
          refine ⟨fun z => ?_, fun z => ?_⟩
          · rw [z] at e_ts0
            by_cases y : 4096 - opF od x4 x5 < v14
            · omega
            · rw [if_neg y] at e_ts0; omega
          · by_cases y : 4096 - opF od x4 x5 < v14
            · rw [if_pos y] at e_ts0; omega
            · have e5 : v5 = x5 + 1 := e_v5
              rw [e5, opF_sr h0.2.2.2.2.1]
              exact ⟨by omega, by omega, (StB.s hod m4 ((S3.2.2.o m6).fr F_p8 rfl) e_d11 (by rw [E10, sG]; exact m2) (by rw [e_v12]; exact e23) h0.2.2.1 h0.2.2.2.1 h0.2.2.2.2.1 (by omega)).fr (Fr.uI e_d3) rfl⟩
        have j3_hM : oNC od - (x4 + 1) < M15 := by
          (first | omega | assumption | (subst_vars; first | omega | assumption) | done)
        have j3_hm : oNL od x4 + 1 - v5 < n := by
          (first | omega | assumption | (subst_vars; first | omega | assumption) | done)
        exact ih T_d3 j3_hod j3_hG j3_hX j3_hD j3_hC j3_hA j3_h0 j3_hP j3_hS j3_hM j3_hm
set_option maxHeartbeats 8000000 in
theorem s_X23_lay_15 {N : Nat} {od : Od} {c0 : Ct} {G0 : Gt} (hN : 1099511627776 ≤ N) (n : Nat) : ∀ {r1 : Nat} {x2 : Int} {x3 : Int} {x4 : Int} {G : Gt} {D : Dt} {c : Ct}, Ty D → (OdOk od) → (PoG G c) → (GoX c0.1 G0 G ∧ c0.1 ≤ c.1) → (PoD D G) → (CoA D G od) → (ArT D G od) → (r1 = s_ G 21 ∧ x2 = oNC od ∧ 0 ≤ x4 ∧ x4 ≤ oNC od ∧ (x3 = 0 ∨ x3 = 1) ∧ d_I D 2303 (s_ G 23) = oNC od) → (PtB D G od x4) → ((x3 = 0 → 4096 < opN od) ∧ (x3 ≠ 0 → (d_I D 2304 (s_ G 23)) = opF od x4 0 ∧ (d_I D 2304 (s_ G 23)) ≤ 4096 ∧ StB D G od x4 0)) → oNC od - x4 < n → Wp (q_X23_lay_15 N n r1 x2 x3 x4 G D c) (fun o => (fun r D' G' c' => Ty D' ∧ (((r = 0 → 4096 < opN od) ∧ (r ≠ 0 → opN od ≤ 4096 ∧ LaC D' G' od ∧ ∀ i, 0 ≤ i → i < 4096 → d_A D' 2305 (s_ G' 23) i = 0)) ∧ PoG G' c' ∧ (GoX c0.1 G0 G' ∧ c0.1 ≤ c'.1) ∧ PoD D' G' ∧ CoA D' G' od ∧ ArT D' G' od)) o.1 o.2.1 o.2.2.1 o.2.2.2) := by
  induction n with
  | zero =>
    intro r1 x2 x3 x4 G D c hT hod hG hX hD hC hA h0 hP hS hm; exfalso; omega
  | succ n ih =>
    intro r1 x2 x3 x4 G D c hT hod hG hX hD hC hA h0 hP hS hm
    show Wp (q_X23_lay_15 N (n + 1) r1 x2 x3 x4 G D c) _
    rw [q_X23_lay_15]
    have nc := hod.2.2.1
    refine w_ite (fun hc1 => ?_) (fun hc1 => ?_)
    · skip
      have x4e : x4 = oNC od := by omega
      have j1_hod : OdOk od := by
        (first | omega | assumption | (subst_vars; first | omega | assumption) | done)
      have j1_hG : PoG G c := by
        (first | omega | assumption | (subst_vars; first | omega | assumption) | done)
      have j1_hX : GoX c0.1 G0 G ∧ c0.1 ≤ c.1 := by
        exact hX
      have j1_hD : PoD D G := by
        (first | assumption)
      have j1_hC : CoA D G od := by
        (first | assumption)
      have j1_hA : ArT D G od := by
        (first | assumption)
      have j1_h1 : 0 ≤ (0 : Int) ∧ (0 : Int) ≤ 4096 ∧ (x3 = 0 ∨ x3 = 1) := by
        (first | omega | assumption | (subst_vars; first | omega | assumption) | done)
      have j1_hS : (x3 = 0 → 4096 < opN od) ∧ (x3 ≠ 0 → opN od ≤ 4096 ∧ LaC D G od) := by
        refine ⟨hS.1, fun z => ?_⟩
        have s := hS.2 z
        rw [x4e, opF_cn] at s
        rw [x4e] at hP
        exact ⟨by omega, s.1, h0.2.2.2.2.2, hP, s.2.2⟩
      have j1_hZ : ∀ i, 0 ≤ i → i < (0 : Int) → (d_A D 2305 (s_ G 23) (i)) = 0 := by
        intro i i0 i1; omega
      have j1_hm : 4096 - (0 : Int) < N := by
        (first | omega | assumption | (subst_vars; first | omega | assumption) | done)
      refine Wp.mo (s_X23_lay_150 hN (od := od) (c0 := c0) (G0 := G0) _ hT j1_hod j1_hG j1_hX j1_hD j1_hC j1_hA j1_h1 j1_hS j1_hZ j1_hm) ?_
      intro o ho
      exact ho
    · skip
      have dd := (hod.2.2.2.1 x4 h0.2.2.1 (by omega)).2.2.2.2
      obtain ⟨co, c1, c2⟩ := hC x4 h0.2.2.1 (by omega)
      refine w_lQ (by (first | omega | assumption | (subst_vars; first | omega | assumption) | done)) fun w2 e_w2 => ?_
      have q2 : w2 = some co := by rw [e_w2, h0.1]; exact c1
      refine w_on (by (first | (rw [q2]; exact Option.some_ne_none _) | (rw [q8]; exact Option.some_ne_none _) | (rw [q9]; exact Option.some_ne_none _))) fun b3 e_b3 => ?_
      have E3 : b3 = co := by rw [q2] at e_b3; exact (Option.some.inj e_b3).symm
      have c1_hG : PoG G c := by
        (first | omega | assumption | (subst_vars; first | omega | assumption) | done)
      have c1_hD : PoD D G := by
        (first | assumption)
      have c1_h0 : 0 ≤ x4 ∧ x4 < 16 ∧ 0 ≤ (0 : Int) ∧ (0 : Int) ≤ 32 := by
        (first | omega | assumption | (subst_vars; first | omega | assumption) | done)
      have c1_hr : z_Q G 2100 (s_ G 21) x4 = some b3 := by
        rw [E3]; exact c1
      refine w_b2 (Wp.fr (s_X23_stream hN hT c1_hG c1_hD c1_h0 c1_hr) fr_X23_stream) fun w6 p5 h_w6 => ?_
      obtain ⟨⟨T_p5, h_w6⟩, F_p5⟩ := h_w6
      try dsimp only at T_p5 h_w6 F_p5
      obtain ⟨⟨st, pt, m1, m2, m3⟩, m4, m5, m6, m7, m8⟩ := h_w6
      have sG := m6.1
      refine w_lQ (by (first | omega | assumption | (subst_vars; first | omega | assumption) | done)) fun w8 e_w8 => ?_
      have q8 : w8 = some pt := by rw [e_w8, sG]; exact m3
      refine w_lQ (by (first | omega | assumption | (subst_vars; first | omega | assumption) | done)) fun w9 e_w9 => ?_
      have q9 : w9 = some co := by rw [e_w9, h0.1]; exact m6.2.2.2.2.2 _ _ _ _ c1
      refine w_on (by (first | (rw [q2]; exact Option.some_ne_none _) | (rw [q8]; exact Option.some_ne_none _) | (rw [q9]; exact Option.some_ne_none _))) fun b10 e_b10 => ?_
      have E10 : b10 = pt := by rw [q8] at e_b10; exact (Option.some.inj e_b10).symm
      refine w_on (by (first | (rw [q2]; exact Option.some_ne_none _) | (rw [q8]; exact Option.some_ne_none _) | (rw [q9]; exact Option.some_ne_none _))) fun b11 e_b11 => ?_
      have E11 : b11 = co := by rw [q9] at e_b11; exact (Option.some.inj e_b11).symm
      have P1 := m4.1 x4 pt (by rw [sG]; exact m3)
      have c2_hod : OdOk od := by
        (first | omega | assumption | (subst_vars; first | omega | assumption) | done)
      have c2_h1 : 0 ≤ x4 ∧ x4 < oNC od := by
        (first | omega | assumption | (subst_vars; first | omega | assumption) | done)
      have c2_hA : PtA p5.2.1 b10 := by
        rw [E10]; exact P1.1
      have c2_hD : PtD p5.1 b10 := by
        rw [E10]; exact m5.1 x4 pt (by rw [sG]; exact m3)
      have c2_hc : CoD p5.1 od x4 b11 := by
        rw [E11]; exact c2.fr F_p5 rfl
      have c2_ha : d_I p5.1 2400 (z_P p5.2.1 2300 (s_ p5.2.1 23)) = oX0 od ∧ d_I p5.1 2401 (z_P p5.2.1 2300 (s_ p5.2.1 23)) = oY0 od ∧ d_I p5.1 2402 (z_P p5.2.1 2300 (s_ p5.2.1 23)) = oX1 od ∧ d_I p5.1 2403 (z_P p5.2.1 2300 (s_ p5.2.1 23)) = oY1 od := by
        exact (hA.o hG m6).fr F_p5 rfl
      refine w_b (Wp.fr (s_X73_lay (od := od) (cc := x4) hN T_p5 c2_hod c2_h1 c2_hA c2_hD c2_hc c2_ha) fr_X73_lay) fun d13 h_d13 => ?_
      obtain ⟨⟨T_d13, h_d13⟩, F_d13⟩ := h_d13
      rw [E10] at h_d13
      have P' : PtB p5.1 p5.2.1 od x4 := (PtB.o hod (by omega) hP hG m6).fr F_p5 rfl
      have rq1 : d_I d13 2304 (s_ p5.2.1 23) = d_I D 2304 (s_ p5.2.1 23) := Eq.trans (congrFun (F_d13.i (i := 2304) rfl) (s_ p5.2.1 23)) (congrFun (F_p5.i (i := 2304) rfl) (s_ p5.2.1 23))
      have j2_hod : OdOk od := by
        (first | omega | assumption | (subst_vars; first | omega | assumption) | done)
      have j2_hG : PoG p5.2.1 p5.2.2 := by
        (first | omega | assumption | (subst_vars; first | omega | assumption) | done)
      have j2_hX : GoX c0.1 G0 p5.2.1 ∧ c0.1 ≤ p5.2.2.1 := by
        exact ⟨hX.1.tr m6 hX.2, by omega⟩
      have j2_hD : PoD d13 p5.2.1 := by
        (first | assumption | exact (PoD.fr (by assumption) F_d13 rfl) | exact (PoD.fr (PoD.fr (by assumption) F_p5 rfl) F_d13 rfl))
      have j2_hC : CoA d13 p5.2.1 od := by
        exact ((hC.o m6).fr F_p5 rfl).fr F_d13 rfl
      have j2_hA : ArT d13 p5.2.1 od := by
        have a : ArT p5.1 p5.2.1 od := (hA.o hG m6).fr F_p5 rfl
        have o := (h_d13.2.1 (z_P p5.2.1 2300 (s_ p5.2.1 23)) (by omega)).2
        exact ⟨o.1.trans a.1, o.2.1.trans a.2.1, o.2.2.1.trans a.2.2.1, o.2.2.2.trans a.2.2.2⟩
      have j2_h0 : r1 = s_ p5.2.1 21 ∧ x2 = oNC od ∧ 0 ≤ x4 ∧ x4 < oNC od ∧ 0 ≤ (0 : Int) ∧ (0 : Int) ≤ oNL od x4 + 1 ∧ (x3 = 0 ∨ x3 = 1) ∧ d_I d13 2303 (s_ p5.2.1 23) = oNC od := by
        refine ⟨by rw [sG]; exact h0.1, h0.2.1, h0.2.2.1, by omega, by omega, by omega, h0.2.2.2.2.1, ?_⟩
        rw [F_d13.i (i := 2303) rfl, F_p5.i (i := 2303) rfl, sG]; exact h0.2.2.2.2.2
      have j2_hP : PtB d13 p5.2.1 od (x4 + 1) := by
        exact PtB.s hod m4 (by omega) P' (by rw [sG]; exact m3) h_d13.1 h_d13.2.1 h_d13.2.2
      have j2_hS : (x3 = 0 → 4096 < opN od) ∧ (x3 ≠ 0 → (d_I d13 2304 (s_ p5.2.1 23)) = opF od x4 (0 : Int) ∧ (d_I d13 2304 (s_ p5.2.1 23)) ≤ 4096 ∧ StB d13 p5.2.1 od x4 (0 : Int)) := by
        try simp only [rq1]
        refine ⟨hS.1, fun z => ?_⟩
        have s := hS.2 z
        rw [sG]
        exact ⟨s.1, s.2.1, ((s.2.2.o m6).fr F_p5 rfl).fr F_d13 rfl⟩
      have j2_hM : oNC od - (x4 + 1) < n := by
        (first | omega | assumption | (subst_vars; first | omega | assumption) | done)
      have j2_hm : oNL od x4 + 1 - (0 : Int) < N := by
        (first | omega | assumption | (subst_vars; first | omega | assumption) | done)
      refine Wp.mo (s_X23_lay_54 hN (od := od) (c0 := c0) (G0 := G0) (M15 := n) (fun T i0 i1 i2 i3 i4 i5 i6 i7 i8 hm => ih T i0 i1 i2 i3 i4 i5 i6 i7 i8 hm) _ T_d13 j2_hod j2_hG j2_hX j2_hD j2_hC j2_hA j2_h0 j2_hP j2_hS j2_hM j2_hm) ?_
      intro o ho
      exact ho
set_option maxHeartbeats 8000000 in
theorem s_X23_lay {N : Nat} {r1 : Nat} {x2 : Int} {G : Gt} {D : Dt} {c : Ct} (hN : 1099511627776 ≤ N) {od : Od} (hT : Ty D) (hod : OdOk od) (hG : PoG G c) (hD : PoD D G) (hC : CoA D G od) (hA : ArT D G od) (h0 : r1 = s_ G 21 ∧ x2 = oNC od) : Wp (q_X23_lay N r1 x2 G D c) (fun o => (fun r D' G' c' => Ty D' ∧ (((r = 0 → 4096 < opN od) ∧ (r ≠ 0 → opN od ≤ 4096 ∧ LaC D' G' od ∧ ∀ i, 0 ≤ i → i < 4096 → d_A D' 2305 (s_ G' 23) i = 0)) ∧ PoG G' c' ∧ (GoX c.1 G G' ∧ c.1 ≤ c'.1) ∧ PoD D' G' ∧ CoA D' G' od ∧ ArT D' G' od)) o.1 o.2.1 o.2.2.1 o.2.2.2) := by
  refine w_un (q_X23_lay.eq_1 ..) ?_
  have nc := hod.2.2.1
  refine w_let fun d1 e_d1 => ?_
  have T_d1 : Ty d1 := tyI_2303 e_d1 hT (by (first | omega | assumption | (subst_vars; first | omega | assumption) | done))
  refine w_let fun d2 e_d2 => ?_
  have T_d2 : Ty d2 := tyI_no e_d2 T_d1 rfl
  have rq1 : d_I d2 2304 (s_ G 23) = (0 : Int) := rdI_s e_d2
  have j1_hod : OdOk od := by
    (first | omega | assumption | (subst_vars; first | omega | assumption) | done)
  have j1_hG : PoG G c := by
    (first | omega | assumption | (subst_vars; first | omega | assumption) | done)
  have j1_hX : GoX c.1 G G ∧ c.1 ≤ c.1 := by
    exact ⟨GoX.rf, Nat.le_refl _⟩
  have j1_hD : PoD d2 G := by
    (first | assumption | exact (PoD.fr (by assumption) (Fr.uI e_d2) rfl) | exact (PoD.fr (PoD.fr (by assumption) (Fr.uI e_d1) rfl) (Fr.uI e_d2) rfl))
  have j1_hC : CoA d2 G od := by
    (first | assumption | exact (CoA.fr (by assumption) (Fr.uI e_d2) rfl) | exact (CoA.fr (CoA.fr (by assumption) (Fr.uI e_d1) rfl) (Fr.uI e_d2) rfl))
  have j1_hA : ArT d2 G od := by
    (first | assumption | exact (ArT.fr (by assumption) (Fr.uI e_d2) rfl) | exact (ArT.fr (ArT.fr (by assumption) (Fr.uI e_d1) rfl) (Fr.uI e_d2) rfl))
  have j1_h0 : r1 = s_ G 21 ∧ x2 = oNC od ∧ 0 ≤ (0 : Int) ∧ (0 : Int) ≤ oNC od ∧ ((1 : Int) = 0 ∨ (1 : Int) = 1) ∧ d_I d2 2303 (s_ G 23) = oNC od := by
    refine ⟨h0.1, h0.2, by omega, by omega, by omega, ?_⟩
    rw [e_d2, rI_I, if_neg (by omega), e_d1, rI_I, if_pos ⟨rfl, rfl⟩]; exact h0.2
  have j1_hP : PtB d2 G od (0 : Int) := by
    intro k k0 k1; omega
  have j1_hS : ((1 : Int) = 0 → 4096 < opN od) ∧ ((1 : Int) ≠ 0 → (d_I d2 2304 (s_ G 23)) = opF od (0 : Int) 0 ∧ (d_I d2 2304 (s_ G 23)) ≤ 4096 ∧ StB d2 G od (0 : Int) 0) := by
    try simp only [rq1]
    refine ⟨fun z => absurd z (by decide), fun _ => ?_⟩
    have e : opF od 0 0 = 0 := rfl
    rw [e]
    exact ⟨rfl, by omega, fun k r k0 r0 r1 l => by omega⟩
  have j1_hm : oNC od - (0 : Int) < N := by
    (first | omega | assumption | (subst_vars; first | omega | assumption) | done)
  refine Wp.mo (s_X23_lay_15 hN (od := od) (c0 := c) (G0 := G) _ T_d2 j1_hod j1_hG j1_hX j1_hD j1_hC j1_hA j1_h0 j1_hP j1_hS j1_hm) ?_
  intro o ho
  exact ho
