/-! specifications, printed by gen/mks.py -/
set_option maxRecDepth 100000
/-- a part's objects, told apart -/
theorem PtA.lv {G : Gt} {pt : Nat} (h : PtA G pt) {r : Int} (r0 : 0 ≤ r) (r1 : r < 33) : z_E G 7301 pt r = pt + 3 + loN r.toNat ∧ z_P G 7401 (z_E G 7301 pt r) = pt + 4 + loN r.toNat ∧ z_N G 7402 (z_E G 7301 pt r) = nbN r.toNat ∧ ∀ j : Int, 0 ≤ j → j < (nbN r.toNat : Int) → (z_P G 7501 (z_E G 7402 (z_E G 7301 pt r) j) : Int) = pt + 7 + loN r.toNat + 2 * j := by
  have g := h.2 r.toNat (by omega)
  rw [show ((r.toNat : Nat) : Int) = r by omega] at g
  rw [g.1]
  refine ⟨rfl, by rw [g.2.1]; omega, g.2.2.1, fun j j0 j1 => ?_⟩
  have k := g.2.2.2 j.toNat (by omega)
  rw [show ((j.toNat : Nat) : Int) = j by omega] at k
  rw [k.1, k.2]; omega
theorem PtD.lv {D : Dt} {G : Gt} {pt : Nat} (h : PtD D pt) (g : PtA G pt) {r : Int} (r0 : 0 ≤ r) (r1 : r < 33) : d_I D 7400 (z_E G 7301 pt r) = r := by
  rw [(g.lv r0 r1).1, (h r.toNat (by omega)).1]; omega
/-- a part laid -/
def PtC (D : Dt) (G : Gt) (od : Od) (c : Int) (pt : Nat) : Prop := d_I D 7302 pt = oNL od c ∧ ∀ r, 0 ≤ r → r ≤ oNL od c → LvC D G od c r (z_E G 7301 pt r)
/-- what lies outside a part stays -/
def PtO (D D' : Dt) (pt : Nat) : Prop := ∀ bb : Nat, (bb < pt ∨ pt + 296 ≤ bb) → LwSm D D' bb ∧ ArE D D' bb
theorem PtO.rf {D : Dt} {pt : Nat} : PtO D D pt := fun _ _ => ⟨LwSm.rf, ArE.rf⟩
theorem PtO.tr {D E F : Dt} {pt : Nat} (h : PtO D E pt) (k : PtO E F pt) : PtO D F pt := fun bb hb => ⟨(h bb hb).1.tr (k bb hb).1, (h bb hb).2.tr (k bb hb).2⟩
set_option maxHeartbeats 8000000 in
theorem s_X73_lay_30 {N : Nat} {od : Od} {cc : Int} {Dz : Dt} (hN : 1099511627776 ≤ N) (n : Nat) : ∀ {a0 : Nat} {a2 : Nat} {x3 : Int} {G : Gt} {D : Dt}, Ty D → (OdOk od) → (0 ≤ cc ∧ cc < oNC od) → (PtA G a0) → (CoD D od cc a2) → (0 ≤ x3 ∧ x3 ≤ oNL od cc + 1 ∧ d_I D 7302 a0 = oNL od cc) → (d_I D 2400 (z_P G 7300 a0) = otU (oX0 od) (oDX od cc) ∧ d_I D 2401 (z_P G 7300 a0) = otU (oY0 od) (oDY od cc) ∧ d_I D 2402 (z_P G 7300 a0) = otU (oX1 od) (oDX od cc) ∧ d_I D 2403 (z_P G 7300 a0) = otU (oY1 od) (oDY od cc)) → (∀ r, 0 ≤ r → r < x3 → LvC D G od cc r (z_E G 7301 a0 r)) → (PtO Dz D a0) → (PtD D a0) → oNL od cc + 1 - x3 < n → Wp (q_X73_lay_30 N n a0 a2 x3 G D) (fun D' => Ty D' ∧ ((∀ r, 0 ≤ r → r ≤ oNL od cc → LvC D' G od cc r (z_E G 7301 a0 r)) ∧ PtO Dz D' a0 ∧ d_I D' 7302 a0 = oNL od cc)) := by
  induction n with
  | zero =>
    intro a0 a2 x3 G D hT hod h1 hA hc h0 ha hL hO hD hm; exfalso; omega
  | succ n ih =>
    intro a0 a2 x3 G D hT hod h1 hA hc h0 ha hL hO hD hm
    show Wp (q_X73_lay_30 N (n + 1) a0 a2 x3 G D) _
    rw [q_X73_lay_30]
    have nl := (hod.2.2.2.1 cc h1.1 h1.2).2.2.2.2
    have z3 := hA.1
    have t1 := ty_7302 hT a0
    refine w_ite (fun hc1 => ?_) (fun hc1 => ?_)
    · skip
      refine w_some ?_
      refine ⟨hT, ?_⟩
      exact ⟨fun r r0 r1 => hL r r0 (by omega), hO, h0.2.2⟩
    · skip
      refine w_lE (by (first | omega | assumption | (subst_vars; first | omega | assumption) | done)) fun w2 e_w2 => ?_
      have l2 := hA.lv h0.1 (show x3 < 33 by omega)
      have nb := nbN_r x3.toNat
      have lu := loN_u (show x3.toNat < 33 by omega)
      rw [← e_w2] at l2
      have c1_hod : OdOk od := by
        (first | omega | assumption | (subst_vars; first | omega | assumption) | done)
      have c1_h0 : 0 ≤ cc ∧ cc < oNC od ∧ 0 ≤ x3 ∧ x3 ≤ oNL od cc := by
        (first | omega | assumption | (subst_vars; first | omega | assumption) | done)
      have c1_hl : d_I D 7400 w2 = x3 ∧ z_N G 7402 w2 ≤ 3 := by
        exact ⟨by rw [e_w2]; exact hD.lv hA h0.1 (by omega), by rw [l2.2.2.1]; omega⟩
      have c1_hc : CoD D od cc a2 := by
        (first | assumption)
      have c1_ha : d_I D 2400 (z_P G 7300 a0) = otU (oX0 od) (oDX od cc) ∧ d_I D 2401 (z_P G 7300 a0) = otU (oY0 od) (oDY od cc) ∧ d_I D 2402 (z_P G 7300 a0) = otU (oX1 od) (oDX od cc) ∧ d_I D 2403 (z_P G 7300 a0) = otU (oY1 od) (oDY od cc) := by
        (first | omega | assumption | (subst_vars; first | omega | assumption) | done)
      have c1_hd1 : ∀ j, 0 ≤ j → j < ((z_N G 7402 w2 : Nat) : Int) → z_P G 7401 w2 ≠ z_P G 7501 (z_E G 7402 w2 j) := by
        intro j j0 j1 z
        have g := l2.2.2.2 j j0 (by rw [← l2.2.2.1]; exact j1)
        have := l2.2.1
        omega
      refine w_b (Wp.fr (s_X74_lay (r := x3) (c := cc) hN hT c1_hod c1_h0 c1_hl c1_hc c1_ha c1_hd1) fr_X74_lay) fun d5 h_d5 => ?_
      obtain ⟨⟨T_d5, h_d5⟩, F_d5⟩ := h_d5
      have f7302 : d_I d5 7302 a0 = d_I D 7302 a0 := congrFun (F_d5.i (i := 7302) rfl) a0
      have out : ∀ bb : Nat, (bb < a0 + 3 + loN x3.toNat ∨ a0 + 3 + loN x3.toNat + 3 + 2 * nbN x3.toNat ≤ bb) → LwSm D d5 bb ∧ ArE D d5 bb := fun bb hb => by
       refine ⟨h_d5.2.1 bb (by omega), h_d5.2.2 bb (by omega) (fun j j0 j1 z => ?_)⟩
       have g := l2.2.2.2 j j0 (by rw [← l2.2.2.1]; exact j1)
       rw [l2.2.2.1] at j1
       rw [z] at hb
       omega
      refine w_gd (by (first | omega | assumption | (subst_vars; first | omega | assumption) | done)) ?_
      refine w_let fun v6 e_v6 => ?_
      have j1_hod : OdOk od := by
        (first | omega | assumption | (subst_vars; first | omega | assumption) | done)
      have j1_h1 : 0 ≤ cc ∧ cc < oNC od := by
        (first | omega | assumption | (subst_vars; first | omega | assumption) | done)
      have j1_hA : PtA G a0 := by
        (first | omega | assumption | (subst_vars; first | omega | assumption) | done)
      have j1_hc : CoD d5 od cc a2 := by
        (first | assumption | exact (CoD.fr (by assumption) F_d5 rfl))
      have j1_h0 : 0 ≤ v6 ∧ v6 ≤ oNL od cc + 1 ∧ d_I d5 7302 a0 = oNL od cc := by
        rw [f7302]; omega
      have j1_ha : d_I d5 2400 (z_P G 7300 a0) = otU (oX0 od) (oDX od cc) ∧ d_I d5 2401 (z_P G 7300 a0) = otU (oY0 od) (oDY od cc) ∧ d_I d5 2402 (z_P G 7300 a0) = otU (oX1 od) (oDX od cc) ∧ d_I d5 2403 (z_P G 7300 a0) = otU (oY1 od) (oDY od cc) := by
        have o := (out (z_P G 7300 a0) (by omega)).2
        exact ⟨o.1.trans ha.1, o.2.1.trans ha.2.1, o.2.2.1.trans ha.2.2.1, o.2.2.2.trans ha.2.2.2⟩
      have j1_hL : ∀ r, 0 ≤ r → r < v6 → LvC d5 G od cc r (z_E G 7301 a0 r) := by
        intro r r0 r1
        by_cases z : r = x3
        · rw [z, ← e_w2]; exact h_d5.1
        · have k := hL r r0 (by omega)
          have kl := hA.lv r0 (show r < 33 by omega)
          have lm := loN_m (show r.toNat < x3.toNat by omega)
          have n2 := nbN_r r.toNat
          exact k.sm (out _ (by rw [kl.2.1]; omega)).2 (out _ (by rw [kl.1]; omega)).1
      have j1_hO : PtO Dz d5 a0 := by
        exact hO.tr (fun bb hb => out bb (by omega))
      have j1_hD : PtD d5 a0 := by
        unfold PtD LvDa at hD ⊢
        rw [F_d5.i (i := 7400) rfl, F_d5.i (i := 7500) rfl]
        exact hD
      have j1_hm : oNL od cc + 1 - v6 < n := by
        (first | omega | assumption | (subst_vars; first | omega | assumption) | done)
      exact ih T_d5 j1_hod j1_h1 j1_hA j1_hc j1_h0 j1_ha j1_hL j1_hO j1_hD j1_hm
set_option maxHeartbeats 8000000 in
theorem s_X73_lay {N : Nat} {a0 : Nat} {r1 : Nat} {r2 : Nat} {G : Gt} {D : Dt} (hN : 1099511627776 ≤ N) {od : Od} {cc : Int} (hT : Ty D) (hod : OdOk od) (h1 : 0 ≤ cc ∧ cc < oNC od) (hA : PtA G a0) (hD : PtD D a0) (hc : CoD D od cc r2) (ha : d_I D 2400 r1 = oX0 od ∧ d_I D 2401 r1 = oY0 od ∧ d_I D 2402 r1 = oX1 od ∧ d_I D 2403 r1 = oY1 od) : Wp (q_X73_lay N a0 r1 r2 G D) (fun D' => Ty D' ∧ (PtC D' G od cc a0 ∧ PtO D D' a0 ∧ ∀ bb, bb ≠ a0 → d_I D' 7302 bb = d_I D 7302 bb)) := by
  refine w_un (q_X73_lay.eq_1 ..) ?_
  have k := hod.2.2.2.1 cc h1.1 h1.2
  have z3 := hA.1
  have hx := hod.1
  have hy := hod.2.1
  have t1 := ty_7202 hT r2
  refine w_let fun v3 e_v3 => ?_
  have z7 := hc.2.2.1
  refine w_let fun d2 e_d2 => ?_
  have T_d2 : Ty d2 := tyI_7302 e_d2 hT (by (first | omega | assumption | (subst_vars; first | omega | assumption) | done))
  have a2 : ∀ bb, ArE D d2 bb := fun bb => ArE.fr' (Fr.uI e_d2) rfl
  have i7 : d_I d2 7302 a0 = v3 := by rw [e_d2, rI_I, if_pos ⟨rfl, rfl⟩]
  have f72 : d_I d2 7200 r2 = d_I D 7200 r2 ∧ d_I d2 7201 r2 = d_I D 7201 r2 := by rw [e_d2]; exact ⟨rfl, rfl⟩
  have t2 := ty_7200 hT r2
  have t3 := ty_7201 hT r2
  have c1_h0 : 0 ≤ (0 : Int) ∧ (0 : Int) ≤ 1099511627776 ∧ 0 ≤ (0 : Int) ∧ (0 : Int) ≤ 1099511627776 ∧ 1 ≤ (d_I D 7200 r2) ∧ (d_I D 7200 r2) ≤ 1099511627776 ∧ 1 ≤ (d_I D 7201 r2) ∧ (d_I D 7201 r2) ≤ 1099511627776 := by
    have := hc.1; have := hc.2.1; omega
  refine w_b (Wp.fr (s_X24_divide T_d2 c1_h0) fr_X24_divide) fun d6 h_d6 => ?_
  obtain ⟨⟨T_d6, h_d6⟩, F_d6⟩ := h_d6
  have j1_hod : OdOk od := by
    (first | omega | assumption | (subst_vars; first | omega | assumption) | done)
  have j1_h1 : 0 ≤ cc ∧ cc < oNC od := by
    (first | omega | assumption | (subst_vars; first | omega | assumption) | done)
  have j1_hA : PtA G a0 := by
    (first | omega | assumption | (subst_vars; first | omega | assumption) | done)
  have j1_hc : CoD d6 od cc r2 := by
    (first | assumption | exact (CoD.fr (by assumption) F_d6 rfl) | exact (CoD.fr (CoD.fr (by assumption) (Fr.uI e_d2) rfl) F_d6 rfl))
  have j1_h0 : 0 ≤ (0 : Int) ∧ (0 : Int) ≤ oNL od cc + 1 ∧ d_I d6 7302 a0 = oNL od cc := by
    rw [congrFun (F_d6.i (i := 7302) rfl) a0, i7]; omega
  have j1_ha : d_I d6 2400 (z_P G 7300 a0) = otU (oX0 od) (oDX od cc) ∧ d_I d6 2401 (z_P G 7300 a0) = otU (oY0 od) (oDY od cc) ∧ d_I d6 2402 (z_P G 7300 a0) = otU (oX1 od) (oDX od cc) ∧ d_I d6 2403 (z_P G 7300 a0) = otU (oY1 od) (oDY od cc) := by
    have b := a2 r1
    rw [h_d6.1.1, h_d6.1.2.1, h_d6.1.2.2.1, h_d6.1.2.2.2, b.1, b.2.1, b.2.2.1, b.2.2.2, ha.1, ha.2.1, ha.2.2.1, ha.2.2.2, Int.sub_zero, Int.sub_zero, Int.sub_zero, Int.sub_zero, cuZ_0 (by omega) (by have := hc.1; omega), cuZ_0 (by omega) (by have := hc.2.1; omega), cuZ_0 (by omega) (by have := hc.1; omega), cuZ_0 (by omega) (by have := hc.2.1; omega), hc.1, hc.2.1]
    exact ⟨rfl, rfl, rfl, rfl⟩
  have j1_hL : ∀ r, 0 ≤ r → r < (0 : Int) → LvC d6 G od cc r (z_E G 7301 a0 r) := by
    intro r r0 r1; omega
  have j1_hO : PtO d6 d6 a0 := by
    exact PtO.rf
  have j1_hD : PtD d6 a0 := by
    unfold PtD LvDa at hD ⊢
    rw [F_d6.i (i := 7400) rfl, F_d6.i (i := 7500) rfl, e_d2]
    exact hD
  have j1_hm : oNL od cc + 1 - (0 : Int) < N := by
    (first | omega | assumption | (subst_vars; first | omega | assumption) | done)
  refine Wp.mo (Wp.fr (s_X73_lay_30 hN (od := od) (cc := cc) (Dz := d6) _ T_d6 j1_hod j1_h1 j1_hA j1_hc j1_h0 j1_ha j1_hL j1_hO j1_hD j1_hm) (fr_X73_lay_30 _)) ?_
  intro o ho
  obtain ⟨⟨hT', ho⟩, hF⟩ := ho
  try dsimp only at hF
  refine ⟨hT', ?_⟩
  refine ⟨⟨ho.2.2, ho.1⟩, fun bb hb => ?_, fun bb hb => by rw [hF.i (i := 7302) rfl, F_d6.i (i := 7302) rfl, e_d2, rI_I, if_neg (by omega)]⟩
  have q := ho.2.1 bb hb
  have w : LwSm D d6 bb := (LwSm.fr' (Fr.uI e_d2) rfl).tr (LwSm.fr' F_d6 rfl)
  exact ⟨w.tr q.1, ((a2 bb).tr (h_d6.2 bb (by omega))).tr q.2⟩
