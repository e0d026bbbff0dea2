/-! specifications, printed by gen/mks.py -/
set_option maxRecDepth 100000
/-- a stream's object -/
def StrI (D : Dt) (G : Gt) (od : Od) (k r : Int) (st : Nat) : Prop := z_Q G 2302 (s_ G 23) (k * 33 + r) = some st ∧ d_I D 7603 st = opF od k r ∧ d_I D 7600 st = k ∧ d_I D 7400 (z_P G 7602 st) = r ∧ LvC D G od k r (z_P G 7602 st) ∧ CoD D od k (z_P G 7601 st)
/-- a stream that there is -/
def LvV (od : Od) (k r : Int) : Prop := (0 ≤ k ∧ k < oNC od) ∧ 0 ≤ r ∧ r ≤ oNL od k
/-- all streams, and what else a walk needs -/
def OrS (D : Dt) (G : Gt) (od : Od) : Prop := OdOk od ∧ opN od ≤ 4096 ∧ d_I D 2303 (s_ G 23) = oNC od ∧ (∀ k, 0 ≤ k → k < oNC od → ∃ pt, z_Q G 2301 (s_ G 23) k = some pt ∧ d_I D 7302 pt = oNL od k) ∧ (∀ k r, LvV od k r → ∃ st, StrI D G od k r st) ∧ (∀ i st, z_Q G 2302 (s_ G 23) i = some st → ∀ j, z_Q G 2302 (s_ G 23) j = some st → i = j) ∧ ArT D G od
theorem CSt.smo {D : Dt} {G : Gt} {c : Ct} {od : Od} {g : Cg} (h : CSt D G c od g) : OrS D G od := by
  obtain ⟨hO, -, -, hG, hP, hL, h4, -, -⟩ := h
  refine ⟨hO.1, h4, hL.2.1, fun k k0 k1 => ?_, fun k r v => ?_, fun i st e j e' => (hG.2.1 i st e).2 j e', hO.2.2.2⟩
  · obtain ⟨pt, a, b⟩ := hL.2.2.1 k k0 k1
    exact ⟨pt, a, b.1⟩
  · have nl := (hO.1.2.2.2.1 k v.1.1 v.1.2).2.2.2.2
    have v1 := v.1
    have v2 := v.2
    obtain ⟨st, a, b⟩ := hL.2.2.2 k r v.1.1 v.2.1 v.2.2 (.inl v.1.2)
    obtain ⟨pt, co, u1, u2, u3, u4⟩ := hG.2.2.2.2.1 k r 0 st v.1.1 v.2.1 (by omega) a
    obtain ⟨p2, a2, b2⟩ := hL.2.2.1 k v.1.1 v.1.2
    have e2 : p2 = pt := by rw [u1] at a2; exact (Option.some.inj a2).symm
    subst e2
    obtain ⟨c2, a3, b3⟩ := hO.2.2.1 k v.1.1 v.1.2
    have e3 : c2 = co := by rw [u2] at a3; exact (Option.some.inj a3).symm
    subst e3
    have A := (hG.1 k p2 u1).1
    exact ⟨st, a, b, hP.2 k r st v.1.1 v.2.1 (by omega) a, by rw [u3]; exact (hP.1 k p2 u1).lv A v.2.1 (by omega), by rw [u3]; exact b2.2 r v.2.1 v.2.2, by rw [u4]; exact b3⟩
theorem StrI.fr {D D' : Dt} {G : Gt} {od : Od} {k r : Int} {st : Nat} {S : List Nat} (h : StrI D G od k r st) (F : Fr S D D') (hd : ([7603, 7600, 7400, 2400, 2401, 2402, 2403, 7403, 7404, 7405, 7406, 7200, 7201, 7202, 7205, 7206].all fun j => !S.contains j) = true) : StrI D' G od k r st := by
  obtain ⟨h1, h2, h3, h4, h5, h6⟩ := h
  exact ⟨h1, by rw [F.i (i := 7603) (dsO_o hd (by decide))]; exact h2, by rw [F.i (i := 7600) (dsO_o hd (by decide))]; exact h3, by rw [F.i (i := 7400) (dsO_o hd (by decide))]; exact h4, h5.fr F (all_sub hd (by decide)), h6.fr F (all_sub hd (by decide))⟩
theorem OrS.fr {D D' : Dt} {G : Gt} {od : Od} {S : List Nat} (h : OrS D G od) (F : Fr S D D') (hd : ([2303, 7302, 7603, 7600, 7400, 2400, 2401, 2402, 2403, 7403, 7404, 7405, 7406, 7200, 7201, 7202, 7205, 7206].all fun j => !S.contains j) = true) : OrS D' G od := by
  obtain ⟨h1, h2, h3, h4, h5, h6, h7⟩ := h
  refine ⟨h1, h2, by rw [F.i (i := 2303) (dsO_o hd (by decide))]; exact h3, fun k k0 k1 => ?_, fun k r v => ?_, h6, h7.fr F (all_sub hd (by decide))⟩
  · obtain ⟨pt, a, b⟩ := h4 k k0 k1
    exact ⟨pt, a, by rw [F.i (i := 7302) (dsO_o hd (by decide))]; exact b⟩
  · obtain ⟨st, a⟩ := h5 k r v
    exact ⟨st, a.fr F (all_sub hd (by decide))⟩
set_option maxHeartbeats 8000000 in
theorem s_X23_of {x1 : Int} {x2 : Int} {G : Gt} {D : Dt} {od : Od} (hT : Ty D) (hS : OrS D G od) (h0 : x1 ≤ 100 ∧ -100 ≤ x2 ∧ x2 ≤ 100) : Wp (q_X23_of x1 x2 G D) (fun r => (r = none ∧ ¬ LvV od x1 x2) ∨ ∃ st, r = some st ∧ LvV od x1 x2 ∧ StrI D G od x1 x2 st) := by
  refine w_un (q_X23_of.eq_1 ..) ?_
  have n3 := hS.2.2.1
  have nc := hS.1.2.2.1
  refine w_ite (fun hc1 => ?_) (fun hc1 => ?_)
  · skip
    refine w_some ?_
    exact .inl ⟨rfl, fun v => by have := v.1; omega⟩
  · skip
    have t1 := ty_2303 hT (s_ G 23)
    refine w_ite (fun hc2 => ?_) (fun hc2 => ?_)
    · skip
      refine w_some ?_
      exact .inl ⟨rfl, fun v => by have := v.1; omega⟩
    · skip
      refine w_ite (fun hc3 => ?_) (fun hc3 => ?_)
      · skip
        refine w_some ?_
        exact .inl ⟨rfl, fun v => by have := v.2; omega⟩
      · skip
        obtain ⟨pt, y1, y2⟩ := hS.2.2.2.1 x1 (by omega) (by omega)
        have nl := (hS.1.2.2.2.1 x1 (by omega) (by omega)).2.2.2.2
        refine w_lQ (by (first | omega | assumption | (subst_vars; first | omega | assumption) | done)) fun w2 e_w2 => ?_
        have q2 : w2 = some pt := by rw [e_w2]; exact y1
        refine w_on (by (first | (rw [q2]; exact Option.some_ne_none _))) fun b3 e_b3 => ?_
        have E3 : b3 = pt := by rw [q2] at e_b3; exact (Option.some.inj e_b3).symm
        rw [← E3] at y2
        have t2 := ty_7302 hT b3
        refine w_ite (fun hc4 => ?_) (fun hc4 => ?_)
        · skip
          refine w_gd (by (first | omega | assumption | (subst_vars; first | omega | assumption) | done)) ?_
          refine w_gd (by (first | omega | assumption | (subst_vars; first | omega | assumption) | done)) ?_
          refine w_lQ (by (first | omega | assumption | (subst_vars; first | omega | assumption) | done)) fun w5 e_w5 => ?_
          refine w_some ?_
          have v : LvV od x1 x2 := ⟨⟨by omega, by omega⟩, by omega, by omega⟩
          obtain ⟨st, s⟩ := hS.2.2.2.2.1 x1 x2 v
          exact .inr ⟨st, by rw [e_w5]; exact s.1, v, s⟩
        · skip
          refine w_some ?_
          exact .inl ⟨rfl, fun v => by have := v.2; omega⟩
