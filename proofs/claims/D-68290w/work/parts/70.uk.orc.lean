/-! specifications, printed by gen/mks.py -/
set_option maxRecDepth 100000
/-- the stream at hand, its layers from l0 tried -/
def LyrI (D : Dt) (G : Gt) (od : Od) (g : Cg) (w l0 : Int) (C0 : Fz) : Prop := d_R D 2804 (s_ G 28) = none ∨ ∃ st c r, d_R D 2804 (s_ G 28) = some st ∧ StrI D G od c r st ∧ LvV od c r ∧ mtA D G c r < olP od c r ∧ (0 ≤ l0 ∧ l0 ≤ d_I D 2603 (s_ G 28) ∧ d_I D 2603 (s_ G 28) ≤ cgL g w) ∧ ∀ l, l0 ≤ l → l < d_I D 2603 (s_ G 28) → l < C0 (opF od c r + mtA D G c r)
/-- one of its layers taken -/
def LyrT (D : Dt) (G : Gt) (od : Od) (g : Cg) (w l0 : Int) (C0 : Fz) : Prop := ∃ st c r, d_R D 2804 (s_ G 28) = some st ∧ StrI D G od c r st ∧ LvV od c r ∧ (l0 ≤ d_I D 2500 (s_ G 25) ∧ d_I D 2500 (s_ G 25) < cgL g w ∧ d_I D 2603 (s_ G 28) = d_I D 2500 (s_ G 25) + 1) ∧ (∀ l, l0 ≤ l → l < d_I D 2500 (s_ G 25) → l < C0 (opF od c r + mtA D G c r)) ∧ C0 (opF od c r + mtA D G c r) ≤ d_I D 2500 (s_ G 25) ∧ (∀ i, d_A D 2305 (s_ G 23) i = if i = opF od c r + mtA D G c r then C0 i + 1 else C0 i) ∧ d_R D 2503 (s_ G 25) = some st ∧ d_I D 2501 (s_ G 25) = mtA D G c r
set_option maxHeartbeats 8000000 in
theorem s_X28_layers_0 {N : Nat} {od : Od} {g : Cg} {w : Int} {ch : Nat} {l0 : Int} {C0 : Fz} (hN : 1099511627776 ≤ N) (n : Nat) : ∀ {G : Gt} {D : Dt}, Ty D → (MgP D G od g w ch) → (LyrI D G od g w l0 C0) → (∀ i, d_A D 2305 (s_ G 23) i = C0 i) → max 0 (256 - d_I D 2603 (s_ G 28)) < n → Wp (q_X28_layers_0 N n G D) (fun o => (fun r D' => Ty D' ∧ ((r = 0 → (∀ i, d_A D' 2305 (s_ G 23) i = C0 i) ∧ LyrI D' G od g w l0 C0 ∧ (d_R D' 2804 (s_ G 28) ≠ none → d_I D' 2603 (s_ G 28) = cgL g w)) ∧ (r ≠ 0 → LyrT D' G od g w l0 C0))) o.1 o.2) := by
  induction n with
  | zero =>
    intro G D hT hM hc hz hm; exfalso; omega
  | succ n ih =>
    intro G D hT hM hc hz hm
    show Wp (q_X28_layers_0 N (n + 1) G D) _
    rw [q_X28_layers_0]
    have t3 := ty_2603 hT (s_ G 28)
    have hw := hM.2.1.1
    have hw2 := hM.2.1.2.1
    have hs := hM.2.1.2.2
    have hL := hM.2.2.2.1
    refine w_ite (fun hc1 => ?_) (fun hc1 => ?_)
    · skip
      refine w_some ?_
      try dsimp only
      refine ⟨hT, ?_⟩
      exact ⟨fun _ => ⟨hz, hc, fun z => absurd (by assumption) z⟩, fun z => absurd rfl z⟩
    · skip
      obtain ⟨st, c, lr, h8, sI, lv, ml, lb, la⟩ : ∃ st c r, d_R D 2804 (s_ G 28) = some st ∧ StrI D G od c r st ∧ LvV od c r ∧ mtA D G c r < olP od c r ∧ (0 ≤ l0 ∧ l0 ≤ d_I D 2603 (s_ G 28) ∧ d_I D 2603 (s_ G 28) ≤ cgL g w) ∧ ∀ l, l0 ≤ l → l < d_I D 2603 (s_ G 28) → l < C0 (opF od c r + mtA D G c r) := by
       rcases hc with y | y
       · exact absurd y hc1
       · exact y
      have m0 := (hM.2.2.2.2 c lr lv).1
      have fb := opF_b hM.1.1 lv.1.1 lv.1.2 lv.2.1 lv.2.2
      have n96 := hM.1.2.1
      refine w_on (by (first | (rw [hw2]; exact Option.some_ne_none _) | (rw [h8]; exact Option.some_ne_none _))) fun b1 e_b1 => ?_
      have E1 : b1 = ch := by rw [hw2] at e_b1; exact (Option.some.inj e_b1).symm
      have e22 := hs.2.2.2.2.1
      rw [← E1] at e22
      have t1 := ty_2204 hT b1
      have t2 := ty_2603 hT (s_ G 28)
      refine w_ite (fun hc2 => ?_) (fun hc2 => ?_)
      · skip
        refine w_some ?_
        try dsimp only
        refine ⟨hT, ?_⟩
        exact ⟨fun _ => ⟨hz, .inr ⟨st, c, lr, h8, sI, lv, ml, lb, la⟩, fun _ => by omega⟩, fun z => absurd rfl z⟩
      · skip
        refine w_gd (by (first | omega | assumption | (subst_vars; first | omega | assumption) | done)) ?_
        refine w_let fun v3 e_v3 => ?_
        refine w_let fun d2 e_d2 => ?_
        have T_d2 : Ty d2 := tyI_2603 e_d2 hT (by (first | omega | assumption | (subst_vars; first | omega | assumption) | done))
        refine w_on (by (first | (rw [hw2]; exact Option.some_ne_none _) | (rw [h8]; exact Option.some_ne_none _))) fun b4 e_b4 => ?_
        have E4 : b4 = st := by rw [h8] at e_b4; exact (Option.some.inj e_b4).symm
        have F2 : Fr [2603] D d2 := by rw [e_d2]; exact Fr.rf.I rfl
        have s2 : StrI d2 G od c lr b4 := by rw [E4]; exact sI.fr F2 rfl
        have f76 : d_I d2 7603 b4 = opF od c lr := s2.2.1
        have a76 : d_I D 7604 b4 = mtA D G c lr := by rw [E4]; exact sI.at
        refine w_gd (by (first | omega | assumption | (subst_vars; first | omega | assumption) | done)) ?_
        have t3 := ty_7604 hT b4
        have c1_h0 : 0 ≤ d_I d2 7603 b4 + (d_I D 7604 b4) ∧ d_I d2 7603 b4 + (d_I D 7604 b4) < 4096 ∧ 0 ≤ (d_I D 7604 b4) ∧ 0 ≤ (v3 - (1 : Int)) ∧ (v3 - (1 : Int)) ≤ 254 := by
          rw [f76, a76]; omega
        have c1_hw : d_R d2 2600 (s_ G 28) = some (s_ G 23) := by
          rw [F2.r (i := 2600) rfl]; exact hw
        refine w_b2 (Wp.fr (s_X26_take T_d2 c1_h0 c1_hw) fr_X26_take) fun v7 d6 h_v7 => ?_
        obtain ⟨⟨T_d6, h_v7⟩, F_d6⟩ := h_v7
        try dsimp only at T_d6 h_v7 F_d6
        rw [f76, a76, F2.a (i := 2305) rfl, show v3 - 1 = d_I D 2603 (s_ G 28) by omega] at h_v7
        have F6 : Fr [2603, 2305, 2500, 2501, 2503] D d6 := (F2.mo rfl).tr (F_d6.mo rfl)
        have m6 : mtA d6 G = mtA D G := mtA_fr F6 rfl
        have i6 : d_I d6 2603 (s_ G 28) = d_I D 2603 (s_ G 28) + 1 := by rw [F_d6.i (i := 2603) rfl, e_d2, rI_I, if_pos ⟨rfl, rfl⟩]; omega
        have h86 : d_R d6 2804 (s_ G 28) = some st := by rw [F6.r (i := 2804) rfl]; exact h8
        refine w_ite (fun hc3 => ?_) (fun hc3 => ?_)
        · skip
          have j1_hM : MgP d6 G od g w ch := by
            exact hM.fr F6 rfl
          have j1_hc : LyrI d6 G od g w l0 C0 := by
            have t := h_v7.2.2.1 (by assumption)
            refine .inr ⟨st, c, lr, h86, sI.fr F6 rfl, lv, by rw [m6]; exact ml, by rw [i6]; omega, fun l a b => ?_⟩
            rw [m6]
            rw [i6] at b
            by_cases z : l = d_I D 2603 (s_ G 28)
            · rw [z, ← hz]; exact t.1
            · exact la l a (by omega)
          have j1_hz : ∀ i, d_A d6 2305 (s_ G 23) i = C0 i := by
            have t := h_v7.2.2.1 (by assumption)
            intro i
            rw [t.2, F2.a (i := 2305) rfl]; exact hz i
          have j1_hm : max 0 (256 - d_I d6 2603 (s_ G 28)) < n := by
            rw [i6]; omega
          exact ih T_d6 j1_hM j1_hc j1_hz j1_hm
        · skip
          refine w_some ?_
          try dsimp only
          refine ⟨T_d6, ?_⟩
          have t := h_v7.2.2.2 (by omega)
          refine ⟨fun z => absurd z (by decide), fun _ => ⟨st, c, lr, h86, sI.fr F6 rfl, lv, ?_, ?_, ?_, fun i => ?_, ?_, ?_⟩⟩
          · rw [i6, t.2.2.2.2]; omega
          · rw [m6, t.2.2.2.2]; exact la
          · rw [m6, t.2.2.2.2, ← hz]; exact t.1
          · rw [t.2.1, m6, ← hz]
            by_cases z : i = opF od c lr + mtA D G c lr
            · rw [if_pos z, if_pos z, z]
            · rw [if_neg z, if_neg z]
          · rw [t.2.2.1, E4]
          · rw [t.2.2.2.1, m6]
set_option maxHeartbeats 8000000 in
theorem s_X28_layers {N : Nat} {G : Gt} {D : Dt} (hN : 1099511627776 ≤ N) {od : Od} {g : Cg} {w : Int} {ch : Nat} (hT : Ty D) (hM : MgP D G od g w ch) (hc : LyrI D G od g w (d_I D 2603 (s_ G 28)) (d_A D 2305 (s_ G 23))) : Wp (q_X28_layers N G D) (fun o => (fun r D' => Ty D' ∧ ((r = 0 → (∀ i, d_A D' 2305 (s_ G 23) i = d_A D 2305 (s_ G 23) i) ∧ LyrI D' G od g w (d_I D 2603 (s_ G 28)) (d_A D 2305 (s_ G 23)) ∧ (d_R D' 2804 (s_ G 28) ≠ none → d_I D' 2603 (s_ G 28) = cgL g w)) ∧ (r ≠ 0 → LyrT D' G od g w (d_I D 2603 (s_ G 28)) (d_A D 2305 (s_ G 23))))) o.1 o.2) := by
  refine w_un (q_X28_layers.eq_1 ..) ?_
  have t3 := ty_2603 hT (s_ G 28)
  have t1 := ty_2603 hT (s_ G 28)
  have j1_hM : MgP D G od g w ch := by
    (first | assumption)
  have j1_hc : LyrI D G od g w (d_I D 2603 (s_ G 28)) (d_A D 2305 (s_ G 23)) := by
    (first | omega | assumption | (subst_vars; first | omega | assumption) | done)
  have j1_hz : ∀ i, d_A D 2305 (s_ G 23) i = (d_A D 2305 (s_ G 23)) i := by
    (first | omega | assumption | (subst_vars; first | omega | assumption) | done)
  have j1_hm : max 0 (256 - d_I D 2603 (s_ G 28)) < N := by
    (first | omega | assumption | (subst_vars; first | omega | assumption) | done)
  refine Wp.mo (s_X28_layers_0 hN (od := od) (g := g) (w := w) (ch := ch) (l0 := d_I D 2603 (s_ G 28)) (C0 := d_A D 2305 (s_ G 23)) _ hT j1_hM j1_hc j1_hz j1_hm) ?_
  intro o ho
  exact ho
