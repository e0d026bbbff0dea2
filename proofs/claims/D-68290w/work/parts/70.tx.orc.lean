/-! specifications, printed by gen/mks.py -/
set_option maxRecDepth 100000
/-- a change's object -/
def ChS (D : Dt) (b : Nat) (x1 x2 x3 x4 x5 x6 : Int) : Prop := d_I D 2200 b = x1 ∧ d_I D 2201 b = x2 ∧ d_I D 2202 b = x3 ∧ d_I D 2203 b = x4 ∧ d_I D 2204 b = x5 ∧ d_I D 2205 b = x6
def ChSm (D D' : Dt) (b : Nat) : Prop := d_I D' 2200 b = d_I D 2200 b ∧ d_I D' 2201 b = d_I D 2201 b ∧ d_I D' 2202 b = d_I D 2202 b ∧ d_I D' 2203 b = d_I D 2203 b ∧ d_I D' 2204 b = d_I D 2204 b ∧ d_I D' 2205 b = d_I D 2205 b
theorem ChSm.rf {D : Dt} {b : Nat} : ChSm D D b := ⟨rfl, rfl, rfl, rfl, rfl, rfl⟩
theorem ChSm.tr {D E F : Dt} {b : Nat} (h : ChSm D E b) (k : ChSm E F b) : ChSm D F b := ⟨k.1.trans h.1, k.2.1.trans h.2.1, k.2.2.1.trans h.2.2.1, k.2.2.2.1.trans h.2.2.2.1, k.2.2.2.2.1.trans h.2.2.2.2.1, k.2.2.2.2.2.trans h.2.2.2.2.2⟩
theorem ChSm.fr' {D D' : Dt} {b : Nat} {S : List Nat} (F : Fr S D D') (hd : ([2200, 2201, 2202, 2203, 2204, 2205].all fun j => !S.contains j) = true) : ChSm D D' b := by
  unfold ChSm
  rw [F.i (i := 2200) (dsO_o hd (by decide)), F.i (i := 2201) (dsO_o hd (by decide)), F.i (i := 2202) (dsO_o hd (by decide)), F.i (i := 2203) (dsO_o hd (by decide)), F.i (i := 2204) (dsO_o hd (by decide)), F.i (i := 2205) (dsO_o hd (by decide))]
  exact ⟨rfl, rfl, rfl, rfl, rfl, rfl⟩
theorem ChS.sm {D D' : Dt} {b : Nat} {x1 x2 x3 x4 x5 x6 : Int} (h : ChS D b x1 x2 x3 x4 x5 x6) (s : ChSm D D' b) : ChS D' b x1 x2 x3 x4 x5 x6 := ⟨s.1.trans h.1, s.2.1.trans h.2.1, s.2.2.1.trans h.2.2.1, s.2.2.2.1.trans h.2.2.2.1, s.2.2.2.2.1.trans h.2.2.2.2.1, s.2.2.2.2.2.trans h.2.2.2.2.2⟩
theorem ch_set {D d1 d2 d3 d4 d5 d6 : Dt} {a : Nat} {x1 x2 x3 x4 x5 x6 : Int} (e1 : d1 = u_I D 2200 a x1) (e2 : d2 = u_I d1 2201 a x2) (e3 : d3 = u_I d2 2202 a x3) (e4 : d4 = u_I d3 2203 a x4) (e5 : d5 = u_I d4 2204 a x5) (e6 : d6 = u_I d5 2205 a x6) : ChS d6 a x1 x2 x3 x4 x5 x6 ∧ ∀ b, b ≠ a → ChSm D d6 b := by
  rw [e6, e5, e4, e3, e2, e1]
  unfold ChS ChSm
  refine ⟨⟨?_, ?_, ?_, ?_, ?_, ?_⟩, fun b hb => ⟨?_, ?_, ?_, ?_, ?_, ?_⟩⟩
  all_goals (simp only [rI_I]; simp)
  all_goals (intro z; exact absurd z hb)
set_option maxHeartbeats 8000000 in
theorem s_X21_change_120 {x1 : Int} {x2 : Int} {x3 : Int} {x4 : Int} {x5 : Int} {x6 : Int} {G : Gt} {D : Dt} {c : Ct} {W : Int} {ch : Nat} (hT : Ty D) (h0 : d_I D 2106 (s_ G 21) = W ∧ 0 ≤ W ∧ W < 32 ∧ 0 ≤ x1 ∧ x1 ≤ 32 ∧ 1 ≤ x2 ∧ x2 ≤ 33 ∧ 0 ≤ x3 ∧ x3 ≤ 15 ∧ 1 ≤ x4 ∧ x4 ≤ 16 ∧ 1 ≤ x5 ∧ x5 ≤ 255 ∧ 0 ≤ x6 ∧ x6 ≤ 4) (hz : z_Q G 2105 (s_ G 21) W = some ch) : Wp (q_X21_change_120 x1 x2 x3 x4 x5 x6 G D c) (Th (fun r s => (fun r D' G' c' => Ty D' ∧ (r = W + 1 ∧ d_I D' 2106 (s_ G 21) = W + 1 ∧ ChS D' ch x1 x2 x3 x4 x5 x6 ∧ (∀ bb, bb ≠ ch → ChSm D D' bb) ∧ G' = G ∧ c' = c)) r s.1 s.2.1 s.2.2) (fun e s => (fun (e : Nat) D' G' c' => Ty D' ∧ (e = 99 ∧ False)) e s.1 s.2.1 s.2.2)) := by
  refine w_un (q_X21_change_120.eq_1 ..) ?_
  have t1 := ty_2106 hT (s_ G 21)
  refine w_lQ (by (first | omega | assumption | (subst_vars; first | omega | assumption) | done)) fun w2 e_w2 => ?_
  have q2 : w2 = some ch := by rw [e_w2, h0.1]; exact hz
  refine w_on (by (rw [q2]; exact Option.some_ne_none _)) fun b3 e_b3 => ?_
  have E3 : b3 = ch := by rw [q2] at e_b3; exact (Option.some.inj e_b3).symm
  unfold q_X22_set
  refine w_ll ?_
  refine w_let fun d1 e_d1 => ?_
  have T_d1 : Ty d1 := tyI_2200 e_d1 hT (by (first | omega | assumption | (subst_vars; first | omega | assumption) | done))
  refine w_ll ?_
  refine w_let fun d2 e_d2 => ?_
  have T_d2 : Ty d2 := tyI_2201 e_d2 T_d1 (by (first | omega | assumption | (subst_vars; first | omega | assumption) | done))
  refine w_ll ?_
  refine w_let fun d3 e_d3 => ?_
  have T_d3 : Ty d3 := tyI_2202 e_d3 T_d2 (by (first | omega | assumption | (subst_vars; first | omega | assumption) | done))
  refine w_ll ?_
  refine w_let fun d4 e_d4 => ?_
  have T_d4 : Ty d4 := tyI_2203 e_d4 T_d3 (by (first | omega | assumption | (subst_vars; first | omega | assumption) | done))
  refine w_ll ?_
  refine w_let fun d5 e_d5 => ?_
  have T_d5 : Ty d5 := tyI_2204 e_d5 T_d4 (by (first | omega | assumption | (subst_vars; first | omega | assumption) | done))
  refine w_ll ?_
  refine w_let fun d6 e_d6 => ?_
  have T_d6 : Ty d6 := tyI_2205 e_d6 T_d5 (by (first | omega | assumption | (subst_vars; first | omega | assumption) | done))
  refine w_let fun d5_2 e_d5_2 => ?_
  have T_d5_2 : Ty d5_2 := ty_e e_d5_2 T_d6
  refine w_gd (by (first | omega | assumption | (subst_vars; first | omega | assumption) | done)) ?_
  refine w_let fun v7 e_v7 => ?_
  refine w_let fun d6_2 e_d6_2 => ?_
  have T_d6_2 : Ty d6_2 := tyI_2106 e_d6_2 T_d5_2 (by (first | omega | assumption | (subst_vars; first | omega | assumption) | done))
  refine w_let fun d8 e_d8 => ?_
  have T_d8 : Ty d8 := tyI_2111 e_d8 T_d6_2 (by (first | omega | assumption | (subst_vars; first | omega | assumption) | done))
  refine w_thl ?_
  try dsimp only
  refine ⟨T_d8, ?_⟩
  rw [E3] at e_d1 e_d2 e_d3 e_d4 e_d5 e_d6
  have q := ch_set e_d1 e_d2 e_d3 e_d4 e_d5 e_d6
  have w : ∀ bb, ChSm d6 d8 bb := fun bb => by rw [e_d8, e_d6_2, e_d5_2]; exact (ChSm.fr' (Fr.uI rfl) rfl).tr (ChSm.fr' (Fr.uI rfl) rfl)
  refine ⟨by omega, ?_, q.1.sm (w _), fun bb h => (q.2 bb h).tr (w bb), rfl, rfl⟩
  rw [e_d8, rI_I, if_neg (by omega), e_d6_2, rI_I, if_pos ⟨rfl, rfl⟩]; omega
theorem s_X21_change_89 {x1 x2 x3 x4 x5 x6 ts0 : Int} {G : Gt} {D : Dt} {c : Ct} {W : Int} (hT : Ty D) (hG : PoG G c) (hP : PoD D G) (h0 : d_I D 2106 (s_ G 21) = W ∧ 0 ≤ W ∧ W < 32 ∧ 0 ≤ x1 ∧ x1 ≤ 32 ∧ 1 ≤ x2 ∧ x2 ≤ 33 ∧ 0 ≤ x3 ∧ x3 ≤ 15 ∧ 1 ≤ x4 ∧ x4 ≤ 16 ∧ 1 ≤ x5 ∧ x5 ≤ 255 ∧ 0 ≤ x6 ∧ x6 ≤ 4 ∧ ts0 ≠ 0) : Wp (q_X21_change_89 x1 x2 x3 x4 x5 x6 ts0 G D c) (Th (fun r s => (fun r D' G' c' => Ty D' ∧ (r = W + 1 ∧ d_I D' 2106 (s_ G 21) = W + 1 ∧ (∃ ch, z_Q G' 2105 (s_ G 21) W = some ch ∧ ChS D' ch x1 x2 x3 x4 x5 x6 ∧ ∀ bb, bb ≠ ch → ChSm D D' bb) ∧ PoG G' c' ∧ PoD D' G' ∧ GoX c.1 G G' ∧ c.1 ≤ c'.1)) r s.1 s.2.1 s.2.2) (fun e s => (fun (e : Nat) D' G' c' => Ty D' ∧ (e = 99 ∧ False)) e s.1 s.2.1 s.2.2)) := by
  refine w_un (q_X21_change_89.eq_1 ..) ?_
  have hm : q_X21_must ts0 G D c = some (.inl (), (D, c)) := by unfold q_X21_must; rw [if_neg (by omega)]
  refine w_thu (R := fun p => p = (.inl (), (D, c))) ⟨_, hm, rfl⟩ (fun u p2 h => ?_) (fun e p2 h => by cases h)
  have hp : p2 = (D, c) := by injection h
  subst hp
  dsimp only
  rw [h0.1]
  have fin : ∀ (g : Gt) (c2 : Ct) (ch : Nat), PoG g c2 → PoD D g → GoX c.1 G g → c.1 ≤ c2.1 → z_Q g 2105 (s_ g 21) W = some ch → Wp (q_X21_change_120 x1 x2 x3 x4 x5 x6 g D c2) (Th (fun r s => (fun r D' G' c' => Ty D' ∧ (r = W + 1 ∧ d_I D' 2106 (s_ G 21) = W + 1 ∧ (∃ ch, z_Q G' 2105 (s_ G 21) W = some ch ∧ ChS D' ch x1 x2 x3 x4 x5 x6 ∧ ∀ bb, bb ≠ ch → ChSm D D' bb) ∧ PoG G' c' ∧ PoD D' G' ∧ GoX c.1 G G' ∧ c.1 ≤ c'.1)) r s.1 s.2.1 s.2.2) (fun e s => (fun (e : Nat) D' G' c' => Ty D' ∧ (e = 99 ∧ False)) e s.1 s.2.1 s.2.2)) := fun g c2 ch k1 k2 k3 k4 k5 => by
    have b := s_X21_change_120 (x1 := x1) (x2 := x2) (x3 := x3) (x4 := x4) (x5 := x5) (x6 := x6) (W := W) (ch := ch) (G := g) (D := D) (c := c2) hT (by rw [k3.1]; omega) k5
    refine w_thm (Wp.fr b fr_X21_change_120) (fun r s P F => ?_) (fun e s P F => absurd P.2.2 id)
    obtain ⟨sa, sg, sc⟩ := s
    obtain ⟨T, r1, r2, r3, r4, r5, r6⟩ := P
    dsimp only at r2 r3 r4 r5 r6
    subst r5; subst r6
    rw [k3.1] at k5 r2
    exact ⟨T, r1, r2, ⟨ch, k5, r3, r4⟩, k1, k2.fr F rfl, k3, k4⟩
  refine w_lQ ⟨by omega, by omega⟩ fun w4 e4 => ?_
  refine w_ite (fun z => ?_) (fun z => ?_)
  · refine w_let fun b6 e6 => ?_
    subst e6
    refine w_b (R := fun p => p = (D, mkA G c 23 6)) ⟨_, rfl, rfl⟩ fun p7 e7 => ?_
    subst e7
    dsimp only
    refine w_tQ ⟨by omega, by omega⟩ fun g9 e9 => ?_
    have hn : z_Q G 2105 (s_ G 21) W = none := by rw [← e4]; exact z
    have hx : GtX c.1 G (mkA G c 23 6).1 := ⟨rfl, fun _ _ _ => rfl, fun _ _ _ _ => rfl, fun _ _ _ => rfl, fun _ _ _ => rfl⟩
    have P := hG.h (c' := (mkA G c 23 6).2) (k := W) hn hx (by show c.1 < c.1 + 1; omega)
    rw [← show g9 = w_Q (mkA G c 23 6).1 2105 (s_ G 21) W (some c.1) from e9] at P
    have q2 : ∀ m a j, m ≠ 2105 → z_Q g9 m a j = z_Q G m a j := fun m a j n => by
      rw [e9, zQ_w, if_neg (fun q => n q.1)]; rfl
    exact fin g9 _ c.1 P.1 (hP.o hG DtX.rf P.2.1 (fun _ => q2 _ _ _ (by decide)) (fun _ => q2 _ _ _ (by decide))) P.2 (by show c.1 ≤ c.1 + 1; omega) (by
      rw [P.2.1, e9, zQ_w, if_pos ⟨rfl, rfl, rfl⟩])
  · cases hw : w4 with
    | none => exact absurd hw z
    | some co => exact fin G c co hG hP GoX.rf (Nat.le_refl _) (by rw [← e4]; exact hw)
set_option maxHeartbeats 8000000 in
theorem s_X21_change {x1 : Int} {x2 : Int} {x3 : Int} {x4 : Int} {x5 : Int} {x6 : Int} {G : Gt} {D : Dt} {c : Ct} {W : Int} (hT : Ty D) (hG : PoG G c) (hP : PoD D G) (h0 : d_I D 2106 (s_ G 21) = W ∧ 0 ≤ W ∧ W < 32 ∧ 0 ≤ x1 ∧ x1 ≤ 32 ∧ x1 < x2 ∧ x2 ≤ 33 ∧ 0 ≤ x3 ∧ x3 ≤ 15 ∧ x3 < x4 ∧ x4 ≤ 16 ∧ 1 ≤ x5 ∧ x5 ≤ 255 ∧ 0 ≤ x6 ∧ x6 ≤ 4) : Wp (q_X21_change x1 x2 x3 x4 x5 x6 G D c) (Th (fun r s => (fun r D' G' c' => Ty D' ∧ (r = W + 1 ∧ d_I D' 2106 (s_ G 21) = W + 1 ∧ (∃ ch, z_Q G' 2105 (s_ G 21) W = some ch ∧ ChS D' ch x1 x2 x3 x4 x5 x6 ∧ ∀ bb, bb ≠ ch → ChSm D D' bb) ∧ PoG G' c' ∧ PoD D' G' ∧ GoX c.1 G G' ∧ c.1 ≤ c'.1)) r s.1 s.2.1 s.2.2) (fun e s => (fun (e : Nat) D' G' c' => Ty D' ∧ (e = 99 ∧ False)) e s.1 s.2.1 s.2.2)) := by
  refine w_un (q_X21_change.eq_1 ..) ?_
  refine w_let fun v1 e_v1 => ?_
  simp only [q_X21_is] at e_v1
  rw [if_neg (by omega), if_neg (by omega)] at e_v1
  refine w_ite (fun hc1 => ?_) (fun hc1 => ?_)
  · skip
    exfalso; omega
  · skip
    refine w_gd (by (first | omega | assumption | (subst_vars; first | omega | assumption) | done)) ?_
    refine w_let fun v2 e_v2 => ?_
    simp only [q_X21_is] at e_v2
    rw [if_neg (by omega), if_neg (by omega)] at e_v2
    refine w_ite (fun hc2 => ?_) (fun hc2 => ?_)
    · skip
      exfalso; omega
    · skip
      refine w_let fun v3 e_v3 => ?_
      simp only [q_X21_is] at e_v3
      rw [if_neg (by omega), if_neg (by omega)] at e_v3
      refine w_ite (fun hc3 => ?_) (fun hc3 => ?_)
      · skip
        exfalso; omega
      · skip
        refine w_gd (by (first | omega | assumption | (subst_vars; first | omega | assumption) | done)) ?_
        refine w_let fun v4 e_v4 => ?_
        simp only [q_X21_is] at e_v4
        rw [if_neg (by omega), if_neg (by omega)] at e_v4
        refine w_ite (fun hc4 => ?_) (fun hc4 => ?_)
        · skip
          exfalso; omega
        · skip
          refine w_let fun v5 e_v5 => ?_
          simp only [q_X21_is] at e_v5
          rw [if_neg (by omega), if_neg (by omega)] at e_v5
          refine w_ite (fun hc5 => ?_) (fun hc5 => ?_)
          · skip
            exfalso; omega
          · skip
            refine w_let fun v6 e_v6 => ?_
            simp only [q_X21_is] at e_v6
            rw [if_neg (by omega), if_neg (by omega)] at e_v6
            refine w_ite (fun hc6 => ?_) (fun hc6 => ?_)
            · skip
              exfalso; omega
            · skip
              refine w_un (q_X21_change_72.eq_1 ..) ?_
              refine w_thu (Wp.fr (s_X21_need hT) fr_X21_need) (fun u p2_2 h_p2_2 => ?_) (fun e_x p2_2 h_p2_2 => ?_)
              · skip
                obtain ⟨⟨T_p2_2, h_p2_2⟩, F_p2_2⟩ := h_p2_2
                try dsimp only at T_p2_2 h_p2_2 F_p2_2
                have t1 := ty_2106 hT (s_ G 21)
                generalize e_ts0 : (if (32 : Int) ≤ (d_I D 2106 (s_ G 21)) then (0 : Int) else (1 : Int)) = ts0
                have j1_hG : PoG G p2_2.2 := by
                  rw [h_p2_2.2.2]; exact hG
                have j1_hP : PoD p2_2.1 G := by
                  (first | assumption | exact (PoD.fr (by assumption) F_p2_2 rfl))
                have j1_h0 : d_I p2_2.1 2106 (s_ G 21) = W ∧ 0 ≤ W ∧ W < 32 ∧ 0 ≤ x1 ∧ x1 ≤ 32 ∧ 1 ≤ x2 ∧ x2 ≤ 33 ∧ 0 ≤ x3 ∧ x3 ≤ 15 ∧ 1 ≤ x4 ∧ x4 ≤ 16 ∧ 1 ≤ x5 ∧ x5 ≤ 255 ∧ 0 ≤ x6 ∧ x6 ≤ 4 ∧ ts0 ≠ 0 := by
                  rw [h_p2_2.2.1]; omega
                refine w_thm (Wp.fr (s_X21_change_89 (W := W) T_p2_2 j1_hG j1_hP j1_h0) fr_X21_change_89) (fun r s ho hF => ?_) (fun e s ho hF => ?_)
                · skip
                  obtain ⟨hT', ho⟩ := ho
                  try dsimp only at hT' ho ⊢
                  try dsimp only at hF
                  refine ⟨hT', ?_⟩
                  rw [h_p2_2.2.2, h_p2_2.2.1] at ho; exact ho
                · skip
                  obtain ⟨hT', ho⟩ := ho
                  try dsimp only at hT' ho ⊢
                  try dsimp only at hF
                  refine ⟨hT', ?_⟩
                  exact ho
              · skip
                obtain ⟨⟨T_p2_2, h_p2_2⟩, F_p2_2⟩ := h_p2_2
                try dsimp only at T_p2_2 h_p2_2 F_p2_2
                refine th_inr ?_
                try dsimp only
                refine ⟨T_p2_2, ?_⟩
                (first | omega | assumption | (subst_vars; first | omega | assumption) | done)
