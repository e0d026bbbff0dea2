/-! specifications, printed by gen/mks.py -/
set_option maxRecDepth 100000
theorem CmI.fr {D D' : Dt} {G : Gt} {g : Cg} {q : Sq} {S : List Nat} (h : CmI D G g q) (F : Fr S D D') (hd : ([6323, 6324, 6325, 6326, 6329].all fun j => !S.contains j) = true) : CmI D' G g q := by
  have e : BeT D' G g q = BeT D G g q := by
    unfold BeT
    rw [F.a (i := 6324) (dsO_o hd (by decide)), F.i (i := 6325) (dsO_o hd (by decide)), F.i (i := 6326) (dsO_o hd (by decide)), F.i (i := 6329) (dsO_o hd (by decide))]
  unfold CmI
  rw [e, F.a (i := 6323) (dsO_o hd (by decide)), F.i (i := 6325) (dsO_o hd (by decide))]
  exact h
def idT : List Nat := [6312, 6313, 6314, 6315, 6316, 6317, 6318, 6319, 6320, 6321, 6322, 6323, 6324, 6325, 6326, 6327, 6328, 6329]
theorem all_sub {T U S : List Nat} (h : (T.all fun j => !S.contains j) = true) (u : (U.all fun j => T.contains j) = true) : (U.all fun j => !S.contains j) = true :=
  List.all_eq_true.mpr fun j hj => by rw [dsO_o h (List.all_eq_true.mp u j hj)]; rfl
theorem TSt.fr {D D' : Dt} {G : Gt} {od : Od} {g : Cg} {q : Sq} {S : List Nat} (h : TSt D G od g q) (F : Fr S D D') (hd : (idT.all fun j => !S.contains j) = true) : TSt D' G od g q := by
  obtain ⟨h1, h2, h3, h4, h5, h6, h7, h8⟩ := h
  exact ⟨h1.fr F (all_sub hd (by decide)), h2.fr F (all_sub hd (by decide)), h3, h4, h5, h6.fr F (all_sub hd (by decide)), h7.fr F (all_sub hd (by decide)), by rw [F.i (i := 6316) (dsO_o hd (by decide))]; exact h8⟩
theorem TMe_u {D : Dt} {G : Gt} {g : Cg} (hT : Ty D) (hg : CgOk g) : TMe D G g ≤ 40000000 := by
  have a := ty_6328 hT (s_ G 63)
  have b := ty_6326 hT (s_ G 63)
  have c := ty_6327 hT (s_ G 63)
  have d := ty_6329 hT (s_ G 63)
  have e := ty_6325 hT (s_ G 63)
  unfold TMe
  split
  · rename_i z
    have L := (hg.2.2 _ e.1 z).2.1
    have W := hg.2.1
    have x := Int.mul_nonneg a.1 (show 0 ≤ cgL g (d_I D 6325 (s_ G 63)) by omega)
    have y := Int.mul_nonneg b.1 c.1
    have w : d_I D 6326 (s_ G 63) * d_I D 6328 (s_ G 63) ≤ 255 * 4096 := Int.mul_le_mul b.2 a.2 a.1 (by decide)
    rw [Int.mul_sub]
    omega
  · decide
set_option maxHeartbeats 8000000 in
theorem s_X63_advance {N : Nat} {G : Gt} {D : Dt} (hN : 1099511627776 ≤ N) {od : Od} {g : Cg} {q : Sq} (hT : Ty D) (hs : TSt D G od g q) : Wp (q_X63_advance N G D) (fun o => (fun r D' => Ty D' ∧ (StR g q (BeT D G g q) (d_A D 6323 (s_ G 63)) r (d_I D' 6333 (s_ G 63)) (d_I D' 6331 (s_ G 63)) (d_I D' 6332 (s_ G 63)) (BeT D' G g q) (d_A D' 6323 (s_ G 63)) ∧ TPo D' G g q ∧ CmI D' G g q ∧ 0 ≤ r ∧ r ≤ 1 ∧ (r ≠ 0 → (d_I D' 6330 (s_ G 63)) = 1))) o.1 o.2) := by
  refine w_un (q_X63_advance.eq_1 ..) ?_
  have z1 := hs.1
  have z2 := hs.2.1
  have z3 := hs.2.2.1.qik hs.2.2.2.1
  have z4 := hs.2.2.2.2.2.1
  have z5 := hs.2.2.1.sqr hs.2.2.2.1 hs.2.2.2.2.1
  have z6 := hs.2.2.2.2.2.2.1
  have t1 := ty_6333 hT (s_ G 63)
  have t2 := ty_6331 hT (s_ G 63)
  have t3 := ty_6332 hT (s_ G 63)
  have t4 := ty_6330 hT (s_ G 63)
  have j1_hg : TCg D G g := by
    (first | assumption)
  have j1_hq : TSq D G q := by
    (first | assumption)
  have j1_hk : QiK q := by
    (first | omega | assumption | (subst_vars; first | omega | assumption) | done)
  have j1_hp : TPo D G g q := by
    (first | assumption)
  have j1_hr : SqR q := by
    (first | omega | assumption | (subst_vars; first | omega | assumption) | done)
  have j1_h0 : 0 ≤ (0 : Int) ∧ (0 : Int) ≤ 1 := by
    (first | omega | assumption | (subst_vars; first | omega | assumption) | done)
  have j1_hc : CmI D G g q := by
    (first | assumption)
  have j1_hA : (0 : Int) = 0 → (∀ i, 0 ≤ i → i < sqM q → (d_A D 6323 (s_ G 63) (i)) = (d_A D 6323 (s_ G 63)) i) ∧ (∀ w k l, Vld g q w k l → BeT D G g q w k l → (BeT D G g q) w k l) ∧ (∀ w k l, Cnd g q (d_A D 6323 (s_ G 63)) w k l → (BeT D G g q) w k l → BeT D G g q w k l) := by
    intro _; exact ⟨fun _ _ _ => rfl, fun _ _ _ _ b => b, fun _ _ _ _ b => b⟩
  have j1_hB : (0 : Int) ≠ 0 → StR g q (BeT D G g q) (d_A D 6323 (s_ G 63)) 1 (d_I D 6333 (s_ G 63)) (d_I D 6331 (s_ G 63)) (d_I D 6332 (s_ G 63)) (BeT D G g q) (d_A D 6323 (s_ G 63)) ∧ (d_I D 6330 (s_ G 63)) = 1 := by
    intro z; exact absurd rfl z
  have j1_hm : max 0 (TMe D G g) < N := by
    have := TMe_u (G := G) hT hs.1.1; omega
  refine Wp.mo (s_X63_advance_2 hN (g := g) (q := q) (B0 := BeT D G g q) (C0 := (d_A D 6323 (s_ G 63))) _ hT j1_hg j1_hq j1_hk j1_hp j1_hr j1_h0 j1_hc j1_hA j1_hB j1_hm) ?_
  intro o ho
  exact ho
set_option maxHeartbeats 8000000 in
theorem s_X63_next {N : Nat} {G : Gt} {D : Dt} (hN : 1099511627776 ≤ N) {od : Od} {g : Cg} {q : Sq} (hT : Ty D) (hs : TSt D G od g q) : Wp (q_X63_next N G D) (fun o => (fun r D' => Ty D' ∧ (StR g q (BeT D G g q) (d_A D 6323 (s_ G 63)) r (d_I D' 6333 (s_ G 63)) (d_I D' 6331 (s_ G 63)) (d_I D' 6332 (s_ G 63)) (BeT D' G g q) (d_A D' 6323 (s_ G 63)) ∧ TSt D' G od g q ∧ 0 ≤ r ∧ r ≤ 1 ∧ (r ≠ 0 → (d_I D' 6330 (s_ G 63)) = 1))) o.1 o.2) := by
  refine w_un (q_X63_next.eq_1 ..) ?_
  have z8 := hs.2.2.2.2.2.2.2
  have t1 := ty_6316 hT (s_ G 63)
  generalize e_ts0 : (if (d_I D 6316 (s_ G 63)) = (0 : Int) then (1 : Int) else (0 : Int)) = ts0
  refine w_un (q_X63_next_13.eq_1 ..) ?_
  unfold q_X63_refuse q_X63_refuse_18
  generalize e_ts0_2 : (if ts0 = (0 : Int) then (if (0 : Int) = (0 : Int) then (0 : Int) else (2 : Int)) else (1 : Int)) = ts0_2
  refine w_ll2 ?_
  refine w_let fun d1 e_d1 => ?_
  have T_d1 : Ty d1 := tyI_no e_d1 hT rfl
  refine w_lif2 (fun hc1 => ?_) (fun hc1 => ?_)
  · skip
    refine w_let2 fun v3 d2 e_v3 e_d2 => ?_
    have T_d2 : Ty d2 := ty_e e_d2 T_d1
    refine w_ite (fun hc2 => ?_) (fun hc2 => ?_)
    · skip
      have c2_hs : TSt d2 G od g q := by
        (first | assumption | exact (TSt.fr (by assumption) (Fr.eq0 e_d2) rfl) | exact (TSt.fr (TSt.fr (by assumption) (Fr.uI e_d1) rfl) (Fr.eq0 e_d2) rfl))
      refine w_b2 (Wp.fr (s_X63_advance hN T_d2 c2_hs) fr_X63_advance) fun v6 d5 h_v6 => ?_
      obtain ⟨⟨T_d5, h_v6⟩, F_d5⟩ := h_v6
      try dsimp only at T_d5 h_v6 F_d5
      have rq1 : d_A d2 6323 (s_ G 63) = d_A D 6323 (s_ G 63) := Eq.trans (rdA_e e_d2) (rdA_I e_d1)
      try simp only [rq1] at h_v6
      refine w_gd (by (first | omega | assumption | (subst_vars; first | omega | assumption) | done)) ?_
      refine w_some ?_
      try dsimp only
      refine ⟨T_d5, ?_⟩
      have t2 := ty_6333 T_d5 (s_ G 63)
      have t3 := ty_6331 T_d5 (s_ G 63)
      have t4 := ty_6332 T_d5 (s_ G 63)
      have t5 := ty_6330 T_d5 (s_ G 63)
      have a6 : d_A d2 6323 = d_A D 6323 := by rw [e_d2, e_d1]; rfl
      have c2' : TSt d2 G od g q := by rw [e_d2]; exact hs.fr (Fr.uI e_d1) rfl
      have t5 : TSt d5 G od g q := ⟨c2'.1.fr F_d5 rfl, c2'.2.1.fr F_d5 rfl, c2'.2.2.1, c2'.2.2.2.1, c2'.2.2.2.2.1, h_v6.2.1, h_v6.2.2.1, by rw [F_d5.i (i := 6316) rfl]; exact c2'.2.2.2.2.2.2.2⟩
      have h6 := h_v6.1
      have b2 : BeT d2 G g q = BeT D G g q := by rw [e_d2]; exact BeT.fr (Fr.uI e_d1) rfl
      rw [b2] at h6
      exact ⟨h6, t5, h_v6.2.2.2⟩
    · skip
      exfalso; omega
  · skip
    exfalso; omega
set_option maxHeartbeats 8000000 in
theorem s_X63_packet {x1 : Int} {G : Gt} {D : Dt} {od : Od} {g : Cg} {q : Sq} (hT : Ty D) (hs : TSt D G od g q) (h0 : 0 ≤ x1 ∧ x1 ≤ 4 ∧ (d_I D 6330 (s_ G 63)) = 1) : Wp (q_X63_packet x1 G D) (fun o => (fun r D' => Ty D' ∧ (r = (if x1 = 0 then (d_I D 6332 (s_ G 63)) else if x1 = 1 then sqV q (d_I D 6331 (s_ G 63)) else if x1 = 2 then sqC q (d_I D 6331 (s_ G 63)) else if x1 = 3 then sqNm q (d_I D 6331 (s_ G 63)) else (d_I D 6333 (s_ G 63))) ∧ TSt D' G od g q)) o.1 o.2) := by
  refine w_un (q_X63_packet.eq_1 ..) ?_
  have t1 := ty_6330 hT (s_ G 63)
  have t2 := ty_6332 hT (s_ G 63)
  have t3 := ty_6331 hT (s_ G 63)
  have t4 := ty_6333 hT (s_ G 63)
  have z8 := hs.2.2.2.2.2.2.2
  have z2 := hs.2.1
  have t5 := ty_6316 hT (s_ G 63)
  refine w_ite (fun hc1 => ?_) (fun hc1 => ?_)
  · skip
    exfalso; omega
  · skip
    refine w_ite (fun hc2 => ?_) (fun hc2 => ?_)
    · skip
      exfalso; omega
    · skip
      refine w_ite (fun hc3 => ?_) (fun hc3 => ?_)
      · skip
        exfalso; omega
      · skip
        refine w_ite (fun hc4 => ?_) (fun hc4 => ?_)
        · skip
          refine w_un (q_X63_packet_29.eq_1 ..) ?_
          unfold q_X63_refuse q_X63_refuse_18
          generalize e_ts0 : (if (0 : Int) = (0 : Int) then (if (0 : Int) = (0 : Int) then (0 : Int) else (2 : Int)) else (1 : Int)) = ts0
          refine w_ll2 ?_
          refine w_let fun d1 e_d1 => ?_
          have T_d1 : Ty d1 := tyI_no e_d1 hT rfl
          refine w_lif2 (fun hc5 => ?_) (fun hc5 => ?_)
          · skip
            refine w_let2 fun v3 d2 e_v3 e_d2 => ?_
            have T_d2 : Ty d2 := ty_e e_d2 T_d1
            refine w_ite (fun hc6 => ?_) (fun hc6 => ?_)
            · skip
              refine w_ite (fun hc7 => ?_) (fun hc7 => ?_)
              · skip
                refine w_some ?_
                try dsimp only
                refine ⟨T_d2, ?_⟩
                refine ⟨?_, by rw [e_d2]; exact hs.fr (Fr.uI e_d1) rfl⟩
                rw [if_pos hc7]
              refine w_ite (fun hc8 => ?_) (fun hc8 => ?_)
              · skip
                refine w_lA (by (first | omega | assumption | (subst_vars; first | omega | assumption) | done)) fun v5 e_v5 => ?_
                have t_v5 : 0 ≤ v5 ∧ v5 ≤ 32 := by rw [e_v5]; exact ty_6319 hT _ _
                refine w_some ?_
                try dsimp only
                refine ⟨T_d2, ?_⟩
                refine ⟨?_, by rw [e_d2]; exact hs.fr (Fr.uI e_d1) rfl⟩
                rw [if_neg hc7, if_pos hc8, e_v5, z2.2.2.1]
              refine w_ite (fun hc9 => ?_) (fun hc9 => ?_)
              · skip
                refine w_lA (by (first | omega | assumption | (subst_vars; first | omega | assumption) | done)) fun v7 e_v7 => ?_
                have t_v7 : 0 ≤ v7 ∧ v7 ≤ 15 := by rw [e_v7]; exact ty_6318 hT _ _
                refine w_some ?_
                try dsimp only
                refine ⟨T_d2, ?_⟩
                refine ⟨?_, by rw [e_d2]; exact hs.fr (Fr.uI e_d1) rfl⟩
                rw [if_neg hc7, if_neg hc8, if_pos hc9, e_v7, z2.2.1]
              refine w_ite (fun hc10 => ?_) (fun hc10 => ?_)
              · skip
                refine w_lA (by (first | omega | assumption | (subst_vars; first | omega | assumption) | done)) fun v9 e_v9 => ?_
                have t_v9 : 0 ≤ v9 ∧ v9 ≤ 4095 := by rw [e_v9]; exact ty_6320 hT _ _
                refine w_some ?_
                try dsimp only
                refine ⟨T_d2, ?_⟩
                refine ⟨?_, by rw [e_d2]; exact hs.fr (Fr.uI e_d1) rfl⟩
                rw [if_neg hc7, if_neg hc8, if_neg hc9, if_pos hc10, e_v9, z2.2.2.2.1]
              refine w_some ?_
              try dsimp only
              refine ⟨T_d2, ?_⟩
              refine ⟨?_, by rw [e_d2]; exact hs.fr (Fr.uI e_d1) rfl⟩
              rw [if_neg hc7, if_neg hc8, if_neg hc9, if_neg hc10]
            · skip
              exfalso; omega
          · skip
            exfalso; omega
        · skip
          exfalso; omega
theorem tile_e {x1 x2 x3 x4 : Int} {G : Gt} {D : Dt} (h : 0 ≤ x1 ∧ x1 < x3 ∧ x3 ≤ 32767 ∧ 0 ≤ x2 ∧ x2 < x4 ∧ x4 ≤ 32767) : q_X63_tile x1 x2 x3 x4 G D = u_I (u_I (u_I (u_I (u_I (u_I (u_I D 6300 (s_ G 63) 0) 6301 (s_ G 63) 1) 6302 (s_ G 63) x1) 6303 (s_ G 63) x2) 6304 (s_ G 63) x3) 6305 (s_ G 63) x4) 6316 (s_ G 63) 0 := by
  unfold q_X63_tile
  rw [if_neg (by omega), if_neg (by omega), if_neg (by omega), if_neg (by omega), if_neg (by omega), if_neg (by omega)]
  rfl
theorem layers_e {x1 x2 : Int} {G : Gt} {D : Dt} (h : 1 ≤ x1 ∧ x1 ≤ 255 ∧ 0 ≤ x2 ∧ x2 ≤ 4) : q_X63_layers x1 x2 G D = u_I (u_I (u_I (u_I D 6300 (s_ G 63) 0) 6312 (s_ G 63) x1) 6313 (s_ G 63) x2) 6316 (s_ G 63) 0 := by
  unfold q_X63_layers
  rw [if_neg (by omega), if_neg (by omega), if_neg (by omega), if_pos (by omega)]
  rfl
set_option maxHeartbeats 8000000 in
theorem s_X63_change {x1 : Int} {x2 : Int} {x3 : Int} {x4 : Int} {x5 : Int} {x6 : Int} {G : Gt} {D : Dt} (hT : Ty D) (h0 : 0 ≤ x1 ∧ x1 ≤ 32 ∧ x1 < x2 ∧ x2 ≤ 33 ∧ 0 ≤ x3 ∧ x3 ≤ 15 ∧ x3 < x4 ∧ x4 ≤ 16 ∧ 1 ≤ x5 ∧ x5 ≤ 255 ∧ 0 ≤ x6 ∧ x6 ≤ 4 ∧ (d_I D 6314 (s_ G 63)) < 32) : Wp (q_X63_change x1 x2 x3 x4 x5 x6 G D) (fun o => (fun r D' => Ty D' ∧ ((d_I D' 6314 (s_ G 63)) = (d_I D 6314 (s_ G 63)) + 1 ∧ ∀ i, d_A D' 6315 (s_ G 63) i = if i = 6 * (d_I D 6314 (s_ G 63)) + 5 then x6 else if i = 6 * (d_I D 6314 (s_ G 63)) + 4 then x5 else if i = 6 * (d_I D 6314 (s_ G 63)) + 3 then x4 else if i = 6 * (d_I D 6314 (s_ G 63)) + 2 then x3 else if i = 6 * (d_I D 6314 (s_ G 63)) + 1 then x2 else if i = 6 * (d_I D 6314 (s_ G 63)) then x1 else d_A D 6315 (s_ G 63) i)) o.1 o.2) := by
  refine w_un (q_X63_change.eq_1 ..) ?_
  have t1 := ty_6314 hT (s_ G 63)
  refine w_ite (fun hc1 => ?_) (fun hc1 => ?_)
  · skip
    exfalso; omega
  · skip
    refine w_ite (fun hc2 => ?_) (fun hc2 => ?_)
    · skip
      exfalso; omega
    · skip
      refine w_ite (fun hc3 => ?_) (fun hc3 => ?_)
      · skip
        exfalso; omega
      · skip
        refine w_ite (fun hc4 => ?_) (fun hc4 => ?_)
        · skip
          exfalso; omega
        · skip
          refine w_ite (fun hc5 => ?_) (fun hc5 => ?_)
          · skip
            exfalso; omega
          · skip
            refine w_ite (fun hc6 => ?_) (fun hc6 => ?_)
            · skip
              exfalso; omega
            · skip
              refine w_ite (fun hc7 => ?_) (fun hc7 => ?_)
              · skip
                exfalso; omega
              · skip
                refine w_ite (fun hc8 => ?_) (fun hc8 => ?_)
                · skip
                  exfalso; omega
                · skip
                  refine w_ite (fun hc9 => ?_) (fun hc9 => ?_)
                  · skip
                    exfalso; omega
                  · skip
                    refine w_ite (fun hc10 => ?_) (fun hc10 => ?_)
                    · skip
                      exfalso; omega
                    · skip
                      refine w_ite (fun hc11 => ?_) (fun hc11 => ?_)
                      · skip
                        exfalso; omega
                      · skip
                        refine w_ite (fun hc12 => ?_) (fun hc12 => ?_)
                        · skip
                          exfalso; omega
                        · skip
                          refine w_un (q_X63_change_74.eq_1 ..) ?_
                          generalize e_ts0 : (if (1 : Int) = (0 : Int) then (1 : Int) else (0 : Int)) = ts0
                          refine w_un (q_X63_change_87.eq_1 ..) ?_
                          generalize e_ts0_2 : (if (d_I D 6314 (s_ G 63)) = (32 : Int) then (1 : Int) else (0 : Int)) = ts0_2
                          refine w_un (q_X63_change_101.eq_1 ..) ?_
                          unfold q_X63_refuse q_X63_refuse_18
                          generalize e_ts0_3 : (if ts0 = (0 : Int) then (if ts0_2 = (0 : Int) then (0 : Int) else (2 : Int)) else (1 : Int)) = ts0_3
                          refine w_ll2 ?_
                          refine w_let fun d1 e_d1 => ?_
                          have T_d1 : Ty d1 := tyI_no e_d1 hT rfl
                          refine w_lif2 (fun hc13 => ?_) (fun hc13 => ?_)
                          · skip
                            refine w_let2 fun v3 d2 e_v3 e_d2 => ?_
                            have T_d2 : Ty d2 := ty_e e_d2 T_d1
                            refine w_ite (fun hc14 => ?_) (fun hc14 => ?_)
                            · skip
                              refine w_gd (by (first | omega | assumption | (subst_vars; first | omega | assumption) | done)) ?_
                              refine w_tA (by (first | omega | assumption | (subst_vars; first | omega | assumption) | done)) fun d5 e_d5 => ?_
                              have T_d5 : Ty d5 := tyA_6315 e_d5 T_d2 (by (first | omega | assumption | (subst_vars; first | omega | assumption) | done))
                              have w_d5 := wA e_d5
                              have rq1 : d_A d2 6315 (s_ G 63) = d_A D 6315 (s_ G 63) := Eq.trans (rdA_e e_d2) (rdA_I e_d1)
                              try simp only [rq1] at w_d5
                              refine w_gd (by (first | omega | assumption | (subst_vars; first | omega | assumption) | done)) ?_
                              refine w_tA (by (first | omega | assumption | (subst_vars; first | omega | assumption) | done)) fun d7 e_d7 => ?_
                              have T_d7 : Ty d7 := tyA_6315 e_d7 T_d5 (by (first | omega | assumption | (subst_vars; first | omega | assumption) | done))
                              have w_d7 := wA e_d7
                              refine w_gd (by (first | omega | assumption | (subst_vars; first | omega | assumption) | done)) ?_
                              refine w_tA (by (first | omega | assumption | (subst_vars; first | omega | assumption) | done)) fun d9 e_d9 => ?_
                              have T_d9 : Ty d9 := tyA_6315 e_d9 T_d7 (by (first | omega | assumption | (subst_vars; first | omega | assumption) | done))
                              have w_d9 := wA e_d9
                              refine w_gd (by (first | omega | assumption | (subst_vars; first | omega | assumption) | done)) ?_
                              refine w_tA (by (first | omega | assumption | (subst_vars; first | omega | assumption) | done)) fun d11 e_d11 => ?_
                              have T_d11 : Ty d11 := tyA_6315 e_d11 T_d9 (by (first | omega | assumption | (subst_vars; first | omega | assumption) | done))
                              have w_d11 := wA e_d11
                              refine w_gd (by (first | omega | assumption | (subst_vars; first | omega | assumption) | done)) ?_
                              refine w_tA (by (first | omega | assumption | (subst_vars; first | omega | assumption) | done)) fun d13 e_d13 => ?_
                              have T_d13 : Ty d13 := tyA_6315 e_d13 T_d11 (by (first | omega | assumption | (subst_vars; first | omega | assumption) | done))
                              have w_d13 := wA e_d13
                              refine w_gd (by (first | omega | assumption | (subst_vars; first | omega | assumption) | done)) ?_
                              refine w_tA (by (first | omega | assumption | (subst_vars; first | omega | assumption) | done)) fun d15 e_d15 => ?_
                              have T_d15 : Ty d15 := tyA_6315 e_d15 T_d13 (by (first | omega | assumption | (subst_vars; first | omega | assumption) | done))
                              have w_d15 := wA e_d15
                              refine w_let fun d16 e_d16 => ?_
                              have T_d16 : Ty d16 := tyI_6316 e_d16 T_d15 (by (first | omega | assumption | (subst_vars; first | omega | assumption) | done))
                              refine w_gd (by (first | omega | assumption | (subst_vars; first | omega | assumption) | done)) ?_
                              refine w_let fun v18 e_v18 => ?_
                              refine w_let fun d17 e_d17 => ?_
                              have T_d17 : Ty d17 := tyI_6314 e_d17 T_d16 (by (first | omega | assumption | (subst_vars; first | omega | assumption) | done))
                              refine w_some ?_
                              try dsimp only
                              refine ⟨T_d17, ?_⟩
                              have rq2 : d_I d17 6314 (s_ G 63) = v18 := rdI_s e_d17
                              try simp only [rq2]
                              refine ⟨by omega, fun i => ?_⟩
                              have a : d_A d2 = d_A D := by rw [e_d2, e_d1]; rfl
                              rw [show d_A d17 6315 = d_A d15 6315 by rw [e_d17, e_d16]; rfl, e_d15, e_d13, e_d11, e_d9, e_d7, e_d5]
                              simp only [rA_A, a]; simp
                            · skip
                              exfalso; omega
                          · skip
                            exfalso; omega
