/-! specifications, printed by gen/mks.py -/
set_option maxRecDepth 100000
/-- the first of those before (K, R) -/
def FsB (D : Dt) (G : Gt) (od : Od) (g : Cg) (w : Int) (b : Option Nat) (K R : Int) : Prop :=
  (b = none ∧ ∀ c r, (c < K ∨ c = K ∧ r < R) → ¬ Qfy D G od g w c r) ∨ ∃ st c r, b = some st ∧ Qfy D G od g w c r ∧ StrI D G od c r st ∧ (c < K ∨ c = K ∧ r < R) ∧ ∀ c' r', (c' < K ∨ c' = K ∧ r' < R) → Qfy D G od g w c' r' → ¬ ll (mhd D G od c' r') (mhd D G od c r)
theorem FsB.no {D : Dt} {G : Gt} {od : Od} {g : Cg} {w : Int} {b : Option Nat} {K R : Int} (h : FsB D G od g w b K R) (n : ¬ Qfy D G od g w K R) : FsB D G od g w b K (R + 1) := by
  rcases h with ⟨h1, h2⟩ | ⟨st, c, r, h1, h2, h3, h4, h5⟩
  · refine .inl ⟨h1, fun c r l => ?_⟩
    by_cases z : c = K ∧ r = R
    · rw [z.1, z.2]; exact n
    · exact h2 c r (by omega)
  · refine .inr ⟨st, c, r, h1, h2, h3, by omega, fun c' r' l q => ?_⟩
    by_cases z : c' = K ∧ r' = R
    · rw [z.1, z.2] at q; exact absurd q n
    · exact h5 c' r' (by omega) q
theorem FsB.row {D : Dt} {G : Gt} {od : Od} {g : Cg} {w : Int} {b : Option Nat} {K R : Int} (h : FsB D G od g w b K R) (hR : oNL od K < R) (hK : 0 ≤ K) : FsB D G od g w b (K + 1) 0 := by
  have e : ∀ c r, (c < K + 1 ∨ c = K + 1 ∧ r < 0) → Qfy D G od g w c r → (c < K ∨ c = K ∧ r < R) := fun c r l q => by
    have v := q.1.2
    by_cases z : c = K
    · rw [z] at v; omega
    · omega
  rcases h with ⟨h1, h2⟩ | ⟨st, c, r, h1, h2, h3, h4, h5⟩
  · exact .inl ⟨h1, fun c r l q => h2 c r (e c r l q) q⟩
  · exact .inr ⟨st, c, r, h1, h2, h3, by omega, fun c' r' l q => h5 c' r' (e c' r' l q) q⟩
/-- the one at hand is first -/
theorem FsB.hd {D : Dt} {G : Gt} {od : Od} {g : Cg} {w : Int} {b : Option Nat} {K R : Int} {st : Nat} (h : FsB D G od g w b K R) (q0 : Qfy D G od g w K R) (s0 : StrI D G od K R st) (lt : ∀ s2 c r, b = some s2 → Qfy D G od g w c r → StrI D G od c r s2 → (c < K ∨ c = K ∧ r < R) → ll (mhd D G od K R) (mhd D G od c r)) : FsB D G od g w (some st) K (R + 1) := by
  refine .inr ⟨st, K, R, rfl, q0, s0, by omega, fun c' r' l q => ?_⟩
  by_cases z : c' = K ∧ r' = R
  · rw [z.1, z.2]; exact ll_ir _
  · rcases h with ⟨h1, h2⟩ | ⟨s2, c, r, h1, h2, h3, h4, h5⟩
    · exact absurd q (h2 c' r' (by omega))
    · have t := lt s2 c r h1 h2 h3 h4
      intro y
      exact h5 c' r' (by omega) q (ll_tr _ _ _ y t)
/-- the one before stays -/
theorem FsB.kp {D : Dt} {G : Gt} {od : Od} {g : Cg} {w : Int} {K R : Int} {s2 : Nat} (h : FsB D G od g w (some s2) K R) (lt : ∀ c r, Qfy D G od g w c r → StrI D G od c r s2 → (c < K ∨ c = K ∧ r < R) → ¬ ll (mhd D G od K R) (mhd D G od c r)) : FsB D G od g w (some s2) K (R + 1) := by
  rcases h with ⟨h1, -⟩ | ⟨st, c, r, h1, h2, h3, h4, h5⟩
  · exact absurd h1 (by simp)
  · have e := Option.some.inj h1
    subst e
    refine .inr ⟨s2, c, r, rfl, h2, h3, by omega, fun c' r' l q => ?_⟩
    by_cases z : c' = K ∧ r' = R
    · rw [z.1, z.2]; exact lt c r h2 h3 h4
    · exact h5 c' r' (by omega) q
theorem StrI.u {D : Dt} {G : Gt} {od : Od} {c r c' r' : Int} {st : Nat} (hS : OrS D G od) (h : StrI D G od c r st) (h' : StrI D G od c' r' st) (v : LvV od c r) (v' : LvV od c' r') : c = c' ∧ r = r' := by
  have e := hS.2.2.2.2.2.1 _ st h.1 _ h'.1
  have n := (hS.1.2.2.2.1 c v.1.1 v.1.2).2.2.2.2
  have n' := (hS.1.2.2.2.1 c' v'.1.1 v'.1.2).2.2.2.2
  have a := v.2
  have a' := v'.2
  omega
set_option maxHeartbeats 8000000 in
theorem s_X28_first_17 {N : Nat} {od : Od} {g : Cg} {w : Int} {ch : Nat} (hN : 1099511627776 ≤ N) {k4 : Option Nat → Int → Gt → Dt → Option (Option Nat)} {M4 : Int} (hk4 : ∀ {r1 : Option Nat} {x2 : Int} {G : Gt} {D : Dt}, Ty D → (MgP D G od g w ch) → (0 ≤ x2 ∧ x2 ≤ oNC od) → (FsB D G od g w r1 x2 0) → oNC od - x2 < M4 → Wp (k4 r1 x2 G D) (fun r => FsB D G od g w r (oNC od) 0)) (n : Nat) : ∀ {r1 : Option Nat} {x2 : Int} {x3 : Int} {G : Gt} {D : Dt}, Ty D → (MgP D G od g w ch) → (0 ≤ x2 ∧ x2 < oNC od ∧ 0 ≤ x3 ∧ x3 ≤ oNL od x2 + 1) → (FsB D G od g w r1 x2 x3) → (oNC od - (x2 + 1) < M4) → oNL od x2 + 1 - x3 < n → Wp (q_X28_first_17 N k4 n r1 x2 x3 G D) (fun r => FsB D G od g w r (oNC od) 0) := by
  induction n with
  | zero =>
    intro r1 x2 x3 G D hT hM h0 hB hN hm; exfalso; omega
  | succ n ih =>
    intro r1 x2 x3 G D hT hM h0 hB hN hm
    show Wp (q_X28_first_17 N k4 (n + 1) r1 x2 x3 G D) _
    rw [q_X28_first_17]
    have hS := hM.1
    have hod := hM.1.1
    have nc := hod.2.2.1
    have nl := (hod.2.2.2.1 x2 h0.1 h0.2.1).2.2.2.2
    obtain ⟨pt, y1, y2⟩ := hS.2.2.2.1 x2 h0.1 h0.2.1
    have hw := hM.2.1.1
    have hw2 := hM.2.1.2.1
    have hs := hM.2.1.2.2
    refine w_on (by (first | (rw [hw]; exact Option.some_ne_none _) | (rw [hw2]; exact Option.some_ne_none _) | (rw [q3]; exact Option.some_ne_none _) | (rw [q7]; exact Option.some_ne_none _) | assumption)) fun b1 e_b1 => ?_
    refine w_lQ (by (first | omega | assumption | (subst_vars; first | omega | assumption) | done)) fun w3 e_w3 => ?_
    have q3 : w3 = some pt := by rw [e_w3]; exact y1
    refine w_on (by (first | (rw [hw]; exact Option.some_ne_none _) | (rw [hw2]; exact Option.some_ne_none _) | (rw [q3]; exact Option.some_ne_none _) | (rw [q7]; exact Option.some_ne_none _) | assumption)) fun b4 e_b4 => ?_
    have E4 : b4 = pt := by rw [q3] at e_b4; exact (Option.some.inj e_b4).symm
    rw [← E4] at y2
    have t1 := ty_7302 hT b4
    refine w_ite (fun hc1 => ?_) (fun hc1 => ?_)
    · skip
      refine w_gd (by (first | omega | assumption | (subst_vars; first | omega | assumption) | done)) ?_
      refine w_let fun v5 e_v5 => ?_
      have j1_hM : MgP D G od g w ch := by
        (first | assumption)
      have j1_h0 : 0 ≤ v5 ∧ v5 ≤ oNC od := by
        (first | omega | assumption | (subst_vars; first | omega | assumption) | done)
      have j1_hB : FsB D G od g w r1 v5 0 := by
        rw [e_v5]; exact hB.row (by omega) h0.1
      have j1_hm : oNC od - v5 < M4 := by
        (first | omega | assumption | (subst_vars; first | omega | assumption) | done)
      exact hk4 hT j1_hM j1_h0 j1_hB j1_hm
    · skip
      refine w_on (by (first | (rw [hw]; exact Option.some_ne_none _) | (rw [hw2]; exact Option.some_ne_none _) | (rw [q3]; exact Option.some_ne_none _) | (rw [q7]; exact Option.some_ne_none _) | assumption)) fun b6 e_b6 => ?_
      have c1_hS : OrS D G od := by
        (first | assumption)
      have c1_h0 : x2 ≤ 100 ∧ -100 ≤ x3 ∧ x3 ≤ 100 := by
        (first | omega | assumption | (subst_vars; first | omega | assumption) | done)
      refine w_b (s_X23_of hT c1_hS c1_h0) fun w7 h_w7 => ?_
      obtain ⟨st, q7, lvv, sI⟩ : ∃ st, w7 = some st ∧ LvV od x2 x3 ∧ StrI D G od x2 x3 st := by
       rcases h_w7 with ⟨y, z⟩ | y
       · exact absurd (show LvV od x2 x3 from ⟨⟨h0.1, h0.2.1⟩, h0.2.2.1, by omega⟩) z
       · exact y
      refine w_on (by (first | (rw [hw]; exact Option.some_ne_none _) | (rw [hw2]; exact Option.some_ne_none _) | (rw [q3]; exact Option.some_ne_none _) | (rw [q7]; exact Option.some_ne_none _) | assumption)) fun b8 e_b8 => ?_
      have hs8 : ChS D b8 (cgA g w) (cgB g w) (cgC g w) (cgE g w) (cgL g w) (cgO g w) := by
       have E8 : b8 = ch := by rw [hw2] at e_b8; exact (Option.some.inj e_b8).symm
       rw [E8]; exact hs
      unfold ChS at hs8
      refine w_on (by (first | (rw [hw]; exact Option.some_ne_none _) | (rw [hw2]; exact Option.some_ne_none _) | (rw [q3]; exact Option.some_ne_none _) | (rw [q7]; exact Option.some_ne_none _) | assumption)) fun b9 e_b9 => ?_
      have sI9 : StrI D G od x2 x3 b9 := by
       have E9 : b9 = st := by rw [q7] at e_b9; exact (Option.some.inj e_b9).symm
       rw [E9]; exact sI
      have z4 := sI9.2.2.2.1
      have z6 := sI9.2.2.1
      refine w_let fun v10 e_v10 => ?_
      simp only [q_X22_takes] at e_v10
      refine w_ite (fun hc2 => ?_) (fun hc2 => ?_)
      · skip
        have nQ : ¬ Qfy D G od g w x2 x3 := fun q => by have := q.2.1; omega
        refine w_gd (by (first | omega | assumption | (subst_vars; first | omega | assumption) | done)) ?_
        refine w_let fun v11 e_v11 => ?_
        have j2_hM : MgP D G od g w ch := by
          (first | assumption)
        have j2_h0 : 0 ≤ x2 ∧ x2 < oNC od ∧ 0 ≤ v11 ∧ v11 ≤ oNL od x2 + 1 := by
          (first | omega | assumption | (subst_vars; first | omega | assumption) | done)
        have j2_hB : FsB D G od g w r1 x2 v11 := by
          rw [e_v11]; exact hB.no nQ
        have j2_hN : oNC od - (x2 + 1) < M4 := by
          (first | omega | assumption | (subst_vars; first | omega | assumption) | done)
        have j2_hm : oNL od x2 + 1 - v11 < n := by
          (first | omega | assumption | (subst_vars; first | omega | assumption) | done)
        exact ih hT j2_hM j2_h0 j2_hB j2_hN j2_hm
      · skip
        refine w_on (by (first | (rw [hw]; exact Option.some_ne_none _) | (rw [hw2]; exact Option.some_ne_none _) | (rw [q3]; exact Option.some_ne_none _) | (rw [q7]; exact Option.some_ne_none _) | assumption)) fun b12 e_b12 => ?_
        have sI12 : StrI D G od x2 x3 b12 := by
         have E9 : b12 = st := by rw [q7] at e_b12; exact (Option.some.inj e_b12).symm
         rw [E9]; exact sI
        have c3_hM : MgP D G od g w ch := by
          (first | assumption)
        have c3_hS : StrI D G od x2 x3 b12 := by
          (first | assumption)
        refine w_b (s_X28_isIn (k := x2) (lv := x3) hT c3_hM c3_hS) fun v13 h_v13 => ?_
        refine w_ite (fun hc3 => ?_) (fun hc3 => ?_)
        · skip
          have nQ : ¬ Qfy D G od g w x2 x3 := fun q => by
           rw [if_pos q.2.2.1] at h_v13; omega
          refine w_gd (by (first | omega | assumption | (subst_vars; first | omega | assumption) | done)) ?_
          refine w_let fun v14 e_v14 => ?_
          have j3_hM : MgP D G od g w ch := by
            (first | assumption)
          have j3_h0 : 0 ≤ x2 ∧ x2 < oNC od ∧ 0 ≤ v14 ∧ v14 ≤ oNL od x2 + 1 := by
            (first | omega | assumption | (subst_vars; first | omega | assumption) | done)
          have j3_hB : FsB D G od g w r1 x2 v14 := by
            rw [e_v14]; exact hB.no nQ
          have j3_hN : oNC od - (x2 + 1) < M4 := by
            (first | omega | assumption | (subst_vars; first | omega | assumption) | done)
          have j3_hm : oNL od x2 + 1 - v14 < n := by
            (first | omega | assumption | (subst_vars; first | omega | assumption) | done)
          exact ih hT j3_hM j3_h0 j3_hB j3_hN j3_hm
        · skip
          refine w_on (by (first | (rw [hw]; exact Option.some_ne_none _) | (rw [hw2]; exact Option.some_ne_none _) | (rw [q3]; exact Option.some_ne_none _) | (rw [q7]; exact Option.some_ne_none _) | assumption)) fun b15 e_b15 => ?_
          have sI15 : StrI D G od x2 x3 b15 := by
           have E9 : b15 = st := by rw [q7] at e_b15; exact (Option.some.inj e_b15).symm
           rw [E9]; exact sI
          have lr := olP_r hod lvv.1.1 lvv.1.2 lvv.2.1 lvv.2.2
          have c4_hod : OdOk od := by
            (first | omega | assumption | (subst_vars; first | omega | assumption) | done)
          have c4_hS : StrI D G od x2 x3 b15 := by
            (first | assumption)
          have c4_hv : LvV od x2 x3 := by
            (first | omega | assumption | (subst_vars; first | omega | assumption) | done)
          refine w_b (s_X76_isDone (k := x2) (lv := x3) hT c4_hod c4_hS c4_hv) fun v16 h_v16 => ?_
          refine w_ite (fun hc4 => ?_) (fun hc4 => ?_)
          · skip
            have Qv : Qfy D G od g w x2 x3 := by
             refine ⟨lvv, by omega, Decidable.byContradiction fun y => ?_, Decidable.byContradiction fun y => ?_⟩
             · rw [if_neg y] at h_v13; omega
             · rw [if_neg y] at h_v16; omega
            refine w_ite (fun hc5 => ?_) (fun hc5 => ?_)
            · skip
              refine w_un (q_X28_first_87.eq_1 ..) ?_
              refine w_gd (by (first | omega | assumption | (subst_vars; first | omega | assumption) | done)) ?_
              refine w_let fun v1 e_v1 => ?_
              have j4_hM : MgP D G od g w ch := by
                (first | assumption)
              have j4_h0 : 0 ≤ x2 ∧ x2 < oNC od ∧ 0 ≤ v1 ∧ v1 ≤ oNL od x2 + 1 := by
                (first | omega | assumption | (subst_vars; first | omega | assumption) | done)
              have j4_hB : FsB D G od g w (some b15) x2 v1 := by
                rw [e_v1]
                refine hB.hd Qv sI15 (fun s2 c r e => ?_)
                rw [hc5] at e; exact absurd e (by simp)
              have j4_hN : oNC od - (x2 + 1) < M4 := by
                (first | omega | assumption | (subst_vars; first | omega | assumption) | done)
              have j4_hm : oNL od x2 + 1 - v1 < n := by
                (first | omega | assumption | (subst_vars; first | omega | assumption) | done)
              exact ih hT j4_hM j4_h0 j4_hB j4_hN j4_hm
            · skip
              refine w_on (by (first | (rw [hw]; exact Option.some_ne_none _) | (rw [hw2]; exact Option.some_ne_none _) | (rw [q3]; exact Option.some_ne_none _) | (rw [q7]; exact Option.some_ne_none _) | assumption)) fun b17 e_b17 => ?_
              obtain ⟨c5, r5, Q5, S5, l5⟩ : ∃ c5 r5, Qfy D G od g w c5 r5 ∧ StrI D G od c5 r5 b17 ∧ (c5 < x2 ∨ c5 = x2 ∧ r5 < x3) := by
               rcases hB with ⟨h1, -⟩ | ⟨s5, c, r, h1, h2, h3, h4, -⟩
               · rw [h1] at e_b17; exact absurd e_b17 (by simp)
               · rw [h1] at e_b17
                 rw [← Option.some.inj e_b17]
                 exact ⟨c, r, h2, h3, h4⟩
              have c5_hM : MgP D G od g w ch := by
                (first | assumption)
              have c5_hS : StrI D G od x2 x3 b15 := by
                (first | assumption)
              have c5_hS2 : StrI D G od c5 r5 b17 := by
                (first | assumption)
              have c5_hv : LvV od x2 x3 ∧ mtA D G x2 x3 < olP od x2 x3 := by
                exact ⟨lvv, Qv.2.2.2⟩
              have c5_hv2 : LvV od c5 r5 ∧ mtA D G c5 r5 < olP od c5 r5 := by
                exact ⟨Q5.1, Q5.2.2.2⟩
              refine w_b (s_X28_before (k := x2) (lv := x3) (k2 := c5) (lv2 := r5) hT c5_hM c5_hS c5_hS2 c5_hv c5_hv2) fun v18 h_v18 => ?_
              refine w_ite (fun hc6 => ?_) (fun hc6 => ?_)
              · skip
                refine w_gd (by (first | omega | assumption | (subst_vars; first | omega | assumption) | done)) ?_
                refine w_let fun v19 e_v19 => ?_
                have j5_hM : MgP D G od g w ch := by
                  (first | assumption)
                have j5_h0 : 0 ≤ x2 ∧ x2 < oNC od ∧ 0 ≤ v19 ∧ v19 ≤ oNL od x2 + 1 := by
                  (first | omega | assumption | (subst_vars; first | omega | assumption) | done)
                have j5_hB : FsB D G od g w r1 x2 v19 := by
                  rw [e_v19]
                  rw [e_b17] at hB ⊢
                  refine hB.kp (fun c r q s l => ?_)
                  obtain ⟨u1, u2⟩ := s.u hS S5 q.1 Q5.1
                  subst u1; subst u2
                  unfold mhd
                  rw [ll4]
                  by_cases y : opY od x2 x3 (mtA D G x2 x3) < opY od c r (mtA D G c r) ∨ opY od x2 x3 (mtA D G x2 x3) = opY od c r (mtA D G c r) ∧ opX od x2 x3 (mtA D G x2 x3) < opX od c r (mtA D G c r)
                  · rw [if_pos y] at h_v18; omega
                  · omega
                have j5_hN : oNC od - (x2 + 1) < M4 := by
                  (first | omega | assumption | (subst_vars; first | omega | assumption) | done)
                have j5_hm : oNL od x2 + 1 - v19 < n := by
                  (first | omega | assumption | (subst_vars; first | omega | assumption) | done)
                exact ih hT j5_hM j5_h0 j5_hB j5_hN j5_hm
              · skip
                refine w_un (q_X28_first_87.eq_1 ..) ?_
                refine w_gd (by (first | omega | assumption | (subst_vars; first | omega | assumption) | done)) ?_
                refine w_let fun v1_2 e_v1_2 => ?_
                have j6_hM : MgP D G od g w ch := by
                  (first | assumption)
                have j6_h0 : 0 ≤ x2 ∧ x2 < oNC od ∧ 0 ≤ v1_2 ∧ v1_2 ≤ oNL od x2 + 1 := by
                  (first | omega | assumption | (subst_vars; first | omega | assumption) | done)
                have j6_hB : FsB D G od g w (some b15) x2 v1_2 := by
                  rw [e_v1_2]
                  refine hB.hd Qv sI15 (fun s2 c r e q s l => ?_)
                  have e2 : s2 = b17 := by rw [e_b17] at e; exact (Option.some.inj e).symm
                  rw [e2] at s
                  obtain ⟨u1, u2⟩ := s.u hS S5 q.1 Q5.1
                  subst u1; subst u2
                  unfold mhd
                  rw [ll4]
                  by_cases y : opY od x2 x3 (mtA D G x2 x3) < opY od c r (mtA D G c r) ∨ opY od x2 x3 (mtA D G x2 x3) = opY od c r (mtA D G c r) ∧ opX od x2 x3 (mtA D G x2 x3) < opX od c r (mtA D G c r)
                  · omega
                  · rw [if_neg y] at h_v18; omega
                have j6_hN : oNC od - (x2 + 1) < M4 := by
                  (first | omega | assumption | (subst_vars; first | omega | assumption) | done)
                have j6_hm : oNL od x2 + 1 - v1_2 < n := by
                  (first | omega | assumption | (subst_vars; first | omega | assumption) | done)
                exact ih hT j6_hM j6_h0 j6_hB j6_hN j6_hm
          · skip
            have nQ : ¬ Qfy D G od g w x2 x3 := fun q => by
             rw [if_pos q.2.2.2] at h_v16; omega
            refine w_gd (by (first | omega | assumption | (subst_vars; first | omega | assumption) | done)) ?_
            refine w_let fun v20 e_v20 => ?_
            have j7_hM : MgP D G od g w ch := by
              (first | assumption)
            have j7_h0 : 0 ≤ x2 ∧ x2 < oNC od ∧ 0 ≤ v20 ∧ v20 ≤ oNL od x2 + 1 := by
              (first | omega | assumption | (subst_vars; first | omega | assumption) | done)
            have j7_hB : FsB D G od g w r1 x2 v20 := by
              rw [e_v20]; exact hB.no nQ
            have j7_hN : oNC od - (x2 + 1) < M4 := by
              (first | omega | assumption | (subst_vars; first | omega | assumption) | done)
            have j7_hm : oNL od x2 + 1 - v20 < n := by
              (first | omega | assumption | (subst_vars; first | omega | assumption) | done)
            exact ih hT j7_hM j7_h0 j7_hB j7_hN j7_hm
set_option maxHeartbeats 8000000 in
theorem s_X28_first_4 {N : Nat} {od : Od} {g : Cg} {w : Int} {ch : Nat} (hN : 1099511627776 ≤ N) (n : Nat) : ∀ {r1 : Option Nat} {x2 : Int} {G : Gt} {D : Dt}, Ty D → (MgP D G od g w ch) → (0 ≤ x2 ∧ x2 ≤ oNC od) → (FsB D G od g w r1 x2 0) → oNC od - x2 < n → Wp (q_X28_first_4 N n r1 x2 G D) (fun r => FsB D G od g w r (oNC od) 0) := by
  induction n with
  | zero =>
    intro r1 x2 G D hT hM h0 hB hm; exfalso; omega
  | succ n ih =>
    intro r1 x2 G D hT hM h0 hB hm
    show Wp (q_X28_first_4 N (n + 1) r1 x2 G D) _
    rw [q_X28_first_4]
    have hw := hM.2.1.1
    have n3 := hM.1.2.2.1
    have nc := hM.1.1.2.2.1
    refine w_on (by (rw [hw]; exact Option.some_ne_none _)) fun b1 e_b1 => ?_
    have t1 := ty_2303 hT (s_ G 23)
    refine w_ite (fun hc1 => ?_) (fun hc1 => ?_)
    · skip
      refine w_some ?_
      rw [show oNC od = x2 by omega]; exact hB
    · skip
      have nl := (hM.1.1.2.2.2.1 x2 h0.1 (by omega)).2.2.2.2
      have j1_hM : MgP D G od g w ch := by
        (first | assumption)
      have j1_h0 : 0 ≤ x2 ∧ x2 < oNC od ∧ 0 ≤ (0 : Int) ∧ (0 : Int) ≤ oNL od x2 + 1 := by
        (first | omega | assumption | (subst_vars; first | omega | assumption) | done)
      have j1_hB : FsB D G od g w r1 x2 (0 : Int) := by
        (first | omega | assumption | (subst_vars; first | omega | assumption) | done)
      have j1_hN : oNC od - (x2 + 1) < n := by
        (first | omega | assumption | (subst_vars; first | omega | assumption) | done)
      have j1_hm : oNL od x2 + 1 - (0 : Int) < N := by
        (first | omega | assumption | (subst_vars; first | omega | assumption) | done)
      refine Wp.mo (s_X28_first_17 hN (od := od) (g := g) (w := w) (ch := ch) (M4 := n) (fun T i0 i1 i2 hm => ih T i0 i1 i2 hm) _ hT j1_hM j1_h0 j1_hB j1_hN j1_hm) ?_
      intro o ho
      exact ho
set_option maxHeartbeats 8000000 in
theorem s_X28_first {N : Nat} {G : Gt} {D : Dt} (hN : 1099511627776 ≤ N) {od : Od} {g : Cg} {w : Int} {ch : Nat} (hT : Ty D) (hM : MgP D G od g w ch) : Wp (q_X28_first N G D) (fun r => FsB D G od g w r (oNC od) 0) := by
  refine w_un (q_X28_first.eq_1 ..) ?_
  have nc := hM.1.1.2.2.1
  have j1_hM : MgP D G od g w ch := by
    (first | assumption)
  have j1_h0 : 0 ≤ (0 : Int) ∧ (0 : Int) ≤ oNC od := by
    (first | omega | assumption | (subst_vars; first | omega | assumption) | done)
  have j1_hB : FsB D G od g w none (0 : Int) 0 := by
    refine .inl ⟨rfl, fun c r l q => ?_⟩
    have a := q.1.1
    have b := q.1.2
    omega
  have j1_hm : oNC od - (0 : Int) < N := by
    (first | omega | assumption | (subst_vars; first | omega | assumption) | done)
  refine Wp.mo (s_X28_first_4 hN (od := od) (g := g) (w := w) (ch := ch) _ hT j1_hM j1_h0 j1_hB j1_hm) ?_
  intro o ho
  exact ho
