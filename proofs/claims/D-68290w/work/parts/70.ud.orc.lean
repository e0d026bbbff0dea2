/-! specifications, printed by gen/mks.py -/
set_option maxRecDepth 100000
/-- one step within a change -/
def StpW (g : Cg) (q : Sq) (w : Int) (B : Int → Int → Prop) (C : Fz) (f k l : Int) (B' : Int → Int → Prop) (C' : Fz) : Prop :=
  (f = 0 → (∀ k l, Cnd g q C w k l → ¬ B k l) ∧ (∀ k l, VdT g q w k l → ¬ B' k l) ∧ ∀ i, 0 ≤ i → i < sqM q → C' i = C i) ∧
  (f ≠ 0 → Cnd g q C w k l ∧ B k l ∧ (∀ k2 l2, Cnd g q C w k2 l2 → B k2 l2 → ¬ ll (sqP q (cgO g w) k2 l2) (sqP q (cgO g w) k l)) ∧ (∀ k2 l2, VdT g q w k2 l2 → (B' k2 l2 ↔ ll (sqP q (cgO g w) k l) (sqP q (cgO g w) k2 l2))) ∧ ∀ i, 0 ≤ i → i < sqM q → C' i = if i = k then C i + 1 else C i)
/-- the packet that came last -/
def NwP (D : Dt) (G : Gt) (od : Od) (k l : Int) : Prop := ∃ c r p st, PcV od c r p ∧ k = opF od c r + p ∧ d_I D 2500 (s_ G 25) = l ∧ d_I D 2501 (s_ G 25) = p ∧ d_R D 2503 (s_ G 25) = some st ∧ StrI D G od c r st
theorem StO.k {q : Sq} {od : Od} (h : StO q od) (ho : OdOk od) {k : Int} (k0 : 0 ≤ k) (k1 : k < sqM q) : ∃ c r p, PcV od c r p ∧ k = opF od c r + p ∧ sqC q k = c ∧ sqV q k = r ∧ sqNm q k = p ∧ sqX q k = opX od c r p ∧ sqY q k = opY od c r p := by
  rw [h.1] at k1
  obtain ⟨c, r, p, v, e⟩ := opF_sur ho k0 k1
  have f := h.2 c r p v
  rw [← e] at f
  exact ⟨c, r, p, v, e, f⟩
theorem PcV.k {q : Sq} {od : Od} (h : StO q od) (ho : OdOk od) {c r p : Int} (v : PcV od c r p) : 0 ≤ opF od c r + p ∧ opF od c r + p < sqM q := by
  have b := opF_b ho v.1.1 v.1.2 v.2.1.1 v.2.1.2
  rw [h.1]
  have := v.2.2
  omega
theorem CnS.dn {D : Dt} {G : Gt} {od : Od} {g : Cg} {q : Sq} {w : Int} {ch : Nat} (h : CnS D G od g w ch) (d : cgL g w ≤ d_I D 2603 (s_ G 27) ∨ cgB g w ≤ d_I D 2704 (s_ G 27)) {k l : Int} (v : VdT g q w k l) : ¬ BnC D G q (cgO g w) k l := by
  obtain ⟨-, b, c, -, -, -, p1, p2, -, -⟩ := h
  rw [BnC.e b]
  obtain ⟨⟨w0, w1, k0, k1, l0, l1⟩, u1, u2, u3, u4⟩ := v
  by_cases o0 : cgO g w = 0
  · rw [if_pos o0]; omega
  · rw [if_neg o0]; omega
theorem StpW.dn {D' : Dt} {G : Gt} {od : Od} {g : Cg} {q : Sq} {w : Int} {ch : Nat} {B0 : Int → Int → Prop} {C0 C' : Fz} {k l : Int} (h : CnS D' G od g w ch) (d : cgL g w ≤ d_I D' 2603 (s_ G 27) ∨ cgB g w ≤ d_I D' 2704 (s_ G 27)) (hA : ∀ k l, Cnd g q C0 w k l → B0 k l → BnC D' G q (cgO g w) k l) (hZ : ∀ i, C' i = C0 i) : StpW g q w B0 C0 0 k l (BnC D' G q (cgO g w)) C' :=
  ⟨fun _ => ⟨fun k l cn b => h.dn d ⟨cn.1, cn.2.1⟩ (hA k l cn b), fun _ _ v => h.dn d v, fun i _ _ => hZ i⟩, fun z => absurd rfl z⟩
/-- no precinct is left in a stream -/
theorem cn_n {od : Od} {g : Cg} {q : Sq} {w c r n : Int} (hq : StO q od) (ho : OdOk od) (h : ¬ LvV od c r ∨ olP od c r ≤ n) : ∀ k l, VdT g q w k l → ¬ (sqV q k = r ∧ sqC q k = c ∧ n ≤ sqNm q k) := fun k l v z => by
  obtain ⟨c', r', p, pv, e, f1, f2, f3, -⟩ := hq.k ho v.1.2.2.1 v.1.2.2.2.1
  rw [f1, f2, f3] at z
  obtain ⟨z1, z2, z3⟩ := z
  subst z1; subst z2
  rcases h with h | h
  · exact h ⟨pv.1, pv.2.1⟩
  · have := pv.2.2; omega
theorem sqNm_0 {od : Od} {g : Cg} {q : Sq} {w k l : Int} (hq : StO q od) (ho : OdOk od) (v : VdT g q w k l) : 0 ≤ sqNm q k := by
  obtain ⟨c', r', p, pv, e, f1, f2, f3, -⟩ := hq.k ho v.1.2.2.1 v.1.2.2.2.1
  rw [f3]; exact pv.2.2.1
/-- the counting's number goes on by one -/
theorem CnS.st {D D' : Dt} {G : Gt} {od : Od} {g : Cg} {q : Sq} {w : Int} {ch : Nat} {S : List Nat} (h : CnS D G od g w ch) (e6 : d_I D' 2706 (s_ G 27) = d_I D 2706 (s_ G 27) + 1) (m : d_I D 2706 (s_ G 27) < 4096) (e1 : d_I D' 2603 (s_ G 27) = d_I D 2603 (s_ G 27)) (e4 : d_I D' 2704 (s_ G 27) = d_I D 2704 (s_ G 27)) (e5 : d_I D' 2705 (s_ G 27) = d_I D 2705 (s_ G 27)) (F : Fr S D D') (hd : ([2200, 2201, 2202, 2203, 2204, 2205, 2600, 2601].all fun j => !S.contains j) = true) :
    CnS D' G od g w ch ∧ mnC D' G g w = mnC D G g w ∧ (∀ k l, BnC D' G q (cgO g w) k l ↔ ll (cnK D G (cgO g w)) (sqP q (cgO g w) k l)) ∧ (∀ k l, BnC D' G q (cgO g w) k l ↔ BnC D G q (cgO g w) k l ∧ ¬ (sqV q k = d_I D 2704 (s_ G 27) ∧ sqC q k = d_I D 2705 (s_ G 27) ∧ sqNm q k = d_I D 2706 (s_ G 27) ∧ l = d_I D 2603 (s_ G 27))) := by
  obtain ⟨⟨a1, a2, a3⟩, b, c, d, e, f, p1, p2, p3, p4⟩ := h
  refine ⟨⟨⟨by rw [F.r (i := 2600) (dsO_o hd (by decide))]; exact a1, by rw [F.r (i := 2601) (dsO_o hd (by decide))]; exact a2, a3.sm (ChSm.fr' F (all_sub hd (by decide)))⟩, b, c, d, e, f, by omega, by omega, by omega, by omega⟩, by unfold mnC; rw [e1, e4, e5], fun k l => ?_, fun k l => ?_⟩
  · rw [BnC.e b, e1, e4, e5, e6]
    unfold cnK
    rw [sqP_c b]
    by_cases o0 : cgO g w = 0
    · rw [if_pos o0, if_pos o0, if_pos o0, ll4]; omega
    · rw [if_neg o0, if_neg o0, if_neg o0, ll4]; omega
  · rw [BnC.e b, BnC.e b, e1, e4, e5, e6]
    by_cases o0 : cgO g w = 0
    · rw [if_pos o0, if_pos o0]; omega
    · rw [if_neg o0, if_neg o0]; omega
theorem CnS.fr {D D' : Dt} {G : Gt} {od : Od} {g : Cg} {w : Int} {ch : Nat} {S : List Nat} (h : CnS D G od g w ch) (F : Fr S D D') (hd : ([2200, 2201, 2202, 2203, 2204, 2205, 2600, 2601, 2603, 2704, 2705, 2706].all fun j => !S.contains j) = true) : CnS D' G od g w ch := by
  obtain ⟨⟨a1, a2, a3⟩, b, c, d, e, f, p1, p2, p3, p4⟩ := h
  refine ⟨⟨by rw [F.r (i := 2600) (dsO_o hd (by decide))]; exact a1, by rw [F.r (i := 2601) (dsO_o hd (by decide))]; exact a2, a3.sm (ChSm.fr' F (all_sub hd (by decide)))⟩, b, c, d, e, f, ?_⟩
  rw [F.i (i := 2603) (dsO_o hd (by decide)), F.i (i := 2704) (dsO_o hd (by decide)), F.i (i := 2705) (dsO_o hd (by decide)), F.i (i := 2706) (dsO_o hd (by decide))]
  exact ⟨p1, p2, p3, p4⟩
theorem bnC_fr {D D' : Dt} {G : Gt} {q : Sq} {o : Int} {S : List Nat} (F : Fr S D D') (hd : ([2603, 2704, 2705, 2706].all fun j => !S.contains j) = true) : BnC D' G q o = BnC D G q o := by
  funext k l
  unfold BnC cnK
  rw [F.i (i := 2603) (dsO_o hd (by decide)), F.i (i := 2704) (dsO_o hd (by decide)), F.i (i := 2705) (dsO_o hd (by decide)), F.i (i := 2706) (dsO_o hd (by decide))]
theorem mnC_fr {D D' : Dt} {G : Gt} {g : Cg} {w : Int} {S : List Nat} (F : Fr S D D') (hd : ([2603, 2704, 2705].all fun j => !S.contains j) = true) : mnC D' G g w = mnC D G g w := by
  unfold mnC
  rw [F.i (i := 2603) (dsO_o hd (by decide)), F.i (i := 2704) (dsO_o hd (by decide)), F.i (i := 2705) (dsO_o hd (by decide))]
theorem CnS.mp {D : Dt} {G : Gt} {od : Od} {g : Cg} {w : Int} {ch : Nat} (h : CnS D G od g w ch) (h1 : d_I D 2603 (s_ G 27) < cgL g w) (h2 : d_I D 2704 (s_ G 27) < cgB g w) : 0 < mnC D G g w := by
  obtain ⟨-, b, c, d, e, f, p1, p2, p3, p4⟩ := h
  unfold mnC
  by_cases o0 : cgO g w = 0
  · rw [if_pos o0]; omega
  · rw [if_neg o0]; omega
theorem CnS.mu {D : Dt} {G : Gt} {od : Od} {g : Cg} {w : Int} {ch : Nat} (h : CnS D G od g w ch) : mnC D G g w < 10000000 := by
  obtain ⟨-, b, c, d, e, f, p1, p2, p3, p4⟩ := h
  unfold mnC
  by_cases o0 : cgO g w = 0
  · rw [if_pos o0]; omega
  · rw [if_neg o0]; omega
set_option maxHeartbeats 8000000 in
theorem s_X27_next_46 {N : Nat} {od : Od} {g : Cg} {q : Sq} {w : Int} {ch : Nat} {B0 : Int → Int → Prop} {C0 : Fz} (hN : 1099511627776 ≤ N) {k30 : Gt → Dt → Option (Int × Dt)} {M30 : Int} (hk30 : ∀ {G : Gt} {D : Dt}, Ty D → (OrS D G od) → (StO q od) → (CnS D G od g w ch) → (d_I D 2603 (s_ G 27) < cgL g w ∧ d_I D 2704 (s_ G 27) < cgB g w ∧ 0 ≤ w ∧ w < cgW g) → (∀ k l, Cnd g q C0 w k l → B0 k l → BnC D G q (cgO g w) k l) → (∀ k l, VdT g q w k l → BnC D G q (cgO g w) k l → B0 k l) → (∀ i, d_A D 2305 (s_ G 23) i = C0 i) → max 0 (mnC D G g w) < M30 → Wp (k30 G D) (fun o => (fun r D' => Ty D' ∧ ((∃ k l, StpW g q w B0 C0 r k l (BnC D' G q (cgO g w)) (d_A D' 2305 (s_ G 23)) ∧ (r ≠ 0 → NwP D' G od k l)) ∧ CnS D' G od g w ch)) o.1 o.2)) (n : Nat) : ∀ {r1 : Option Nat} {G : Gt} {D : Dt}, Ty D → (OrS D G od) → (StO q od) → (CnS D G od g w ch) → (d_I D 2603 (s_ G 27) < cgL g w ∧ d_I D 2704 (s_ G 27) < cgB g w ∧ 0 ≤ w ∧ w < cgW g) → ((r1 = none ∧ ¬ LvV od (d_I D 2705 (s_ G 27)) (d_I D 2704 (s_ G 27))) ∨ ∃ st, r1 = some st ∧ LvV od (d_I D 2705 (s_ G 27)) (d_I D 2704 (s_ G 27)) ∧ StrI D G od (d_I D 2705 (s_ G 27)) (d_I D 2704 (s_ G 27)) st) → (∀ k l, Cnd g q C0 w k l → B0 k l → BnC D G q (cgO g w) k l) → (∀ k l, VdT g q w k l → BnC D G q (cgO g w) k l → B0 k l) → (∀ i, d_A D 2305 (s_ G 23) i = C0 i) → (max 0 (mnC D G g w) < M30 + 1) → max 0 (4097 - d_I D 2706 (s_ G 27)) < n → Wp (q_X27_next_46 N k30 n r1 G D) (fun o => (fun r D' => Ty D' ∧ ((∃ k l, StpW g q w B0 C0 r k l (BnC D' G q (cgO g w)) (d_A D' 2305 (s_ G 23)) ∧ (r ≠ 0 → NwP D' G od k l)) ∧ CnS D' G od g w ch)) o.1 o.2) := by
  induction n with
  | zero =>
    intro r1 G D hT hS hq hC hl h1 hA hB hZ hM hm; exfalso; omega
  | succ n ih =>
    intro r1 G D hT hS hq hC hl h1 hA hB hZ hM hm
    show Wp (q_X27_next_46 N k30 (n + 1) r1 G D) _
    rw [q_X27_next_46]
    have hw := hC.1.2.1
    have hs := hC.1.2.2
    unfold ChS at hs
    have t26 := ty_2706 hT (s_ G 27)
    have hrC := hC.2.2.2.2.2
    have hrA := hC.2.2.2.1
    have hrL := hC.2.2.1
    refine w_ite (fun hc1 => ?_) (fun hc1 => ?_)
    · skip
      have hn : ¬ LvV od (d_I D 2705 (s_ G 27)) (d_I D 2704 (s_ G 27)) := by
       rcases h1 with y | ⟨st, y, z⟩
       · exact y.2
       · rw [y] at hc1; exact absurd hc1 (by simp)
      have hNN := cn_n (g := g) (w := w) (n := d_I D 2706 (s_ G 27)) hq hS.1 (.inl hn)
      refine w_un (q_X27_next_94.eq_1 ..) ?_
      refine w_on (by (first | (rw [hw]; exact Option.some_ne_none _) | assumption)) fun b1 e_b1 => ?_
      have t1 := ty_2205 hT b1
      generalize e_ts0 : (if (d_I D 2205 b1) = (0 : Int) then (1 : Int) else (0 : Int)) = ts0
      refine w_un (q_X27_next_110.eq_1 ..) ?_
      have c1_hC : CnS D G od g w ch := by
        (first | assumption)
      have c1_h0 : ts0 = (if cgO g w = 0 then 1 else 0) ∧ d_I D 2603 (s_ G 27) < cgL g w ∧ d_I D 2704 (s_ G 27) < cgB g w := by
        refine ⟨?_, hl.1, hl.2.1⟩
        first | (rw [← e_ts0, show b1 = ch by (rw [hw] at e_b1; exact (Option.some.inj e_b1).symm), hs.2.2.2.2.2]; done) | (rw [← e_ts0_2, show b1_3 = ch by (rw [hw] at e_b1_3; exact (Option.some.inj e_b1_3).symm), hs.2.2.2.2.2]; done)
      have c1_hN : ∀ k l, VdT g q w k l → ¬ (sqV q k = d_I D 2704 (s_ G 27) ∧ sqC q k = d_I D 2705 (s_ G 27) ∧ d_I D 2706 (s_ G 27) ≤ sqNm q k) := by
        exact hNN
      refine w_b2 (Wp.fr (s_X27_turn (q := q) hT c1_hC c1_h0 c1_hN) fr_X27_turn) fun v3 d2 h_v3 => ?_
      obtain ⟨⟨T_d2, h_v3⟩, F_d2⟩ := h_v3
      try dsimp only at T_d2 h_v3 F_d2
      have tn := hC.tn (q := q) hl.1 hl.2.1 hNN h_v3.1 h_v3.2 F_d2 rfl
      have rr := h_v3.1.r hl.1 hl.2.1
      have tA : ∀ k l, Cnd g q C0 w k l → B0 k l → BnC d2 G q (cgO g w) k l := fun k l cn b0 => (tn.2.1 k l ⟨cn.1, cn.2.1⟩ (sqNm_0 hq hS.1 ⟨cn.1, cn.2.1⟩)).mpr (hA k l cn b0)
      have tB : ∀ k l, VdT g q w k l → BnC d2 G q (cgO g w) k l → B0 k l := fun k l v b => hB k l v ((tn.2.1 k l v (sqNm_0 hq hS.1 v)).mp b)
      have tZ : ∀ i, d_A d2 2305 (s_ G 23) i = C0 i := fun i => by rw [F_d2.a (i := 2305) rfl]; exact hZ i
      refine w_ite (fun hc2 => ?_) (fun hc2 => ?_)
      · skip
        refine w_some ?_
        try dsimp only
        refine ⟨T_d2, ?_⟩
        have dn := rr.2.1 (by assumption)
        exact ⟨⟨0, 0, StpW.dn tn.1 dn tA tZ, fun z => absurd rfl z⟩, tn.1⟩
      · skip
        have j1_hS : OrS d2 G od := by
          (first | assumption | exact (OrS.fr (by assumption) F_d2 rfl))
        have j1_hq : StO q od := by
          (first | omega | assumption | (subst_vars; first | omega | assumption) | done)
        have j1_hC : CnS d2 G od g w ch := by
          exact tn.1
        have j1_hl : d_I d2 2603 (s_ G 27) < cgL g w ∧ d_I d2 2704 (s_ G 27) < cgB g w ∧ 0 ≤ w ∧ w < cgW g := by
          have r1' : v3 = 1 := by have := rr.1; omega
          have := rr.2.2 r1'; omega
        have j1_hA : ∀ k l, Cnd g q C0 w k l → B0 k l → BnC d2 G q (cgO g w) k l := by
          exact tA
        have j1_hB : ∀ k l, VdT g q w k l → BnC d2 G q (cgO g w) k l → B0 k l := by
          exact tB
        have j1_hZ : ∀ i, d_A d2 2305 (s_ G 23) i = C0 i := by
          exact tZ
        have j1_hm : max 0 (mnC d2 G g w) < M30 := by
          have r1' : v3 = 1 := by have := rr.1; omega
          have := tn.2.2 r1'; have := hC.mp hl.1 hl.2.1; omega
        exact hk30 T_d2 j1_hS j1_hq j1_hC j1_hl j1_hA j1_hB j1_hZ j1_hm
    · skip
      obtain ⟨st, y1, lv, sI⟩ : ∃ st, r1 = some st ∧ LvV od (d_I D 2705 (s_ G 27)) (d_I D 2704 (s_ G 27)) ∧ StrI D G od (d_I D 2705 (s_ G 27)) (d_I D 2704 (s_ G 27)) st := by
       rcases h1 with y | y
       · exact absurd y.1 hc1
       · exact y
      have la : d_I D 7405 (z_P G 7602 st) * d_I D 7406 (z_P G 7602 st) = olP od (d_I D 2705 (s_ G 27)) (d_I D 2704 (s_ G 27)) := by
       rw [sI.2.2.2.2.1.2.2.2.1, sI.2.2.2.2.1.2.2.2.2]; rfl
      have lr := olP_r hS.1 lv.1.1 lv.1.2 lv.2.1 lv.2.2
      have fb := opF_b hS.1 lv.1.1 lv.1.2 lv.2.1 lv.2.2
      have n96 := hS.2.1
      refine w_on (by (first | (rw [hw]; exact Option.some_ne_none _) | assumption)) fun b1_2 e_b1_2 => ?_
      have E12 : b1_2 = st := by rw [y1] at e_b1_2; exact (Option.some.inj e_b1_2).symm
      rw [← E12] at la sI
      refine w_bb ?_
      refine w_un (q_X74_precincts.eq_1 ..) ?_
      have t2 := ty_7405 hT (z_P G 7602 b1_2)
      have t3 := ty_7406 hT (z_P G 7602 b1_2)
      refine w_gd (by (first | omega | assumption | (subst_vars; first | omega | assumption) | done)) ?_
      refine w_some fun v3_2 e_v3_2 => ?_
      have e3 : v3_2 = olP od (d_I D 2705 (s_ G 27)) (d_I D 2704 (s_ G 27)) := by rw [e_v3_2]; exact la
      have t4 := ty_2706 hT (s_ G 27)
      refine w_ite (fun hc3 => ?_) (fun hc3 => ?_)
      · skip
        have hNN := cn_n (g := g) (w := w) (n := d_I D 2706 (s_ G 27)) hq hS.1 (.inr (show olP od (d_I D 2705 (s_ G 27)) (d_I D 2704 (s_ G 27)) ≤ d_I D 2706 (s_ G 27) by omega))
        refine w_un (q_X27_next_94.eq_1 ..) ?_
        refine w_on (by (first | (rw [hw]; exact Option.some_ne_none _) | assumption)) fun b1_3 e_b1_3 => ?_
        have t5 := ty_2205 hT b1_3
        generalize e_ts0_2 : (if (d_I D 2205 b1_3) = (0 : Int) then (1 : Int) else (0 : Int)) = ts0_2
        refine w_un (q_X27_next_110.eq_1 ..) ?_
        have c3_hC : CnS D G od g w ch := by
          (first | assumption)
        have c3_h0 : ts0_2 = (if cgO g w = 0 then 1 else 0) ∧ d_I D 2603 (s_ G 27) < cgL g w ∧ d_I D 2704 (s_ G 27) < cgB g w := by
          refine ⟨?_, hl.1, hl.2.1⟩
          first | (rw [← e_ts0, show b1 = ch by (rw [hw] at e_b1; exact (Option.some.inj e_b1).symm), hs.2.2.2.2.2]; done) | (rw [← e_ts0_2, show b1_3 = ch by (rw [hw] at e_b1_3; exact (Option.some.inj e_b1_3).symm), hs.2.2.2.2.2]; done)
        have c3_hN : ∀ k l, VdT g q w k l → ¬ (sqV q k = d_I D 2704 (s_ G 27) ∧ sqC q k = d_I D 2705 (s_ G 27) ∧ d_I D 2706 (s_ G 27) ≤ sqNm q k) := by
          exact hNN
        refine w_b2 (Wp.fr (s_X27_turn (q := q) hT c3_hC c3_h0 c3_hN) fr_X27_turn) fun v3_3 d2_2 h_v3_3 => ?_
        obtain ⟨⟨T_d2_2, h_v3_3⟩, F_d2_2⟩ := h_v3_3
        try dsimp only at T_d2_2 h_v3_3 F_d2_2
        have tn := hC.tn (q := q) hl.1 hl.2.1 hNN h_v3_3.1 h_v3_3.2 F_d2_2 rfl
        have rr := h_v3_3.1.r hl.1 hl.2.1
        have tA : ∀ k l, Cnd g q C0 w k l → B0 k l → BnC d2_2 G q (cgO g w) k l := fun k l cn b0 => (tn.2.1 k l ⟨cn.1, cn.2.1⟩ (sqNm_0 hq hS.1 ⟨cn.1, cn.2.1⟩)).mpr (hA k l cn b0)
        have tB : ∀ k l, VdT g q w k l → BnC d2_2 G q (cgO g w) k l → B0 k l := fun k l v b => hB k l v ((tn.2.1 k l v (sqNm_0 hq hS.1 v)).mp b)
        have tZ : ∀ i, d_A d2_2 2305 (s_ G 23) i = C0 i := fun i => by rw [F_d2_2.a (i := 2305) rfl]; exact hZ i
        refine w_ite (fun hc4 => ?_) (fun hc4 => ?_)
        · skip
          refine w_some ?_
          try dsimp only
          refine ⟨T_d2_2, ?_⟩
          have dn := rr.2.1 (by assumption)
          exact ⟨⟨0, 0, StpW.dn tn.1 dn tA tZ, fun z => absurd rfl z⟩, tn.1⟩
        · skip
          have j2_hS : OrS d2_2 G od := by
            (first | assumption | exact (OrS.fr (by assumption) F_d2_2 rfl))
          have j2_hq : StO q od := by
            (first | omega | assumption | (subst_vars; first | omega | assumption) | done)
          have j2_hC : CnS d2_2 G od g w ch := by
            exact tn.1
          have j2_hl : d_I d2_2 2603 (s_ G 27) < cgL g w ∧ d_I d2_2 2704 (s_ G 27) < cgB g w ∧ 0 ≤ w ∧ w < cgW g := by
            have r1' : v3_3 = 1 := by have := rr.1; omega
            have := rr.2.2 r1'; omega
          have j2_hA : ∀ k l, Cnd g q C0 w k l → B0 k l → BnC d2_2 G q (cgO g w) k l := by
            exact tA
          have j2_hB : ∀ k l, VdT g q w k l → BnC d2_2 G q (cgO g w) k l → B0 k l := by
            exact tB
          have j2_hZ : ∀ i, d_A d2_2 2305 (s_ G 23) i = C0 i := by
            exact tZ
          have j2_hm : max 0 (mnC d2_2 G g w) < M30 := by
            have r1' : v3_3 = 1 := by have := rr.1; omega
            have := tn.2.2 r1'; have := hC.mp hl.1 hl.2.1; omega
          exact hk30 T_d2_2 j2_hS j2_hq j2_hC j2_hl j2_hA j2_hB j2_hZ j2_hm
      · skip
        refine w_gd (by (first | omega | assumption | (subst_vars; first | omega | assumption) | done)) ?_
        refine w_let fun v5 e_v5 => ?_
        refine w_let fun d4 e_d4 => ?_
        have T_d4 : Ty d4 := tyI_2706 e_d4 hT (by (first | omega | assumption | (subst_vars; first | omega | assumption) | done))
        have pv : PcV od (d_I D 2705 (s_ G 27)) (d_I D 2704 (s_ G 27)) (d_I D 2706 (s_ G 27)) := ⟨lv.1, lv.2, by omega, by omega⟩
        have F4 : Fr [2706] D d4 := by rw [e_d4]; exact Fr.rf.I rfl
        have cs := hC.st (q := q) (D' := d4) (by rw [e_d4, rI_I, if_pos ⟨rfl, rfl⟩, e_v5]) (by have := hC.2.2.2.2.2.2.2.2.2; omega) (by rw [e_d4, rI_I, if_neg (by omega)]) (by rw [e_d4, rI_I, if_neg (by omega)]) (by rw [e_d4, rI_I, if_neg (by omega)]) F4 rfl
        have f76 : d_I d4 7603 b1_2 = opF od (d_I D 2705 (s_ G 27)) (d_I D 2704 (s_ G 27)) := by rw [F4.i (i := 7603) rfl]; exact sI.2.1
        refine w_gd (by (first | omega | assumption | (subst_vars; first | omega | assumption) | done)) ?_
        have t6 := ty_2603 hT (s_ G 27)
        have c4_h0 : 0 ≤ d_I d4 7603 b1_2 + (v5 - (1 : Int)) ∧ d_I d4 7603 b1_2 + (v5 - (1 : Int)) < 4096 ∧ 0 ≤ (v5 - (1 : Int)) ∧ 0 ≤ (d_I D 2603 (s_ G 27)) ∧ (d_I D 2603 (s_ G 27)) ≤ 254 := by
          rw [f76]; have := pv.2.2; omega
        have c4_hw : d_R d4 2600 (s_ G 27) = some (s_ G 23) := by
          rw [F4.r (i := 2600) rfl]; exact hC.1.1
        refine w_b2 (Wp.fr (s_X26_take T_d4 c4_h0 c4_hw) fr_X26_take) fun v8 d7 h_v8 => ?_
        obtain ⟨⟨T_d7, h_v8⟩, F_d7⟩ := h_v8
        try dsimp only at T_d7 h_v8 F_d7
        rw [f76, show v5 - 1 = d_I D 2706 (s_ G 27) by omega, F4.a (i := 2305) rfl] at h_v8
        have F7 : Fr [2706, 2305, 2500, 2501, 2503] D d7 := (F4.mo rfl).tr (F_d7.mo rfl)
        have c7 : CnS d7 G od g w ch := cs.1.fr F_d7 rfl
        have b7 : BnC d7 G q (cgO g w) = BnC d4 G q (cgO g w) := bnC_fr F_d7 rfl
        have m7 : mnC d7 G g w = mnC D G g w := (mnC_fr F_d7 rfl).trans cs.2.1
        have fq := hq.2 _ _ _ pv
        have kr := pv.k hq hS.1
        have vT : VdT g q w (opF od (d_I D 2705 (s_ G 27)) (d_I D 2704 (s_ G 27)) + d_I D 2706 (s_ G 27)) (d_I D 2603 (s_ G 27)) := by
         refine ⟨⟨hl.2.2.1, hl.2.2.2, kr.1, kr.2, by omega, hl.1⟩, ?_, ?_, ?_, ?_⟩
         · rw [fq.2.1]; omega
         · rw [fq.2.1]; omega
         · rw [fq.1]; omega
         · rw [fq.1]; have := lv.1; omega
        refine w_ite (fun hc5 => ?_) (fun hc5 => ?_)
        · skip
          have rq1 : d_I d7 2705 (s_ G 27) = d_I D 2705 (s_ G 27) := Eq.trans (congrFun (F_d7.i (i := 2705) rfl) (s_ G 27)) (rdI_I e_d4 rfl)
          have t7 := ty_2705 hT (s_ G 27)
          have rq2 : d_I d7 2704 (s_ G 27) = d_I D 2704 (s_ G 27) := Eq.trans (congrFun (F_d7.i (i := 2704) rfl) (s_ G 27)) (rdI_I e_d4 rfl)
          have t8 := ty_2704 hT (s_ G 27)
          have j3_hS : OrS d7 G od := by
            (first | assumption | exact (OrS.fr (by assumption) F_d7 rfl) | exact (OrS.fr (OrS.fr (by assumption) (Fr.uI e_d4) rfl) F_d7 rfl))
          have j3_hq : StO q od := by
            (first | omega | assumption | (subst_vars; first | omega | assumption) | done)
          have j3_hC : CnS d7 G od g w ch := by
            exact c7
          have j3_hl : d_I d7 2603 (s_ G 27) < cgL g w ∧ d_I d7 2704 (s_ G 27) < cgB g w ∧ 0 ≤ w ∧ w < cgW g := by
            rw [F_d7.i (i := 2603) rfl, F_d7.i (i := 2704) rfl, F4.i (i := 2603) rfl, F4.i (i := 2704) rfl]; exact hl
          have j3_h1 : ((some b1_2) = none ∧ ¬ LvV od (d_I d7 2705 (s_ G 27)) (d_I d7 2704 (s_ G 27))) ∨ ∃ st, (some b1_2) = some st ∧ LvV od (d_I d7 2705 (s_ G 27)) (d_I d7 2704 (s_ G 27)) ∧ StrI d7 G od (d_I d7 2705 (s_ G 27)) (d_I d7 2704 (s_ G 27)) st := by
            try simp only [rq1, rq2]
            exact .inr ⟨b1_2, rfl, lv, sI.fr F7 rfl⟩
          have j3_hA : ∀ k l, Cnd g q C0 w k l → B0 k l → BnC d7 G q (cgO g w) k l := by
            intro k l cn b0
            rw [b7]
            refine (cs.2.2.2 k l).mpr ⟨hA k l cn b0, fun z => ?_⟩
            obtain ⟨c', r', p', pv', e, f1, f2, f3, -⟩ := hq.k hS.1 cn.1.2.2.1 cn.1.2.2.2.1
            have t := h_v8.2.2.1 (by assumption)
            have cc := cn.2.2
            rw [e, ← f1, ← f2, ← f3, z.1, z.2.1, z.2.2.1, z.2.2.2, ← hZ] at cc
            omega
          have j3_hB : ∀ k l, VdT g q w k l → BnC d7 G q (cgO g w) k l → B0 k l := by
            intro k l v b
            rw [b7] at b
            exact hB k l v ((cs.2.2.2 k l).mp b).1
          have j3_hZ : ∀ i, d_A d7 2305 (s_ G 23) i = C0 i := by
            intro i
            have t := h_v8.2.2.1 (by assumption)
            rw [t.2, F4.a (i := 2305) rfl]; exact hZ i
          have j3_hM : max 0 (mnC d7 G g w) < M30 + 1 := by
            rw [m7]; exact hM
          have j3_hm : max 0 (4097 - d_I d7 2706 (s_ G 27)) < n := by
            rw [F_d7.i (i := 2706) rfl, e_d4, rI_I, if_pos ⟨rfl, rfl⟩]; omega
          exact ih T_d7 j3_hS j3_hq j3_hC j3_hl j3_h1 j3_hA j3_hB j3_hZ j3_hM j3_hm
        · skip
          refine w_some ?_
          try dsimp only
          refine ⟨T_d7, ?_⟩
          have t := h_v8.2.2.2 (by omega)
          have eP : sqP q (cgO g w) (opF od (d_I D 2705 (s_ G 27)) (d_I D 2704 (s_ G 27)) + d_I D 2706 (s_ G 27)) (d_I D 2603 (s_ G 27)) = cnK D G (cgO g w) := by
           rw [sqP_c hC.2.1, fq.1, fq.2.1, fq.2.2.1]; rfl
          have cn : Cnd g q C0 w (opF od (d_I D 2705 (s_ G 27)) (d_I D 2704 (s_ G 27)) + d_I D 2706 (s_ G 27)) (d_I D 2603 (s_ G 27)) := ⟨vT.1, vT.2, by rw [← hZ]; exact t.1⟩
          have bn : BnC D G q (cgO g w) (opF od (d_I D 2705 (s_ G 27)) (d_I D 2704 (s_ G 27)) + d_I D 2706 (s_ G 27)) (d_I D 2603 (s_ G 27)) := by
           unfold BnC
           rw [eP]; exact ll_ir _
          refine ⟨⟨_, _, ⟨fun z => absurd z (by decide), fun _ => ⟨cn, hB _ _ vT bn, fun k2 l2 c2 b2 => ?_, fun k2 l2 v2 => ?_, fun i i0 i1 => ?_⟩⟩, fun _ => ⟨_, _, _, b1_2, pv, rfl, t.2.2.2.2, t.2.2.2.1, t.2.2.1, sI.fr F7 rfl⟩⟩, c7⟩
          · rw [eP]; exact hA k2 l2 c2 b2
          · rw [b7, eP]; exact cs.2.2.1 k2 l2
          · rw [t.2.1, ← hZ]
            by_cases z : i = opF od (d_I D 2705 (s_ G 27)) (d_I D 2704 (s_ G 27)) + d_I D 2706 (s_ G 27)
            · rw [if_pos z, if_pos z, z]
            · rw [if_neg z, if_neg z]
set_option maxHeartbeats 8000000 in
theorem s_X27_next_30 {N : Nat} {od : Od} {g : Cg} {q : Sq} {w : Int} {ch : Nat} {B0 : Int → Int → Prop} {C0 : Fz} (hN : 1099511627776 ≤ N) (n : Nat) : ∀ {G : Gt} {D : Dt}, Ty D → (OrS D G od) → (StO q od) → (CnS D G od g w ch) → (d_I D 2603 (s_ G 27) < cgL g w ∧ d_I D 2704 (s_ G 27) < cgB g w ∧ 0 ≤ w ∧ w < cgW g) → (∀ k l, Cnd g q C0 w k l → B0 k l → BnC D G q (cgO g w) k l) → (∀ k l, VdT g q w k l → BnC D G q (cgO g w) k l → B0 k l) → (∀ i, d_A D 2305 (s_ G 23) i = C0 i) → max 0 (mnC D G g w) < n → Wp (q_X27_next_30 N n G D) (fun o => (fun r D' => Ty D' ∧ ((∃ k l, StpW g q w B0 C0 r k l (BnC D' G q (cgO g w)) (d_A D' 2305 (s_ G 23)) ∧ (r ≠ 0 → NwP D' G od k l)) ∧ CnS D' G od g w ch)) o.1 o.2) := by
  induction n with
  | zero =>
    intro G D hT hS hq hC hl hA hB hZ hm; exfalso; omega
  | succ n ih =>
    intro G D hT hS hq hC hl hA hB hZ hm
    show Wp (q_X27_next_30 N (n + 1) G D) _
    rw [q_X27_next_30]
    have hw0 := hC.1.1
    have hmu := hC.mu
    have t26 := ty_2706 hT (s_ G 27)
    refine w_on (by (rw [hw0]; exact Option.some_ne_none _)) fun b1 e_b1 => ?_
    have t1 := ty_2705 hT (s_ G 27)
    have t2 := ty_2704 hT (s_ G 27)
    have c1_hS : OrS D G od := by
      (first | assumption)
    have c1_h0 : (d_I D 2705 (s_ G 27)) ≤ 100 ∧ -100 ≤ (d_I D 2704 (s_ G 27)) ∧ (d_I D 2704 (s_ G 27)) ≤ 100 := by
      (first | omega | assumption | (subst_vars; first | omega | assumption) | done)
    refine w_b (s_X23_of hT c1_hS c1_h0) fun w2 h_w2 => ?_
    have j1_hS : OrS D G od := by
      (first | assumption)
    have j1_hq : StO q od := by
      (first | omega | assumption | (subst_vars; first | omega | assumption) | done)
    have j1_hC : CnS D G od g w ch := by
      (first | assumption)
    have j1_hl : d_I D 2603 (s_ G 27) < cgL g w ∧ d_I D 2704 (s_ G 27) < cgB g w ∧ 0 ≤ w ∧ w < cgW g := by
      (first | omega | assumption | (subst_vars; first | omega | assumption) | done)
    have j1_h1 : (w2 = none ∧ ¬ LvV od (d_I D 2705 (s_ G 27)) (d_I D 2704 (s_ G 27))) ∨ ∃ st, w2 = some st ∧ LvV od (d_I D 2705 (s_ G 27)) (d_I D 2704 (s_ G 27)) ∧ StrI D G od (d_I D 2705 (s_ G 27)) (d_I D 2704 (s_ G 27)) st := by
      (first | omega | assumption | (subst_vars; first | omega | assumption) | done)
    have j1_hA : ∀ k l, Cnd g q C0 w k l → B0 k l → BnC D G q (cgO g w) k l := by
      (first | omega | assumption | (subst_vars; first | omega | assumption) | done)
    have j1_hB : ∀ k l, VdT g q w k l → BnC D G q (cgO g w) k l → B0 k l := by
      (first | omega | assumption | (subst_vars; first | omega | assumption) | done)
    have j1_hZ : ∀ i, d_A D 2305 (s_ G 23) i = C0 i := by
      (first | omega | assumption | (subst_vars; first | omega | assumption) | done)
    have j1_hM : max 0 (mnC D G g w) < n + 1 := by
      (first | omega | assumption | (subst_vars; first | omega | assumption) | done)
    have j1_hm : max 0 (4097 - d_I D 2706 (s_ G 27)) < N := by
      (first | omega | assumption | (subst_vars; first | omega | assumption) | done)
    refine Wp.mo (s_X27_next_46 hN (od := od) (g := g) (q := q) (w := w) (ch := ch) (B0 := B0) (C0 := C0) (M30 := n) (fun T i0 i1 i2 i3 i4 i5 i6 hm => ih T i0 i1 i2 i3 i4 i5 i6 hm) _ hT j1_hS j1_hq j1_hC j1_hl j1_h1 j1_hA j1_hB j1_hZ j1_hM j1_hm) ?_
    intro o ho
    exact ho
set_option maxHeartbeats 8000000 in
theorem s_X27_next {N : Nat} {G : Gt} {D : Dt} (hN : 1099511627776 ≤ N) {od : Od} {g : Cg} {q : Sq} {w : Int} {ch : Nat} (hT : Ty D) (hS : OrS D G od) (hq : StO q od) (hC : CnS D G od g w ch) (hl : 0 ≤ w ∧ w < cgW g) : Wp (q_X27_next N G D) (fun o => (fun r D' => Ty D' ∧ ((∃ k l, StpW g q w (BnC D G q (cgO g w)) (d_A D 2305 (s_ G 23)) r k l (BnC D' G q (cgO g w)) (d_A D' 2305 (s_ G 23)) ∧ (r ≠ 0 → NwP D' G od k l)) ∧ CnS D' G od g w ch)) o.1 o.2) := by
  refine w_un (q_X27_next.eq_1 ..) ?_
  have hw := hC.1.2.1
  have hs := hC.1.2.2
  unfold ChS at hs
  have hmu := hC.mu
  refine w_on (by (rw [hw]; exact Option.some_ne_none _)) fun b1 e_b1 => ?_
  have E1 : b1 = ch := by rw [hw] at e_b1; exact (Option.some.inj e_b1).symm
  rw [← E1] at hs
  have t1 := ty_2204 hT b1
  have t2 := ty_2603 hT (s_ G 27)
  refine w_ite (fun hc1 => ?_) (fun hc1 => ?_)
  · skip
    refine w_some ?_
    try dsimp only
    refine ⟨hT, ?_⟩
    exact ⟨⟨0, 0, StpW.dn hC (.inl (by omega)) (fun k l _ b => b) (fun _ => rfl), fun z => absurd rfl z⟩, hC⟩
  · skip
    refine w_on (by (rw [hw]; exact Option.some_ne_none _)) fun b2 e_b2 => ?_
    have E2 : b2 = b1 := by rw [hw] at e_b2; rw [E1]; exact (Option.some.inj e_b2).symm
    have t3 := ty_2704 hT (s_ G 27)
    have t4 := ty_2201 hT b2
    refine w_ite (fun hc2 => ?_) (fun hc2 => ?_)
    · skip
      have j1_hS : OrS D G od := by
        (first | assumption)
      have j1_hq : StO q od := by
        (first | omega | assumption | (subst_vars; first | omega | assumption) | done)
      have j1_hC : CnS D G od g w ch := by
        (first | assumption)
      have j1_hl : d_I D 2603 (s_ G 27) < cgL g w ∧ d_I D 2704 (s_ G 27) < cgB g w ∧ 0 ≤ w ∧ w < cgW g := by
        rw [E2] at *; omega
      have j1_hA : ∀ k l, Cnd g q (d_A D 2305 (s_ G 23)) w k l → (BnC D G q (cgO g w)) k l → BnC D G q (cgO g w) k l := by
        exact fun k l _ b => b
      have j1_hB : ∀ k l, VdT g q w k l → BnC D G q (cgO g w) k l → (BnC D G q (cgO g w)) k l := by
        exact fun k l _ b => b
      have j1_hZ : ∀ i, d_A D 2305 (s_ G 23) i = (d_A D 2305 (s_ G 23)) i := by
        (first | omega | assumption | (subst_vars; first | omega | assumption) | done)
      have j1_hm : max 0 (mnC D G g w) < N := by
        (first | omega | assumption | (subst_vars; first | omega | assumption) | done)
      refine Wp.mo (s_X27_next_30 hN (od := od) (g := g) (q := q) (w := w) (ch := ch) (B0 := BnC D G q (cgO g w)) (C0 := d_A D 2305 (s_ G 23)) _ hT j1_hS j1_hq j1_hC j1_hl j1_hA j1_hB j1_hZ j1_hm) ?_
      intro o ho
      exact ho
    · skip
      refine w_some ?_
      try dsimp only
      refine ⟨hT, ?_⟩
      exact ⟨⟨0, 0, StpW.dn hC (.inr (by rw [E2] at *; omega)) (fun k l _ b => b) (fun _ => rfl), fun z => absurd rfl z⟩, hC⟩
