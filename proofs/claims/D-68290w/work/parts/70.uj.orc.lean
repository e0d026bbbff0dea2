/-! specifications, printed by gen/mks.py -/
set_option maxRecDepth 100000
theorem mtA_fr {D D' : Dt} {G : Gt} {S : List Nat} (F : Fr S D D') (hd : ([7604].all fun j => !S.contains j) = true) : mtA D' G = mtA D G := by
  funext c r
  unfold mtA
  rw [F.i (i := 7604) (dsO_o hd (by decide))]
theorem MgP.fr {D D' : Dt} {G : Gt} {od : Od} {g : Cg} {w : Int} {ch : Nat} {S : List Nat} (h : MgP D G od g w ch) (F : Fr S D D') (hd : ([2303, 7302, 7603, 7600, 7400, 2400, 2401, 2402, 2403, 7403, 7404, 7405, 7406, 7200, 7201, 7202, 7205, 7206, 2600, 2601, 2200, 2201, 2202, 2203, 2204, 2205, 7604].all fun j => !S.contains j) = true) : MgP D' G od g w ch := by
  obtain ⟨h1, ⟨h2, h3, h4⟩, h5, h6, h7⟩ := h
  exact ⟨h1.fr F (all_sub hd (by decide)), ⟨by rw [F.r (i := 2600) (dsO_o hd (by decide))]; exact h2, by rw [F.r (i := 2601) (dsO_o hd (by decide))]; exact h3, h4.sm (ChSm.fr' F (all_sub hd (by decide)))⟩, h5, h6, by rw [mtA_fr F (all_sub hd (by decide))]; exact h7⟩
theorem MgT.fr {D D' : Dt} {G : Gt} {od : Od} {g : Cg} {q : Sq} {w : Int} {ch : Nat} {S : List Nat} (h : MgT D G od g q w ch) (F : Fr S D D') (hd : ([2303, 7302, 7603, 7600, 7400, 2400, 2401, 2402, 2403, 7403, 7404, 7405, 7406, 7200, 7201, 7202, 7205, 7206, 2600, 2601, 2200, 2201, 2202, 2203, 2204, 2205, 7604, 2805, 2806].all fun j => !S.contains j) = true) : MgT D' G od g q w ch := by
  obtain ⟨h1, h2, h3, h4, h5, h6, h7⟩ := h
  have e : atK D' G q = atK D G q := by
    funext k
    unfold atK
    rw [mtA_fr F (all_sub hd (by decide))]
  unfold MgT
  rw [e, F.i (i := 2805) (dsO_o hd (by decide)), F.i (i := 2806) (dsO_o hd (by decide))]
  exact ⟨h1.fr F (all_sub hd (by decide)), h2, h3, h4, h5, h6, h7⟩
/-- an entry of the stream at hand -/
theorem cur_e {D : Dt} {G : Gt} {od : Od} {q : Sq} {st : Nat} {c r : Int} (hS : OrS D G od) (hq : StO q od) (hs : StrI D G od c r st) (v : LvV od c r) {k : Int} (k0 : 0 ≤ k) (k1 : k < sqM q) : some st = z_Q G 2302 (s_ G 23) (sqC q k * 33 + sqV q k) ↔ sqC q k = c ∧ sqV q k = r := by
  obtain ⟨c', r', p', pv', e, f1, f2, -⟩ := hq.k hS.1 k0 k1
  rw [f1, f2]
  obtain ⟨s2, h2⟩ := hS.2.2.2.2.1 c' r' ⟨pv'.1, pv'.2.1⟩
  refine ⟨fun z => ?_, fun z => ?_⟩
  · rw [h2.1] at z
    have es := Option.some.inj z
    rw [← es] at h2
    have u := h2.u hS hs ⟨pv'.1, pv'.2.1⟩ v
    exact u
  · rw [z.1, z.2]; exact hs.1.symm
theorem cur_k {od : Od} {q : Sq} (hod : OdOk od) (hq : StO q od) {k : Int} (k0 : 0 ≤ k) (k1 : k < sqM q) {c r : Int} (e1 : sqC q k = c) (e2 : sqV q k = r) : k = opF od c r + sqNm q k := by
  obtain ⟨c', r', p', pv', e, f1, f2, f3, -⟩ := hq.k hod k0 k1
  rw [f3, ← e1, ← e2, f1, f2]; exact e
/-- what is to come, when the stream at hand has no layer left -/
theorem BmC.full {D : Dt} {G : Gt} {od : Od} {g : Cg} {q : Sq} {w : Int} {st : Nat} {c r : Int} (hS : OrS D G od) (hq : StO q od) (h8 : d_R D 2804 (s_ G 28) = some st) (hs : StrI D G od c r st) (v : LvV od c r) (hl : cgL g w ≤ d_I D 2603 (s_ G 28)) {k l : Int} (vt : VdT g q w k l) : BmC D G q k l ↔ atK D G q k < sqNm q k ∨ atK D G q k = sqNm q k ∧ ¬ (sqC q k = c ∧ sqV q k = r) := by
  have ce := cur_e hS hq hs v vt.1.2.2.1 vt.1.2.2.2.1
  have ll := vt.1.2.2.2.2
  unfold BmC
  rw [h8, ce]
  by_cases z : sqC q k = c ∧ sqV q k = r
  · constructor
    · intro y; rcases y with y | y
      · exact .inl y
      · have := y.2 z; omega
    · intro y; rcases y with y | y
      · exact .inl y
      · exact absurd z y.2
  · constructor
    · intro y; rcases y with y | y
      · exact .inl y
      · exact .inr ⟨y.1, z⟩
    · intro y; rcases y with y | y
      · exact .inl y
      · exact .inr ⟨y.1, fun u => absurd u z⟩
theorem BmC.zero {D : Dt} {G : Gt} {q : Sq} (h : d_I D 2603 (s_ G 28) = 0) {k l : Int} (l0 : 0 ≤ l) : BmC D G q k l ↔ atK D G q k ≤ sqNm q k := by
  unfold BmC
  rw [h]
  constructor
  · intro y; omega
  · intro y
    by_cases z : atK D G q k = sqNm q k
    · exact .inr ⟨z, fun _ => l0⟩
    · exact .inl (by omega)
theorem BmC.non {D : Dt} {G : Gt} {od : Od} {q : Sq} (hS : OrS D G od) (hq : StO q od) (h8 : d_R D 2804 (s_ G 28) = none) {k l : Int} (k0 : 0 ≤ k) (k1 : k < sqM q) : BmC D G q k l ↔ atK D G q k ≤ sqNm q k := by
  obtain ⟨c', r', p', pv', e, f1, f2, -⟩ := hq.k hS.1 k0 k1
  obtain ⟨s2, h2⟩ := hS.2.2.2.2.1 c' r' ⟨pv'.1, pv'.2.1⟩
  unfold BmC
  rw [h8, f1, f2, h2.1]
  constructor
  · intro y; omega
  · intro y
    by_cases z : atK D G q k = sqNm q k
    · exact .inr ⟨z, fun u => absurd u (by simp)⟩
    · exact .inl (by omega)
/-- the stream at hand goes on -/
theorem mtA_st {D D' : Dt} {G : Gt} {od : Od} {st : Nat} {c r : Int} (hS : OrS D G od) (hs : StrI D G od c r st) (v : LvV od c r) (e : D' = u_I D 7604 st (mtA D G c r + 1)) {c' r' : Int} (v' : LvV od c' r') : mtA D' G c' r' = mtA D G c' r' + (if c' = c ∧ r' = r then 1 else 0) := by
  obtain ⟨s2, h2⟩ := hS.2.2.2.2.1 c' r' v'
  unfold mtA at e ⊢
  rw [hs.1] at e
  rw [h2.1, e, rI_I]
  by_cases z : s2 = st
  · subst z
    have u := h2.u hS hs v' v
    rw [if_pos ⟨rfl, rfl⟩, if_pos u]
  · rw [if_neg (fun y => z y.2), if_neg (fun y => z ?_)]
    · show d_I D 7604 s2 = d_I D 7604 s2 + 0
      omega
    · have e2 := h2.1
      rw [y.1, y.2, hs.1] at e2
      exact (Option.some.inj e2).symm
theorem MgT.at {D D' : Dt} {G : Gt} {od : Od} {g : Cg} {q : Sq} {w : Int} {ch st : Nat} {c r : Int} (h : MgT D G od g q w ch) (hs : StrI D G od c r st) (Q : Qfy D G od g w c r) (hmin : ∀ k, tkK g q w k → atK D G q k ≤ sqNm q k → k = opF od c r + mtA D G c r ∨ ll (sqK q (cgO g w) (opF od c r + mtA D G c r)) (sqK q (cgO g w) k)) (e : D' = u_I D 7604 st (mtA D G c r + 1)) :
    MgT D' G od g q w ch ∧ ∀ k, 0 ≤ k → k < sqM q → atK D' G q k = atK D G q k + if sqC q k = c ∧ sqV q k = r then 1 else 0 := by
  obtain ⟨hM, hq, hw, hr, hc, hg, hk⟩ := h
  have hS := hM.1
  have F : Fr [7604] D D' := by rw [e]; exact Fr.rf.I rfl
  have at1 : ∀ k, 0 ≤ k → k < sqM q → atK D' G q k = atK D G q k + if sqC q k = c ∧ sqV q k = r then 1 else 0 := fun k k0 k1 => by
    obtain ⟨c', r', p', pv', ek, f1, f2, -⟩ := hq.k hS.1 k0 k1
    unfold atK
    rw [f1, f2]
    exact mtA_st hS hs Q.1 e ⟨pv'.1, pv'.2.1⟩
  have le : ∀ k, 0 ≤ k → k < sqM q → atK D G q k ≤ atK D' G q k := fun k k0 k1 => by
    rw [at1 k k0 k1]; split <;> omega
  have fe : ∀ i, i ≠ 7604 → d_I D' i = d_I D i := fun i n => F.i (by simp [n])
  refine ⟨⟨⟨hS.fr F rfl, ⟨by rw [F.r (i := 2600) rfl]; exact hM.2.1.1, by rw [F.r (i := 2601) rfl]; exact hM.2.1.2.1, hM.2.1.2.2.sm (ChSm.fr' F rfl)⟩, hM.2.2.1, hM.2.2.2.1, fun c' r' v' => ?_⟩, hq, hw, hr, fun a b ta tb l1 l2 => ?_, by rw [fe 2805 (by decide), fe 2806 (by decide)]; exact hg, fun k t l => ?_⟩, at1⟩
  · have m := hM.2.2.2.2 c' r' v'
    rw [mtA_st hS hs Q.1 e v']
    by_cases z : c' = c ∧ r' = r
    · rw [if_pos z]; have := Q.2.2.2; rw [z.1, z.2] at m ⊢; omega
    · rw [if_neg z]; omega
  · have a1 := at1 a ta.1.1 ta.1.2
    have b1 := le b tb.1.1 tb.1.2
    by_cases z : sqNm q a < atK D G q a
    · exact hc a b ta tb z (by omega)
    · have zc : sqC q a = c ∧ sqV q a = r := Decidable.byContradiction fun y => by rw [if_neg y] at a1; omega
      rw [if_pos zc] at a1
      have ea : atK D G q a = mtA D G c r := by unfold atK; rw [zc.1, zc.2]
      have ka := cur_k hS.1 hq ta.1.1 ta.1.2 zc.1 zc.2
      have ka2 : a = opF od c r + mtA D G c r := by omega
      rcases hmin b tb (by omega) with y | y
      · exfalso
        have eb : b = a := by omega
        rw [eb] at l2
        omega
      · rw [ka2]; exact y
  · rw [fe 2805 (by decide)]
    exact hk k t (by have := le k t.1.1 t.1.2; omega)
/-- the stream at hand brings a packet -/
theorem StpW.mg {D D' : Dt} {G : Gt} {od : Od} {g : Cg} {q : Sq} {w : Int} {ch st : Nat} {c r l0 f : Int} {B0 : Int → Int → Prop} {C0 C' : Fz} {S : List Nat} (hT : MgT D G od g q w ch) (h8 : d_R D 2804 (s_ G 28) = some st) (hs : StrI D G od c r st) (Q : Qfy D G od g w c r) (hmin : ∀ k, tkK g q w k → atK D G q k ≤ sqNm q k → k = opF od c r + mtA D G c r ∨ ll (sqK q (cgO g w) (opF od c r + mtA D G c r)) (sqK q (cgO g w) k))
    (hA : ∀ k l, Cnd g q C0 w k l → B0 k l → BmC D G q k l) (hB : ∀ k l, VdT g q w k l → BmC D G q k l → B0 k l) (h1 : 0 ≤ d_I D 2603 (s_ G 28) ∧ d_I D 2603 (s_ G 28) ≤ l0 ∧ l0 < cgL g w) (hl : ∀ l, d_I D 2603 (s_ G 28) ≤ l → l < l0 → l < C0 (opF od c r + mtA D G c r)) (hc : C0 (opF od c r + mtA D G c r) ≤ l0) (e3 : d_I D' 2603 (s_ G 28) = l0 + 1) (F : Fr S D D') (hd : ([7604, 2804].all fun j => !S.contains j) = true) (hC : ∀ i, 0 ≤ i → i < sqM q → C' i = if i = opF od c r + mtA D G c r then C0 i + 1 else C0 i) (hf : f ≠ 0) :
    StpW g q w B0 C0 f (opF od c r + mtA D G c r) l0 (BmC D' G q) C' := by
  obtain ⟨hM, hq, hw, hr, hcut, hg, hk⟩ := hT
  have hS := hM.1
  have hod := hS.1
  have pv : PcV od c r (mtA D G c r) := ⟨Q.1.1, Q.1.2, (hM.2.2.2.2 c r Q.1).1, Q.2.2.2⟩
  have kr := pv.k hq hod
  have fq := hq.2 c r _ pv
  have v0 : VdT g q w (opF od c r + mtA D G c r) l0 := by
    refine ⟨⟨hw.1, hw.2, kr.1, kr.2, by omega, by omega⟩, ?_⟩
    unfold cgT
    rw [fq.1, fq.2.1]
    exact Q.2.1
  have at0 : atK D G q (opF od c r + mtA D G c r) = mtA D G c r := by unfold atK; rw [fq.1, fq.2.1]
  have e8 : d_R D' 2804 = d_R D 2804 := F.r (i := 2804) (dsO_o hd (by decide))
  have ea : ∀ k, atK D' G q k = atK D G q k := fun k => by unfold atK; rw [mtA_fr F (all_sub hd (by decide))]
  have cu : ∀ k, 0 ≤ k → k < sqM q → (some st = z_Q G 2302 (s_ G 23) (sqC q k * 33 + sqV q k) ↔ sqC q k = c ∧ sqV q k = r) := fun k k0 k1 => cur_e hS hq hs Q.1 k0 k1
  have own : ∀ k, 0 ≤ k → k < sqM q → sqC q k = c → sqV q k = r → atK D G q k = sqNm q k → k = opF od c r + mtA D G c r := fun k k0 k1 u1 u2 u3 => by
    have x := cur_k hod hq k0 k1 u1 u2
    have y : atK D G q k = mtA D G c r := by unfold atK; rw [u1, u2]
    omega
  have b0 : BmC D G q (opF od c r + mtA D G c r) l0 := by
    unfold BmC
    rw [at0, fq.2.2.1]
    exact .inr ⟨rfl, fun _ => h1.2.1⟩
  refine ⟨fun z => absurd z hf, fun _ => ⟨⟨v0.1, v0.2, hc⟩, hB _ _ v0 b0, fun k2 l2 c2 b2 y => ?_, fun k2 l2 v2 => ?_, hC⟩⟩
  · have b := hA k2 l2 c2 b2
    have t2 : tkK g q w k2 := ⟨⟨c2.1.2.2.1, c2.1.2.2.2.1⟩, c2.2.1⟩
    rw [sqP_m hM.2.2.1, sqP_m hM.2.2.1, ll_app (by unfold sqK; exact ktK_l _ _)] at y
    have m := hmin k2 t2 (by unfold BmC at b; omega)
    rcases m with m | m
    · subst m
      rcases y with y | y
      · exact ll_ir _ y
      · unfold BmC at b
        rw [at0, fq.2.2.1, h8, fq.1, fq.2.1] at b
        rcases b with b | b
        · omega
        · have x := b.2 hs.1.symm
          have z := hl l2 x y.2
          have cc := c2.2.2
          omega
    · rcases y with y | y
      · exact ll_as m y
      · rw [y.1] at m; exact ll_ir _ m
  · have t2 : tkK g q w k2 := ⟨⟨v2.1.2.2.1, v2.1.2.2.2.1⟩, v2.2⟩
    rw [sqP_m hM.2.2.1, sqP_m hM.2.2.1, ll_app (by unfold sqK; exact ktK_l _ _)]
    unfold BmC
    rw [ea, e3, e8, h8, cu k2 t2.1.1 t2.1.2]
    constructor
    · intro b
      have m := hmin k2 t2 (by omega)
      rcases m with m | m
      · subst m
        rw [at0, fq.2.2.1, fq.1, fq.2.1] at b
        rcases b with b | b
        · omega
        · have := b.2 ⟨rfl, rfl⟩
          exact .inr ⟨rfl, by omega⟩
      · exact .inl m
    · intro y
      have fin : k2 = opF od c r + mtA D G c r → l0 < l2 → atK D G q k2 < sqNm q k2 ∨ atK D G q k2 = sqNm q k2 ∧ (sqC q k2 = c ∧ sqV q k2 = r → l0 + 1 ≤ l2) := fun e lt => by
        subst e
        rw [at0, fq.2.2.1]
        exact .inr ⟨rfl, fun _ => by omega⟩
      rcases y with y | y
      · have t0 : tkK g q w (opF od c r + mtA D G c r) := ⟨kr, v0.2⟩
        by_cases z : sqNm q k2 < atK D G q k2
        · exact absurd y (ll_as (hcut k2 _ t2 t0 z (by rw [at0, fq.2.2.1]; exact Int.le_refl _)))
        · by_cases x : atK D G q k2 = sqNm q k2
          · refine .inr ⟨x, fun u => ?_⟩
            have := own k2 t2.1.1 t2.1.2 u.1 u.2 x
            rw [this] at y
            exact absurd y (ll_ir _)
          · exact .inl (by omega)
      · exact fin (hq.qik hod _ _ _ t2.1.1 t2.1.2 kr.1 kr.2 y.1.symm) y.2
