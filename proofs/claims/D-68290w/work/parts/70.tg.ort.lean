/-! specifications, printed by gen/mks.py -/
set_option maxRecDepth 100000
/-- the changes: how many, and of each its order, layers, levels from, to, components from, to -/
abbrev Cg : Type := Int × Fz × Fz × Fz × Fz × Fz × Fz
def cgW (g : Cg) : Int := g.1
def cgO (g : Cg) : Fz := g.2.1
def cgL (g : Cg) : Fz := g.2.2.1
def cgA (g : Cg) : Fz := g.2.2.2.1
def cgB (g : Cg) : Fz := g.2.2.2.2.1
def cgC (g : Cg) : Fz := g.2.2.2.2.2.1
def cgE (g : Cg) : Fz := g.2.2.2.2.2.2
def CgOk (g : Cg) : Prop := 1 ≤ cgW g ∧ cgW g ≤ 32 ∧ ∀ w, 0 ≤ w → w < cgW g → (0 ≤ cgO g w ∧ cgO g w ≤ 4) ∧ (1 ≤ cgL g w ∧ cgL g w ≤ 255) ∧ 0 ≤ cgA g w ∧ 0 ≤ cgC g w
/-- the list: how many, and of each its component, level, number, place -/
abbrev Sq : Type := Int × Fz × Fz × Fz × Fz × Fz
def sqM (q : Sq) : Int := q.1
def sqC (q : Sq) : Fz := q.2.1
def sqV (q : Sq) : Fz := q.2.2.1
def sqNm (q : Sq) : Fz := q.2.2.2.1
def sqX (q : Sq) : Fz := q.2.2.2.2.1
def sqY (q : Sq) : Fz := q.2.2.2.2.2
def sqK (q : Sq) (o k : Int) : List Int := ktK o (sqC q) (sqV q) (sqNm q) (sqX q) (sqY q) k
/-- where a packet stands in a change -/
def sqP (q : Sq) (o k l : Int) : List Int := if o = 0 then l :: sqK q o k else if o = 1 then [sqV q k, l, sqC q k, sqNm q k] else sqK q o k ++ [l]
/-- what a change takes -/
def cgT (g : Cg) (q : Sq) (w k : Int) : Prop := cgA g w ≤ sqV q k ∧ sqV q k < cgB g w ∧ cgC g w ≤ sqC q k ∧ sqC q k < cgE g w
def Vld (g : Cg) (q : Sq) (w k l : Int) : Prop := 0 ≤ w ∧ w < cgW g ∧ 0 ≤ k ∧ k < sqM q ∧ 0 ≤ l ∧ l < cgL g w
/-- a packet that can come -/
def Cnd (g : Cg) (q : Sq) (C : Fz) (w k l : Int) : Prop := Vld g q w k l ∧ cgT g q w k ∧ C k ≤ l
def VdT (g : Cg) (q : Sq) (w k l : Int) : Prop := Vld g q w k l ∧ cgT g q w k
/-- one step of the sequence: what is to come is B, then B' -/
def StR (g : Cg) (q : Sq) (B : Int → Int → Int → Prop) (C : Fz) (f w k l : Int) (B' : Int → Int → Int → Prop) (C' : Fz) : Prop :=
  (f = 0 → (∀ w k l, Cnd g q C w k l → ¬ B w k l) ∧ (∀ w k l, VdT g q w k l → ¬ B' w k l) ∧ ∀ i, 0 ≤ i → i < sqM q → C' i = C i) ∧
  (f ≠ 0 → Cnd g q C w k l ∧ B w k l ∧ (∀ w2 k2 l2, Cnd g q C w2 k2 l2 → B w2 k2 l2 → w < w2 ∨ w = w2 ∧ ¬ ll (sqP q (cgO g w) k2 l2) (sqP q (cgO g w) k l)) ∧ (∀ w2 k2 l2, VdT g q w2 k2 l2 → (B' w2 k2 l2 ↔ w < w2 ∨ w = w2 ∧ ll (sqP q (cgO g w) k l) (sqP q (cgO g w) k2 l2))) ∧ ∀ i, 0 ≤ i → i < sqM q → C' i = if i = k then C i + 1 else C i)
/-- all entries differ in their keys -/
def QiK (q : Sq) : Prop := ∀ o a b, 0 ≤ a → a < sqM q → 0 ≤ b → b < sqM q → sqK q o a = sqK q o b → a = b
theorem sqP_l {q : Sq} {o : Int} (k l k2 l2 : Int) : (sqP q o k l).length = (sqP q o k2 l2).length := by
  unfold sqP sqK
  split
  · rw [List.length_cons, List.length_cons, ktK_l k k2]
  · split
    · rfl
    · rw [List.length_append, List.length_append, ktK_l k k2]; rfl
theorem sqP_i {q : Sq} (h : QiK q) {o k l k2 l2 : Int} (k0 : 0 ≤ k) (k1 : k < sqM q) (k20 : 0 ≤ k2) (k21 : k2 < sqM q) (e : sqP q o k l = sqP q o k2 l2) : k = k2 ∧ l = l2 := by
  unfold sqP at e
  split at e
  · have a := List.cons.inj e
    exact ⟨h o k k2 k0 k1 k20 k21 a.2, a.1⟩
  · split at e
    · rename_i z
      have a := List.cons.inj e
      have b := List.cons.inj a.2
      have c := List.cons.inj b.2
      have d := List.cons.inj c.2
      refine ⟨h 0 k k2 k0 k1 k20 k21 ?_, b.1⟩
      show [sqV q k, sqC q k, sqNm q k] = [sqV q k2, sqC q k2, sqNm q k2]
      rw [a.1, c.1, d.1]
    · have a := List.append_inj e (ktK_l k k2)
      exact ⟨h o k k2 k0 k1 k20 k21 a.1, (List.cons.inj a.2).1⟩
theorem sqP_t {q : Sq} (h : QiK q) {o k l k2 l2 : Int} (k0 : 0 ≤ k) (k1 : k < sqM q) (k20 : 0 ≤ k2) (k21 : k2 < sqM q) (ne : ¬ (k = k2 ∧ l = l2)) : ll (sqP q o k l) (sqP q o k2 l2) ∨ ll (sqP q o k2 l2) (sqP q o k l) := ll_tot _ _ (sqP_l k l k2 l2) (fun e => ne (sqP_i h k0 k1 k20 k21 e))
/-- the step is one alone -/
theorem StR.det {g : Cg} {q : Sq} (hq : QiK q) {B B2 : Int → Int → Int → Prop} {C C2 : Fz} {f w k l f' w' k' l' : Int} {B' B2' : Int → Int → Int → Prop} {C' C2' : Fz} (hB : ∀ w k l, VdT g q w k l → (B w k l ↔ B2 w k l)) (hC : ∀ i, 0 ≤ i → i < sqM q → C i = C2 i)
    (a : StR g q B C f w k l B' C') (b : StR g q B2 C2 f' w' k' l' B2' C2') : (f = 0 ↔ f' = 0) ∧ (f ≠ 0 → w = w' ∧ k = k' ∧ l = l') ∧ (∀ w k l, VdT g q w k l → (B' w k l ↔ B2' w k l)) ∧ ∀ i, 0 ≤ i → i < sqM q → C' i = C2' i := by
  have cc : ∀ w k l, Cnd g q C w k l ↔ Cnd g q C2 w k l := fun w k l => by
    refine ⟨fun z => ⟨z.1, z.2.1, ?_⟩, fun z => ⟨z.1, z.2.1, ?_⟩⟩
    · rw [← hC k z.1.2.2.1 z.1.2.2.2.1]; exact z.2.2
    · rw [hC k z.1.2.2.1 z.1.2.2.2.1]; exact z.2.2
  have key : f = 0 ↔ f' = 0 := by
    refine ⟨fun z => Decidable.byContradiction fun n => ?_, fun z => Decidable.byContradiction fun n => ?_⟩
    · have y := b.2 n
      exact (a.1 z).1 w' k' l' ((cc _ _ _).mpr y.1) ((hB _ _ _ ⟨y.1.1, y.1.2.1⟩).mpr y.2.1)
    · have y := a.2 n
      exact (b.1 z).1 w k l ((cc _ _ _).mp y.1) ((hB _ _ _ ⟨y.1.1, y.1.2.1⟩).mp y.2.1)
  by_cases z : f = 0
  · have x := a.1 z
    have y := b.1 (key.mp z)
    exact ⟨key, fun n => absurd z n, fun w k l v => ⟨fun u => absurd u (x.2.1 w k l v), fun u => absurd u (y.2.1 w k l v)⟩, fun i i0 i1 => by rw [x.2.2 i i0 i1, y.2.2 i i0 i1, hC i i0 i1]⟩
  · have x := a.2 z
    have y := b.2 (fun n => z (key.mpr n))
    have u := x.2.2.1 w' k' l' ((cc _ _ _).mpr y.1) ((hB _ _ _ ⟨y.1.1, y.1.2.1⟩).mpr y.2.1)
    have v := y.2.2.1 w k l ((cc _ _ _).mp x.1) ((hB _ _ _ ⟨x.1.1, x.1.2.1⟩).mp x.2.1)
    have ew : w = w' := by omega
    subst ew
    have n1 : ¬ ll (sqP q (cgO g w) k' l') (sqP q (cgO g w) k l) := by rcases u with u | u; omega; exact u.2
    have n2 : ¬ ll (sqP q (cgO g w) k l) (sqP q (cgO g w) k' l') := by rcases v with v | v; omega; exact v.2
    have ek : k = k' ∧ l = l' := Decidable.byContradiction fun ne => by
      rcases sqP_t hq (o := cgO g w) x.1.1.2.2.1 x.1.1.2.2.2.1 y.1.1.2.2.1 y.1.1.2.2.2.1 ne with p | p
      · exact n2 p
      · exact n1 p
    obtain ⟨e1, e2⟩ := ek
    subst e1; subst e2
    refine ⟨key, fun _ => ⟨rfl, rfl, rfl⟩, fun w2 k2 l2 vv => ?_, fun i i0 i1 => ?_⟩
    · rw [x.2.2.2.1 w2 k2 l2 vv, y.2.2.2.1 w2 k2 l2 vv]
    · rw [x.2.2.2.2 i i0 i1, y.2.2.2.2 i i0 i1, hC i i0 i1]
/-- the same by another telling of the changes that differs where nothing is taken -/
theorem StR.cg {g g' : Cg} {q : Sq} (hW : cgW g = cgW g') (hT : ∀ w k, 0 ≤ w → w < cgW g → 0 ≤ k → k < sqM q → (cgT g q w k ↔ cgT g' q w k)) (hO : ∀ w k, 0 ≤ w → w < cgW g → 0 ≤ k → k < sqM q → cgT g q w k → cgO g w = cgO g' w ∧ cgL g w = cgL g' w)
    {B B' : Int → Int → Int → Prop} {C C' : Fz} {f w k l : Int} (a : StR g q B C f w k l B' C') : StR g' q B C f w k l B' C' := by
  have vt : ∀ w k l, VdT g q w k l ↔ VdT g' q w k l := fun w k l => by
    refine ⟨fun v => ?_, fun v => ?_⟩
    · have o := hO w k v.1.1 v.1.2.1 v.1.2.2.1 v.1.2.2.2.1 v.2
      exact ⟨⟨v.1.1, by rw [← hW]; exact v.1.2.1, v.1.2.2.1, v.1.2.2.2.1, v.1.2.2.2.2.1, by rw [← o.2]; exact v.1.2.2.2.2.2⟩, (hT w k v.1.1 v.1.2.1 v.1.2.2.1 v.1.2.2.2.1).mp v.2⟩
    · have w1 : w < cgW g := by rw [hW]; exact v.1.2.1
      have t := (hT w k v.1.1 w1 v.1.2.2.1 v.1.2.2.2.1).mpr v.2
      have o := hO w k v.1.1 w1 v.1.2.2.1 v.1.2.2.2.1 t
      exact ⟨⟨v.1.1, w1, v.1.2.2.1, v.1.2.2.2.1, v.1.2.2.2.2.1, by rw [o.2]; exact v.1.2.2.2.2.2⟩, t⟩
  have cd : ∀ w k l, Cnd g q C w k l ↔ Cnd g' q C w k l := fun w k l => by
    refine ⟨fun v => ?_, fun v => ?_⟩
    · have z := (vt w k l).mp ⟨v.1, v.2.1⟩; exact ⟨z.1, z.2, v.2.2⟩
    · have z := (vt w k l).mpr ⟨v.1, v.2.1⟩; exact ⟨z.1, z.2, v.2.2⟩
  refine ⟨fun z => ?_, fun z => ?_⟩
  · have x := a.1 z
    exact ⟨fun w k l c => x.1 w k l ((cd w k l).mpr c), fun w k l v => x.2.1 w k l ((vt w k l).mpr v), x.2.2⟩
  · have x := a.2 z
    have o := hO w k x.1.1.1 x.1.1.2.1 x.1.1.2.2.1 x.1.1.2.2.2.1 x.1.2.1
    rw [← o.1]
    exact ⟨(cd w k l).mp x.1, x.2.1, fun w2 k2 l2 c b => x.2.2.1 w2 k2 l2 ((cd _ _ _).mpr c) b, fun w2 k2 l2 v => x.2.2.2.1 w2 k2 l2 ((vt _ _ _).mpr v), x.2.2.2.2⟩
/-- the twin shows the list and the changes -/
def TSq (D : Dt) (G : Gt) (q : Sq) : Prop := d_I D 6317 (s_ G 63) = sqM q ∧ d_A D 6318 (s_ G 63) = sqC q ∧ d_A D 6319 (s_ G 63) = sqV q ∧ d_A D 6320 (s_ G 63) = sqNm q ∧ d_A D 6321 (s_ G 63) = sqX q ∧ d_A D 6322 (s_ G 63) = sqY q
theorem TSq.fr {D D' : Dt} {G : Gt} {q : Sq} {S : List Nat} (h : TSq D G q) (F : Fr S D D') (hd : ([6317, 6318, 6319, 6320, 6321, 6322].all fun j => !S.contains j) = true) : TSq D' G q := by
  unfold TSq at h ⊢
  rw [F.i (i := 6317) (dsO_o hd (by decide)), F.a (i := 6318) (dsO_o hd (by decide)), F.a (i := 6319) (dsO_o hd (by decide)), F.a (i := 6320) (dsO_o hd (by decide)), F.a (i := 6321) (dsO_o hd (by decide)), F.a (i := 6322) (dsO_o hd (by decide))]
  exact h
theorem TSq.kD {D : Dt} {G : Gt} {q : Sq} (h : TSq D G q) (o : Int) : kD o D G = sqK q o := by
  funext k
  show ktK o _ _ _ _ _ k = ktK o _ _ _ _ _ k
  rw [h.2.1, h.2.2.1, h.2.2.2.1, h.2.2.2.2.1, h.2.2.2.2.2]
def TCg (D : Dt) (G : Gt) (g : Cg) : Prop := CgOk g ∧ (d_I D 6314 (s_ G 63) = 0 → cgW g = 1 ∧ cgO g 0 = d_I D 6313 (s_ G 63) ∧ cgL g 0 = d_I D 6312 (s_ G 63) ∧ cgA g 0 = 0 ∧ cgB g 0 = 33 ∧ cgC g 0 = 0 ∧ cgE g 0 = 16) ∧
  (d_I D 6314 (s_ G 63) ≠ 0 → cgW g = d_I D 6314 (s_ G 63) ∧ ∀ w, 0 ≤ w → w < cgW g → cgO g w = d_A D 6315 (s_ G 63) (6 * w + 5) ∧ cgL g w = min (d_A D 6315 (s_ G 63) (6 * w + 4)) (d_I D 6312 (s_ G 63)) ∧ cgA g w = d_A D 6315 (s_ G 63) (6 * w) ∧ cgB g w = d_A D 6315 (s_ G 63) (6 * w + 1) ∧ cgC g w = d_A D 6315 (s_ G 63) (6 * w + 2) ∧ cgE g w = d_A D 6315 (s_ G 63) (6 * w + 3))
theorem TCg.fr {D D' : Dt} {G : Gt} {g : Cg} {S : List Nat} (h : TCg D G g) (F : Fr S D D') (hd : ([6312, 6313, 6314, 6315].all fun j => !S.contains j) = true) : TCg D' G g := by
  unfold TCg at h ⊢
  rw [F.i (i := 6312) (dsO_o hd (by decide)), F.i (i := 6313) (dsO_o hd (by decide)), F.i (i := 6314) (dsO_o hd (by decide)), F.a (i := 6315) (dsO_o hd (by decide))]
  exact h
theorem TCg.w {D : Dt} {G : Gt} {g : Cg} (h : TCg D G g) : cgW g = if d_I D 6314 (s_ G 63) = 0 then 1 else d_I D 6314 (s_ G 63) := by
  split
  · rename_i z; exact (h.2.1 z).1
  · rename_i z; exact (h.2.2 z).1
set_option maxHeartbeats 8000000 in
theorem s_X63_orderNow {G : Gt} {D : Dt} {g : Cg} (hT : Ty D) (hg : TCg D G g) (h0 : 0 ≤ (d_I D 6325 (s_ G 63)) ∧ (d_I D 6325 (s_ G 63)) < cgW g) : Wp (q_X63_orderNow G D) (fun r => r = cgO g (d_I D 6325 (s_ G 63))) := by
  refine w_un (q_X63_orderNow.eq_1 ..) ?_
  have t1 := ty_6325 hT (s_ G 63)
  have w32' := hg.1.2.1
  have t2 := ty_6314 hT (s_ G 63)
  refine w_ite (fun hc1 => ?_) (fun hc1 => ?_)
  · skip
    refine w_some ?_
    have t3 := ty_6313 hT (s_ G 63)
    rw [show d_I D 6325 (s_ G 63) = 0 by have := (hg.2.1 hc1).1; omega]; exact (hg.2.1 hc1).2.1.symm
  · skip
    refine w_gd (by (first | omega | assumption | (subst_vars; first | omega | assumption) | done)) ?_
    refine w_gd (by (first | omega | assumption | (subst_vars; first | omega | assumption) | done)) ?_
    refine w_lA (by (first | omega | assumption | (subst_vars; first | omega | assumption) | done)) fun v2 e_v2 => ?_
    have t_v2 : 0 ≤ v2 ∧ v2 ≤ 255 := by rw [e_v2]; exact ty_6315 hT _ _
    refine w_some ?_
    rw [((hg.2.2 hc1).2 _ h0.1 h0.2).1]; exact e_v2
set_option maxHeartbeats 8000000 in
theorem s_X63_layerEnd {G : Gt} {D : Dt} {g : Cg} (hT : Ty D) (hg : TCg D G g) (h0 : 0 ≤ (d_I D 6325 (s_ G 63)) ∧ (d_I D 6325 (s_ G 63)) < cgW g) : Wp (q_X63_layerEnd G D) (fun r => r = cgL g (d_I D 6325 (s_ G 63))) := by
  refine w_un (q_X63_layerEnd.eq_1 ..) ?_
  have t1 := ty_6325 hT (s_ G 63)
  have w32' := hg.1.2.1
  have t12 := ty_6312 hT (s_ G 63)
  have t2 := ty_6314 hT (s_ G 63)
  refine w_ite (fun hc1 => ?_) (fun hc1 => ?_)
  · skip
    refine w_un (q_X63_layerEnd_27.eq_1 ..) ?_
    have t3 := ty_6312 hT (s_ G 63)
    refine w_ite (fun hc2 => ?_) (fun hc2 => ?_)
    · skip
      refine w_some ?_
      rw [show d_I D 6325 (s_ G 63) = 0 by have := (hg.2.1 hc1).1; omega]; exact (hg.2.1 hc1).2.2.1.symm
    · skip
      refine w_some ?_
      exfalso; omega
  · skip
    refine w_gd (by (first | omega | assumption | (subst_vars; first | omega | assumption) | done)) ?_
    refine w_gd (by (first | omega | assumption | (subst_vars; first | omega | assumption) | done)) ?_
    refine w_lA (by (first | omega | assumption | (subst_vars; first | omega | assumption) | done)) fun v2 e_v2 => ?_
    have t_v2 : 0 ≤ v2 ∧ v2 ≤ 255 := by rw [e_v2]; exact ty_6315 hT _ _
    refine w_un (q_X63_layerEnd_27.eq_1 ..) ?_
    have t4 := ty_6312 hT (s_ G 63)
    refine w_ite (fun hc3 => ?_) (fun hc3 => ?_)
    · skip
      refine w_some ?_
      rw [((hg.2.2 hc1).2 _ h0.1 h0.2).2.1, ← e_v2]; omega
    · skip
      refine w_some ?_
      rw [((hg.2.2 hc1).2 _ h0.1 h0.2).2.1, ← e_v2]; omega
set_option maxHeartbeats 8000000 in
theorem s_X63_belongs {x1 : Int} {G : Gt} {D : Dt} {g : Cg} {q : Sq} (hT : Ty D) (hg : TCg D G g) (hq : TSq D G q) (h0 : 0 ≤ (d_I D 6325 (s_ G 63)) ∧ (d_I D 6325 (s_ G 63)) < cgW g ∧ 0 ≤ x1 ∧ x1 < 4096) (hl : sqV q x1 < 33 ∧ 0 ≤ sqV q x1 ∧ 0 ≤ sqC q x1 ∧ sqC q x1 < 16) : Wp (q_X63_belongs x1 G D) (fun r => r ≠ 0 ↔ cgT g q (d_I D 6325 (s_ G 63)) x1) := by
  refine w_un (q_X63_belongs.eq_1 ..) ?_
  have t1 := ty_6325 hT (s_ G 63)
  have w32' := hg.1.2.1
  have t2 := ty_6314 hT (s_ G 63)
  refine w_ite (fun hc1 => ?_) (fun hc1 => ?_)
  · skip
    refine w_some ?_
    have z := hg.2.1 hc1
    have z0 : d_I D 6325 (s_ G 63) = 0 := by omega
    unfold cgT
    rw [z0, z.2.2.2.1, z.2.2.2.2.1, z.2.2.2.2.2.1, z.2.2.2.2.2.2]; omega
  · skip
    have z := (hg.2.2 hc1).2 _ h0.1 h0.2.1
    refine w_gd (by (first | omega | assumption | (subst_vars; first | omega | assumption) | done)) ?_
    refine w_let fun v1 e_v1 => ?_
    refine w_lA (by (first | omega | assumption | (subst_vars; first | omega | assumption) | done)) fun v3 e_v3 => ?_
    have t_v3 : 0 ≤ v3 ∧ v3 ≤ 32 := by rw [e_v3]; exact ty_6319 hT _ _
    have eV : v3 = sqV q x1 := by rw [e_v3, hq.2.2.1]
    refine w_lA (by (first | omega | assumption | (subst_vars; first | omega | assumption) | done)) fun v5 e_v5 => ?_
    have t_v5 : 0 ≤ v5 ∧ v5 ≤ 255 := by rw [e_v5]; exact ty_6315 hT _ _
    have z5 : v5 = cgA g (d_I D 6325 (s_ G 63)) := by rw [z.2.2.1, e_v5, e_v1]
    refine w_ite (fun hc2 => ?_) (fun hc2 => ?_)
    · skip
      refine w_some ?_
      unfold cgT; omega
    · skip
      refine w_lA (by (first | omega | assumption | (subst_vars; first | omega | assumption) | done)) fun v7 e_v7 => ?_
      have t_v7 : 0 ≤ v7 ∧ v7 ≤ 32 := by rw [e_v7]; exact ty_6319 hT _ _
      have eV2 : v7 = sqV q x1 := by rw [e_v7, hq.2.2.1]
      refine w_gd (by (first | omega | assumption | (subst_vars; first | omega | assumption) | done)) ?_
      refine w_lA (by (first | omega | assumption | (subst_vars; first | omega | assumption) | done)) fun v9 e_v9 => ?_
      have t_v9 : 0 ≤ v9 ∧ v9 ≤ 255 := by rw [e_v9]; exact ty_6315 hT _ _
      have z9 : v9 = cgB g (d_I D 6325 (s_ G 63)) := by rw [z.2.2.2.1, e_v9, e_v1]
      refine w_ite (fun hc3 => ?_) (fun hc3 => ?_)
      · skip
        refine w_some ?_
        unfold cgT; omega
      · skip
        refine w_lA (by (first | omega | assumption | (subst_vars; first | omega | assumption) | done)) fun v11 e_v11 => ?_
        have t_v11 : 0 ≤ v11 ∧ v11 ≤ 15 := by rw [e_v11]; exact ty_6318 hT _ _
        have eC : v11 = sqC q x1 := by rw [e_v11, hq.2.1]
        refine w_gd (by (first | omega | assumption | (subst_vars; first | omega | assumption) | done)) ?_
        refine w_lA (by (first | omega | assumption | (subst_vars; first | omega | assumption) | done)) fun v13 e_v13 => ?_
        have t_v13 : 0 ≤ v13 ∧ v13 ≤ 255 := by rw [e_v13]; exact ty_6315 hT _ _
        have z13 : v13 = cgC g (d_I D 6325 (s_ G 63)) := by rw [z.2.2.2.2.1, e_v13, e_v1]
        refine w_ite (fun hc4 => ?_) (fun hc4 => ?_)
        · skip
          refine w_some ?_
          unfold cgT; omega
        · skip
          refine w_lA (by (first | omega | assumption | (subst_vars; first | omega | assumption) | done)) fun v15 e_v15 => ?_
          have t_v15 : 0 ≤ v15 ∧ v15 ≤ 15 := by rw [e_v15]; exact ty_6318 hT _ _
          have eC2 : v15 = sqC q x1 := by rw [e_v15, hq.2.1]
          refine w_gd (by (first | omega | assumption | (subst_vars; first | omega | assumption) | done)) ?_
          refine w_lA (by (first | omega | assumption | (subst_vars; first | omega | assumption) | done)) fun v17 e_v17 => ?_
          have t_v17 : 0 ≤ v17 ∧ v17 ≤ 255 := by rw [e_v17]; exact ty_6315 hT _ _
          have z17 : v17 = cgE g (d_I D 6325 (s_ G 63)) := by rw [z.2.2.2.2.2, e_v17, e_v1]
          refine w_ite (fun hc5 => ?_) (fun hc5 => ?_)
          · skip
            refine w_some ?_
            unfold cgT; omega
          · skip
            refine w_some ?_
            unfold cgT; omega
