/-! specifications, printed by gen/mks.py -/
set_option maxRecDepth 100000
theorem PtA.x {G G' : Gt} {pt b : Nat} (h : PtA G pt) (hb : pt + 296 ≤ b) (eP : ∀ i a, a < b → z_P G' i a = z_P G i a) (eE : ∀ i a j, a < b → z_E G' i a j = z_E G i a j) (eN : ∀ i a, a < b → z_N G' i a = z_N G i a) : PtA G' pt := by
  refine ⟨by rw [eP _ _ (by omega)]; exact h.1, fun r hr => ?_⟩
  have u := loN_u hr
  have g := h.2 r hr
  exact ⟨by rw [eE _ _ _ (by omega)]; exact g.1, g.2.x (b := b) (by omega) eP (fun i a j _ l => eE i a j l) eN⟩
theorem PtD.x {D D' : Dt} {pt b : Nat} (h : PtD D pt) (hb : pt + 296 ≤ b) (e : DtX b D D') : PtD D' pt := fun r hr => by
  have u := loN_u hr
  exact (h r hr).x (b := b) (by omega) e
/-- the order's objects -/
def PoG (G : Gt) (c : Ct) : Prop :=
  (∀ i pt, z_Q G 2301 (s_ G 23) i = some pt → PtA G pt ∧ z_P G 2300 (s_ G 23) < pt ∧ pt + 296 ≤ c.1 ∧ ∀ j pu, z_Q G 2301 (s_ G 23) j = some pu → i = j ∨ pt + 296 ≤ pu ∨ pu + 296 ≤ pt) ∧
  (∀ i st, z_Q G 2302 (s_ G 23) i = some st → st < c.1 ∧ ∀ j, z_Q G 2302 (s_ G 23) j = some st → i = j) ∧
  (∀ i co, z_Q G 2100 (s_ G 21) i = some co → co < c.1 ∧ ∀ j, z_Q G 2100 (s_ G 21) j = some co → i = j) ∧
  (∀ i ch, z_Q G 2105 (s_ G 21) i = some ch → ch < c.1 ∧ ch ≠ z_P G 2104 (s_ G 21) ∧ ∀ j, z_Q G 2105 (s_ G 21) j = some ch → i = j) ∧
  (∀ k r st : Int, ∀ st, 0 ≤ k → 0 ≤ r → r < 33 → z_Q G 2302 (s_ G 23) (k * 33 + r) = some st → ∃ pt co, z_Q G 2301 (s_ G 23) k = some pt ∧ z_Q G 2100 (s_ G 21) k = some co ∧ z_P G 7602 st = z_E G 7301 pt r ∧ z_P G 7601 st = co) ∧
  z_P G 2300 (s_ G 23) < c.1 ∧ z_P G 2104 (s_ G 21) < c.1 ∧ s_ G 21 < c.1 ∧ s_ G 23 < c.1
def PoD (D : Dt) (G : Gt) : Prop := (∀ i pt, z_Q G 2301 (s_ G 23) i = some pt → PtD D pt) ∧ ∀ k r st, 0 ≤ k → 0 ≤ r → r < 33 → z_Q G 2302 (s_ G 23) (k * 33 + r) = some st → d_I D 7600 st = k
/-- the order's objects grow -/
def GoX (b : Nat) (G G' : Gt) : Prop := s_ G' = s_ G ∧ (∀ i a, a < b → z_P G' i a = z_P G i a) ∧ (∀ i a j, a < b → z_E G' i a j = z_E G i a j) ∧ (∀ i a, a < b → z_N G' i a = z_N G i a) ∧ (∀ i a j, i ≠ 2100 → i ≠ 2105 → i ≠ 2301 → i ≠ 2302 → z_Q G' i a j = z_Q G i a j) ∧ ∀ i a j x, z_Q G i a j = some x → z_Q G' i a j = some x
theorem GoX.rf {b : Nat} {G : Gt} : GoX b G G := ⟨rfl, fun _ _ _ => rfl, fun _ _ _ _ => rfl, fun _ _ _ => rfl, fun _ _ _ _ _ _ _ => rfl, fun _ _ _ _ h => h⟩
theorem GoX.tr {b b' : Nat} {G H K : Gt} (h : GoX b G H) (k : GoX b' H K) (l : b ≤ b') : GoX b G K :=
  ⟨k.1.trans h.1, fun i a z => (k.2.1 i a (by omega)).trans (h.2.1 i a z), fun i a j z => (k.2.2.1 i a j (by omega)).trans (h.2.2.1 i a j z), fun i a z => (k.2.2.2.1 i a (by omega)).trans (h.2.2.2.1 i a z), fun i a j n1 n2 n3 n4 => (k.2.2.2.2.1 i a j n1 n2 n3 n4).trans (h.2.2.2.2.1 i a j n1 n2 n3 n4), fun i a j x z => k.2.2.2.2.2 i a j x (h.2.2.2.2.2 i a j x z)⟩
theorem PtA.o {G G' : Gt} {pt b : Nat} (h : PtA G pt) (hb : pt + 296 ≤ b) (e : GoX b G G') : PtA G' pt := h.x hb e.2.1 e.2.2.1 e.2.2.2.1
theorem DtX.rf {b : Nat} {D : Dt} : DtX b D D := fun _ _ _ => rfl
theorem DtX.tr {b b' : Nat} {D E F : Dt} (h : DtX b D E) (k : DtX b' E F) (l : b ≤ b') : DtX b D F := fun i a z => (k i a (by omega)).trans (h i a z)
/-- one more object in a row of objects -/
theorem zQ_w {G : Gt} {i a : Nat} {k : Int} {v : Option Nat} {m b : Nat} {j : Int} : z_Q (w_Q G i a k v) m b j = if m = i ∧ b = a ∧ j = k then v else z_Q G m b j := rfl
theorem GoX.q {b : Nat} {G G1 : Gt} {i : Nat} {k : Int} {v : Nat} {a : Nat} (h : GtX b G G1) (hi : i = 2100 ∨ i = 2105 ∨ i = 2301 ∨ i = 2302) (hn : z_Q G i a k = none) : GoX b G (w_Q G1 i a k (some v)) := by
  obtain ⟨e1, e2, e3, e4, e5⟩ := h
  refine ⟨e1, e2, e3, e4, fun m c j n1 n2 n3 n4 => ?_, fun m c j x z => ?_⟩
  · rw [zQ_w, if_neg (by omega)]; exact e5 m c j
  · rw [zQ_w]
    by_cases y : m = i ∧ c = a ∧ j = k
    · rw [y.1, y.2.1, y.2.2, hn] at z; exact absurd z (by simp)
    · rw [if_neg y, e5]; exact z
theorem PoG.p {G G1 : Gt} {c c' : Ct} {k : Int} (h : PoG G c) (hn : z_Q G 2301 (s_ G 23) k = none) (hx : GtX c.1 G G1) (hp : PtA G1 c.1) (hc : c'.1 = c.1 + 296) : PoG (w_Q G1 2301 (s_ G 23) k (some c.1)) c' ∧ GoX c.1 G (w_Q G1 2301 (s_ G 23) k (some c.1)) := by
  have X : GoX c.1 G (w_Q G1 2301 (s_ G 23) k (some c.1)) := GoX.q hx (by omega) hn
  refine ⟨?_, X⟩
  obtain ⟨h1, h2, h3, h4, h5, h6, h7, h8, h9⟩ := h
  have q1 : ∀ j, z_Q (w_Q G1 2301 (s_ G 23) k (some c.1)) 2301 (s_ G 23) j = if j = k then some c.1 else z_Q G 2301 (s_ G 23) j := fun j => by
    rw [zQ_w]
    by_cases y : j = k
    · rw [if_pos y, if_pos ⟨rfl, rfl, y⟩]
    · rw [if_neg y, if_neg (fun z => y z.2.2)]; exact hx.2.2.2.2 _ _ _
  have q2 : ∀ m a j, m ≠ 2301 → z_Q (w_Q G1 2301 (s_ G 23) k (some c.1)) m a j = z_Q G m a j := fun m a j n => by
    rw [zQ_w, if_neg (fun z => n z.1)]; exact hx.2.2.2.2 _ _ _
  unfold PoG
  rw [X.1]
  refine ⟨fun i pt e => ?_, fun i st e => ?_, fun i st e => ?_, fun i st e => ?_, fun kk r _ st k0 r0 r1 e => ?_, ?_, ?_, by omega, by omega⟩
  · rw [q1] at e
    by_cases y : i = k
    · rw [if_pos y] at e
      have e := Option.some.inj e
      subst e
      refine ⟨hp.x (b := c.1 + 296) (by omega) (fun _ _ _ => rfl) (fun _ _ _ _ => rfl) (fun _ _ _ => rfl), ?_, by omega, fun j pu ej => ?_⟩
      · rw [X.2.1 _ _ (by omega)]; exact h6
      · rw [q1] at ej
        by_cases z : j = k
        · omega
        · rw [if_neg z] at ej; have := (h1 j pu ej).2.2.1; omega
    · rw [if_neg y] at e
      have g := h1 i pt e
      refine ⟨g.1.o g.2.2.1 X, by rw [X.2.1 _ _ (by omega)]; exact g.2.1, by omega, fun j pu ej => ?_⟩
      rw [q1] at ej
      by_cases z : j = k
      · rw [if_pos z] at ej; have := Option.some.inj ej; omega
      · rw [if_neg z] at ej; exact g.2.2.2 j pu ej
  · rw [q2 _ _ _ (by decide)] at e
    exact ⟨by have := (h2 i st e).1; omega, fun j ej => (h2 i st e).2 j (by rw [q2 _ _ _ (by decide)] at ej; exact ej)⟩
  · rw [q2 _ _ _ (by decide)] at e
    exact ⟨by have := (h3 i st e).1; omega, fun j ej => (h3 i st e).2 j (by rw [q2 _ _ _ (by decide)] at ej; exact ej)⟩
  · rw [q2 _ _ _ (by decide)] at e
    exact ⟨by have := (h4 i st e).1; omega, by rw [X.2.1 _ _ (by omega)]; exact (h4 i st e).2.1, fun j ej => (h4 i st e).2.2 j (by rw [q2 _ _ _ (by decide)] at ej; exact ej)⟩
  · rw [q2 _ _ _ (by decide)] at e
    obtain ⟨pt, co, a1, a2, a3, a4⟩ := h5 kk r 0 st k0 r0 r1 e
    have s1 := (h2 _ _ e).1
    have p1 := (h1 _ _ a1).2.2.1
    have ky : kk ≠ k := fun z => by rw [z, hn] at a1; simp at a1
    refine ⟨pt, co, by rw [q1, if_neg ky]; exact a1, by rw [q2 _ _ _ (by decide)]; exact a2, ?_, ?_⟩
    · rw [X.2.1 _ _ s1, X.2.2.1 _ _ _ (by omega)]; exact a3
    · rw [X.2.1 _ _ s1]; exact a4
  · rw [X.2.1 _ _ (by omega)]; omega
  · rw [X.2.1 _ _ (by omega)]; omega
theorem PoG.s {G G1 : Gt} {c c' : Ct} {k r : Int} {pt r2 : Nat} (h : PoG G c) (k0 : 0 ≤ k) (r0 : 0 ≤ r) (r1 : r < 33) (hn : z_Q G 2302 (s_ G 23) (k * 33 + r) = none) (hp : z_Q G 2301 (s_ G 23) k = some pt) (hr : z_Q G 2100 (s_ G 21) k = some r2) (hx : GtX c.1 G G1) (w1 : z_P G1 7601 c.1 = r2) (w2 : z_P G1 7602 c.1 = z_E G 7301 pt r) (hc : c'.1 = c.1 + 1) : PoG (w_Q G1 2302 (s_ G 23) (k * 33 + r) (some c.1)) c' ∧ GoX c.1 G (w_Q G1 2302 (s_ G 23) (k * 33 + r) (some c.1)) := by
  have X : GoX c.1 G (w_Q G1 2302 (s_ G 23) (k * 33 + r) (some c.1)) := GoX.q hx (by omega) hn
  refine ⟨?_, X⟩
  obtain ⟨h1, h2, h3, h4, h5, h6, h7, h8, h9⟩ := h
  have q1 : ∀ j, z_Q (w_Q G1 2302 (s_ G 23) (k * 33 + r) (some c.1)) 2302 (s_ G 23) j = if j = k * 33 + r then some c.1 else z_Q G 2302 (s_ G 23) j := fun j => by
    rw [zQ_w]
    by_cases y : j = k * 33 + r
    · rw [if_pos y, if_pos ⟨rfl, rfl, y⟩]
    · rw [if_neg y, if_neg (fun z => y z.2.2)]; exact hx.2.2.2.2 _ _ _
  have q2 : ∀ m a j, m ≠ 2302 → z_Q (w_Q G1 2302 (s_ G 23) (k * 33 + r) (some c.1)) m a j = z_Q G m a j := fun m a j n => by
    rw [zQ_w, if_neg (fun z => n z.1)]; exact hx.2.2.2.2 _ _ _
  unfold PoG
  rw [X.1]
  refine ⟨fun i p e => ?_, fun i st e => ?_, fun i st e => ?_, fun i st e => ?_, fun kk rr _ st kk0 rr0 rr1 e => ?_, ?_, ?_, by omega, by omega⟩
  · rw [q2 _ _ _ (by decide)] at e
    have g := h1 i p e
    refine ⟨g.1.o g.2.2.1 X, by rw [X.2.1 _ _ (by omega)]; exact g.2.1, by omega, fun j pu ej => ?_⟩
    rw [q2 _ _ _ (by decide)] at ej
    exact g.2.2.2 j pu ej
  · rw [q1] at e
    by_cases y : i = k * 33 + r
    · rw [if_pos y] at e
      have e := Option.some.inj e
      refine ⟨by omega, fun j ej => ?_⟩
      rw [q1] at ej
      by_cases z : j = k * 33 + r
      · omega
      · rw [if_neg z] at ej; have := (h2 j st ej).1; omega
    · rw [if_neg y] at e
      have g := h2 i st e
      refine ⟨by omega, fun j ej => ?_⟩
      rw [q1] at ej
      by_cases z : j = k * 33 + r
      · rw [if_pos z] at ej; have := Option.some.inj ej; omega
      · rw [if_neg z] at ej; exact g.2 j ej
  · rw [q2 _ _ _ (by decide)] at e
    exact ⟨by have := (h3 i st e).1; omega, fun j ej => (h3 i st e).2 j (by rw [q2 _ _ _ (by decide)] at ej; exact ej)⟩
  · rw [q2 _ _ _ (by decide)] at e
    exact ⟨by have := (h4 i st e).1; omega, by rw [X.2.1 _ _ (by omega)]; exact (h4 i st e).2.1, fun j ej => (h4 i st e).2.2 j (by rw [q2 _ _ _ (by decide)] at ej; exact ej)⟩
  · rw [q1] at e
    by_cases y : kk * 33 + rr = k * 33 + r
    · rw [if_pos y] at e
      have e := Option.some.inj e
      have ek : kk = k := by omega
      have er : rr = r := by omega
      subst ek; subst er; subst e
      have p1 := (h1 _ _ hp).2.2.1
      exact ⟨pt, r2, by rw [q2 _ _ _ (by decide)]; exact hp, by rw [q2 _ _ _ (by decide)]; exact hr, by rw [X.2.2.1 _ _ _ (by omega)]; exact w2, w1⟩
    · rw [if_neg y] at e
      obtain ⟨p, co, a1, a2, a3, a4⟩ := h5 kk rr 0 st kk0 rr0 rr1 e
      have s1 := (h2 _ _ e).1
      have p1 := (h1 _ _ a1).2.2.1
      refine ⟨p, co, by rw [q2 _ _ _ (by decide)]; exact a1, by rw [q2 _ _ _ (by decide)]; exact a2, ?_, ?_⟩
      · rw [X.2.1 _ _ s1, X.2.2.1 _ _ _ (by omega)]; exact a3
      · rw [X.2.1 _ _ s1]; exact a4
  · rw [X.2.1 _ _ (by omega)]; omega
  · rw [X.2.1 _ _ (by omega)]; omega
theorem PoG.c {G G1 : Gt} {c c' : Ct} {k : Int} (h : PoG G c) (hn : z_Q G 2100 (s_ G 21) k = none) (hx : GtX c.1 G G1) (hc : c.1 < c'.1) : PoG (w_Q G1 2100 (s_ G 21) k (some c.1)) c' ∧ GoX c.1 G (w_Q G1 2100 (s_ G 21) k (some c.1)) := by
  have X : GoX c.1 G (w_Q G1 2100 (s_ G 21) k (some c.1)) := GoX.q hx (by omega) hn
  refine ⟨?_, X⟩
  obtain ⟨h1, h2, h3, h4, h5, h6, h7, h8, h9⟩ := h
  have q1 : ∀ j, z_Q (w_Q G1 2100 (s_ G 21) k (some c.1)) 2100 (s_ G 21) j = if j = k then some c.1 else z_Q G 2100 (s_ G 21) j := fun j => by
    rw [zQ_w]
    by_cases y : j = k
    · rw [if_pos y, if_pos ⟨rfl, rfl, y⟩]
    · rw [if_neg y, if_neg (fun z => y z.2.2)]; exact hx.2.2.2.2 _ _ _
  have q2 : ∀ m a j, m ≠ 2100 → z_Q (w_Q G1 2100 (s_ G 21) k (some c.1)) m a j = z_Q G m a j := fun m a j n => by
    rw [zQ_w, if_neg (fun z => n z.1)]; exact hx.2.2.2.2 _ _ _
  unfold PoG
  rw [X.1]
  refine ⟨fun i p e => ?_, fun i st e => ?_, fun i st e => ?_, fun i st e => ?_, fun kk rr _ st kk0 rr0 rr1 e => ?_, ?_, ?_, by omega, by omega⟩
  · rw [q2 _ _ _ (by decide)] at e
    have g := h1 i p e
    refine ⟨g.1.o g.2.2.1 X, by rw [X.2.1 _ _ (by omega)]; exact g.2.1, by omega, fun j pu ej => ?_⟩
    rw [q2 _ _ _ (by decide)] at ej
    exact g.2.2.2 j pu ej
  · rw [q2 _ _ _ (by decide)] at e
    exact ⟨by have := (h2 i st e).1; omega, fun j ej => (h2 i st e).2 j (by rw [q2 _ _ _ (by decide)] at ej; exact ej)⟩
  · rw [q1] at e
    by_cases y : i = k
    · rw [if_pos y] at e
      have e := Option.some.inj e
      refine ⟨by omega, fun j ej => ?_⟩
      rw [q1] at ej
      by_cases z : j = k
      · omega
      · rw [if_neg z] at ej; have := (h3 j st ej).1; omega
    · rw [if_neg y] at e
      have g := h3 i st e
      refine ⟨by omega, fun j ej => ?_⟩
      rw [q1] at ej
      by_cases z : j = k
      · rw [if_pos z] at ej; have := Option.some.inj ej; omega
      · rw [if_neg z] at ej; exact g.2 j ej
  · rw [q2 _ _ _ (by decide)] at e
    exact ⟨by have := (h4 i st e).1; omega, by rw [X.2.1 _ _ (by omega)]; exact (h4 i st e).2.1, fun j ej => (h4 i st e).2.2 j (by rw [q2 _ _ _ (by decide)] at ej; exact ej)⟩
  · rw [q2 _ _ _ (by decide)] at e
    obtain ⟨p, co, a1, a2, a3, a4⟩ := h5 kk rr 0 st kk0 rr0 rr1 e
    have s1 := (h2 _ _ e).1
    have p1 := (h1 _ _ a1).2.2.1
    have ky : kk ≠ k := fun z => by rw [z, hn] at a2; simp at a2
    refine ⟨p, co, by rw [q2 _ _ _ (by decide)]; exact a1, by rw [q1, if_neg ky]; exact a2, ?_, ?_⟩
    · rw [X.2.1 _ _ s1, X.2.2.1 _ _ _ (by omega)]; exact a3
    · rw [X.2.1 _ _ s1]; exact a4
  · rw [X.2.1 _ _ (by omega)]; omega
  · rw [X.2.1 _ _ (by omega)]; omega
theorem PoG.h {G G1 : Gt} {c c' : Ct} {k : Int} (h : PoG G c) (hn : z_Q G 2105 (s_ G 21) k = none) (hx : GtX c.1 G G1) (hc : c.1 < c'.1) : PoG (w_Q G1 2105 (s_ G 21) k (some c.1)) c' ∧ GoX c.1 G (w_Q G1 2105 (s_ G 21) k (some c.1)) := by
  have X : GoX c.1 G (w_Q G1 2105 (s_ G 21) k (some c.1)) := GoX.q hx (by omega) hn
  refine ⟨?_, X⟩
  obtain ⟨h1, h2, h3, h4, h5, h6, h7, h8, h9⟩ := h
  have q1 : ∀ j, z_Q (w_Q G1 2105 (s_ G 21) k (some c.1)) 2105 (s_ G 21) j = if j = k then some c.1 else z_Q G 2105 (s_ G 21) j := fun j => by
    rw [zQ_w]
    by_cases y : j = k
    · rw [if_pos y, if_pos ⟨rfl, rfl, y⟩]
    · rw [if_neg y, if_neg (fun z => y z.2.2)]; exact hx.2.2.2.2 _ _ _
  have q2 : ∀ m a j, m ≠ 2105 → z_Q (w_Q G1 2105 (s_ G 21) k (some c.1)) m a j = z_Q G m a j := fun m a j n => by
    rw [zQ_w, if_neg (fun z => n z.1)]; exact hx.2.2.2.2 _ _ _
  unfold PoG
  rw [X.1]
  refine ⟨fun i p e => ?_, fun i st e => ?_, fun i st e => ?_, fun i st e => ?_, fun kk rr _ st kk0 rr0 rr1 e => ?_, ?_, ?_, by omega, by omega⟩
  · rw [q2 _ _ _ (by decide)] at e
    have g := h1 i p e
    refine ⟨g.1.o g.2.2.1 X, by rw [X.2.1 _ _ (by omega)]; exact g.2.1, by omega, fun j pu ej => ?_⟩
    rw [q2 _ _ _ (by decide)] at ej
    exact g.2.2.2 j pu ej
  · rw [q2 _ _ _ (by decide)] at e
    exact ⟨by have := (h2 i st e).1; omega, fun j ej => (h2 i st e).2 j (by rw [q2 _ _ _ (by decide)] at ej; exact ej)⟩
  · rw [q2 _ _ _ (by decide)] at e
    exact ⟨by have := (h3 i st e).1; omega, fun j ej => (h3 i st e).2 j (by rw [q2 _ _ _ (by decide)] at ej; exact ej)⟩
  · rw [q1] at e
    rw [X.2.1 _ _ (by omega)]
    by_cases y : i = k
    · rw [if_pos y] at e
      have e := Option.some.inj e
      refine ⟨by omega, by omega, fun j ej => ?_⟩
      rw [q1] at ej
      by_cases z : j = k
      · omega
      · rw [if_neg z] at ej; have := (h4 j st ej).1; omega
    · rw [if_neg y] at e
      have g := h4 i st e
      refine ⟨by omega, g.2.1, fun j ej => ?_⟩
      rw [q1] at ej
      by_cases z : j = k
      · rw [if_pos z] at ej; have := Option.some.inj ej; omega
      · rw [if_neg z] at ej; exact g.2.2 j ej
  · rw [q2 _ _ _ (by decide)] at e
    obtain ⟨p, co, a1, a2, a3, a4⟩ := h5 kk rr 0 st kk0 rr0 rr1 e
    have s1 := (h2 _ _ e).1
    have p1 := (h1 _ _ a1).2.2.1
    refine ⟨p, co, by rw [q2 _ _ _ (by decide)]; exact a1, by rw [q2 _ _ _ (by decide)]; exact a2, ?_, ?_⟩
    · rw [X.2.1 _ _ s1, X.2.2.1 _ _ _ (by omega)]; exact a3
    · rw [X.2.1 _ _ s1]; exact a4
  · rw [X.2.1 _ _ (by omega)]; omega
  · rw [X.2.1 _ _ (by omega)]; omega
theorem PoD.p {D D' : Dt} {G G' : Gt} {c : Ct} {k : Int} (h : PoD D G) (hg : PoG G c) (hx : DtX c.1 D D') (hp : PtD D' c.1) (s : s_ G' = s_ G) (q : ∀ j, z_Q G' 2301 (s_ G 23) j = if j = k then some c.1 else z_Q G 2301 (s_ G 23) j) (q2 : ∀ j, z_Q G' 2302 (s_ G 23) j = z_Q G 2302 (s_ G 23) j) : PoD D' G' := by
  unfold PoD
  rw [s]
  refine ⟨fun i pt e => ?_, fun kk r st k0 r0 r1 e => ?_⟩
  · rw [q] at e
    by_cases y : i = k
    · rw [if_pos y] at e; rw [← Option.some.inj e]; exact hp
    · rw [if_neg y] at e; exact (h.1 i pt e).x (hg.1 i pt e).2.2.1 hx
  · rw [q2] at e
    rw [hx _ _ (hg.2.1 _ _ e).1]; exact h.2 kk r st k0 r0 r1 e
theorem PoD.s {D D' : Dt} {G G' : Gt} {c : Ct} {k r : Int} (h : PoD D G) (hg : PoG G c) (r0 : 0 ≤ r) (r1 : r < 33) (hx : DtX c.1 D D') (hp : d_I D' 7600 c.1 = k) (s : s_ G' = s_ G) (q : ∀ j, z_Q G' 2302 (s_ G 23) j = if j = k * 33 + r then some c.1 else z_Q G 2302 (s_ G 23) j) (q2 : ∀ j, z_Q G' 2301 (s_ G 23) j = z_Q G 2301 (s_ G 23) j) : PoD D' G' := by
  unfold PoD
  rw [s]
  refine ⟨fun i pt e => ?_, fun kk rr st kk0 rr0 rr1 e => ?_⟩
  · rw [q2] at e
    exact (h.1 i pt e).x (hg.1 i pt e).2.2.1 hx
  · rw [q] at e
    by_cases y : kk * 33 + rr = k * 33 + r
    · rw [if_pos y] at e; rw [← Option.some.inj e]; omega
    · rw [if_neg y] at e
      rw [hx _ _ (hg.2.1 _ _ e).1]; exact h.2 kk rr st kk0 rr0 rr1 e
theorem PoD.o {D D' : Dt} {G G' : Gt} {c : Ct} (h : PoD D G) (hg : PoG G c) (hx : DtX c.1 D D') (s : s_ G' = s_ G) (q : ∀ j, z_Q G' 2302 (s_ G 23) j = z_Q G 2302 (s_ G 23) j) (q2 : ∀ j, z_Q G' 2301 (s_ G 23) j = z_Q G 2301 (s_ G 23) j) : PoD D' G' := by
  unfold PoD
  rw [s]
  refine ⟨fun i pt e => ?_, fun kk rr st kk0 rr0 rr1 e => ?_⟩
  · rw [q2] at e
    exact (h.1 i pt e).x (hg.1 i pt e).2.2.1 hx
  · rw [q] at e
    rw [hx _ _ (hg.2.1 _ _ e).1]; exact h.2 kk rr st kk0 rr0 rr1 e
theorem PoD.fr {D D' : Dt} {G : Gt} {S : List Nat} (h : PoD D G) (F : Fr S D D') (hd : ([7400, 7500, 7600].all fun j => !S.contains j) = true) : PoD D' G := by
  unfold PoD PtD LvDa at h ⊢
  rw [F.i (i := 7400) (dsO_o hd (by decide)), F.i (i := 7500) (dsO_o hd (by decide)), F.i (i := 7600) (dsO_o hd (by decide))]
  exact h
