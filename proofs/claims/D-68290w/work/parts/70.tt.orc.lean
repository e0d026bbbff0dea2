/-! specifications, printed by gen/mks.py -/
set_option maxRecDepth 100000
/-- what a stream's making gives -/
def StMk (k r : Int) (D : Dt) (G : Gt) (c : Ct) (w : Option Nat) (D' : Dt) (G' : Gt) (c' : Ct) : Prop := (∃ st pt, w = some st ∧ z_Q G' 2302 (s_ G 23) (k * 33 + r) = some st ∧ z_Q G' 2301 (s_ G 23) k = some pt) ∧ PoG G' c' ∧ PoD D' G' ∧ GoX c.1 G G' ∧ DtX c.1 D D' ∧ c.1 ≤ c'.1
theorem DtX.uI {b i a : Nat} {v : Int} {D : Dt} (h : b ≤ a) : DtX b D (u_I D i a v) := fun j c l => by rw [rI_I, if_neg (by omega)]
theorem s_X23_stream_30 {N : Nat} {x1 : Int} {r2 : Nat} {x3 x4 : Int} {pt : Nat} {G : Gt} {D : Dt} {c : Ct} (hT : Ty D) (hG : PoG G c) (hD : PoD D G) (h0 : 0 ≤ x1 ∧ x1 < 16 ∧ 0 ≤ x3 ∧ x3 ≤ 32 ∧ x4 = x1 * 33 + x3) (hr : z_Q G 2100 (s_ G 21) x1 = some r2) (hp : z_Q G 2301 (s_ G 23) x1 = some pt) : Wp (q_X23_stream_30 N x1 r2 x3 x4 G D c) (fun o => (fun r D' G' c' => Ty D' ∧ StMk x1 x3 D G c r D' G' c') o.1 o.2.1 o.2.2.1 o.2.2.2) := by
  refine w_un (q_X23_stream_30.eq_1 ..) ?_
  obtain ⟨a0, a1, b0, b1, e4⟩ := h0
  refine w_lQ ⟨by omega, by omega⟩ fun w2 e2 => ?_
  refine w_ite (fun z => ?_) (fun z => ?_)
  · refine w_let fun b4 eb => ?_
    subst eb
    refine w_lQ ⟨by omega, by omega⟩ fun w6 e6 => ?_
    rw [e6, hp]
    refine w_b (R := fun p => p = pt) ⟨_, rfl, rfl⟩ fun b7 e7 => ?_
    rw [e7]
    refine w_lE ⟨by omega, by omega⟩ fun w9 e9 => ?_
    refine w_b (R := fun p => p = (u_I D 7600 c.1 x1, w_P (w_P (mkA G c 77 5).1 7601 c.1 r2) 7602 c.1 w9, (mkA G c 77 5).2)) ⟨_, rfl, rfl⟩ fun p10 e10 => ?_
    subst e10
    refine w_tQ ⟨by omega, by omega⟩ fun g12 e12 => ?_
    refine w_un (q_X23_stream_67.eq_1 ..) ?_
    refine w_lQ ⟨by omega, by omega⟩ fun w13 e13 => ?_
    refine w_some ?_
    dsimp only
    have hn : z_Q G 2302 (s_ G 23) (x1 * 33 + x3) = none := by rw [← e4, ← e2]; exact z
    have hx : GtX c.1 G (w_P (w_P (mkA G c 77 5).1 7601 c.1 r2) 7602 c.1 w9) := ⟨rfl, fun i a l => by
      show (if i = 7602 ∧ a = c.1 then w9 else if i = 7601 ∧ a = c.1 then r2 else z_P G i a) = _
      rw [if_neg (by omega), if_neg (by omega)], fun _ _ _ _ => rfl, fun _ _ _ => rfl, fun _ _ _ => rfl⟩
    have P := hG.s (c' := (mkA G c 77 5).2) (k := x1) (r := x3) (pt := pt) (r2 := r2) a0 b0 (by omega) hn hp hr hx (by
      show (if 7601 = 7602 ∧ c.1 = c.1 then w9 else if 7601 = 7601 ∧ c.1 = c.1 then r2 else z_P G 7601 c.1) = r2
      rw [if_neg (by omega), if_pos ⟨rfl, rfl⟩]) (by
      show (if 7602 = 7602 ∧ c.1 = c.1 then w9 else if 7602 = 7601 ∧ c.1 = c.1 then r2 else z_P G 7602 c.1) = z_E G 7301 pt x3
      rw [if_pos ⟨rfl, rfl⟩]; exact e9) rfl
    have q1 : ∀ j, z_Q g12 2302 (s_ G 23) j = if j = x1 * 33 + x3 then some c.1 else z_Q G 2302 (s_ G 23) j := fun j => by
      rw [e12, zQ_w, e4]
      by_cases y : j = x1 * 33 + x3
      · rw [if_pos y, if_pos ⟨rfl, rfl, y⟩]
      · rw [if_neg y, if_neg (fun q => y q.2.2)]; rfl
    have q2 : ∀ j, z_Q g12 2301 (s_ G 23) j = z_Q G 2301 (s_ G 23) j := fun j => by
      rw [e12, zQ_w, if_neg (fun q => absurd q.1 (by decide))]; rfl
    have sg : s_ g12 = s_ G := by rw [e12]; rfl
    rw [← e4] at P
    rw [← e12] at P
    refine ⟨tyI_7600 (v := x1) rfl hT (by omega), ⟨c.1, pt, ?_, ?_, ?_⟩, P.1, hD.s hG b0 (by omega) (DtX.uI (Nat.le_refl _)) (by rw [rI_I, if_pos ⟨rfl, rfl⟩]) sg q1 q2, P.2, DtX.uI (Nat.le_refl _), Nat.le_succ _⟩
    · rw [e13, sg, q1, if_pos e4]
    · rw [q1, if_pos rfl]
    · rw [q2]; exact hp
  · refine w_un (q_X23_stream_67.eq_1 ..) ?_
    refine w_lQ ⟨by omega, by omega⟩ fun w13 e13 => ?_
    refine w_some ?_
    dsimp only
    cases hw : w2 with
    | none => exact absurd hw z
    | some st =>
      rw [hw] at e2
      exact ⟨hT, ⟨st, pt, by rw [e13, ← e2], by rw [← e4, ← e2], hp⟩, hG, hD, GoX.rf, DtX.rf, Nat.le_refl _⟩
theorem s_X23_stream {N : Nat} {x1 : Int} {r2 : Nat} {x3 : Int} {G : Gt} {D : Dt} {c : Ct} (_hN : 1099511627776 ≤ N) (hT : Ty D) (hG : PoG G c) (hD : PoD D G) (h0 : 0 ≤ x1 ∧ x1 < 16 ∧ 0 ≤ x3 ∧ x3 ≤ 32) (hr : z_Q G 2100 (s_ G 21) x1 = some r2) : Wp (q_X23_stream N x1 r2 x3 G D c) (fun o => (fun r D' G' c' => Ty D' ∧ (StMk x1 x3 D G c r D' G' c')) o.1 o.2.1 o.2.2.1 o.2.2.2) := by
  refine w_un (q_X23_stream.eq_1 ..) ?_
  obtain ⟨a0, a1, b0, b1⟩ := h0
  refine w_gd (by omega) ?_
  refine w_gd (by omega) ?_
  refine w_let fun v1 e1 => ?_
  refine w_lQ ⟨by omega, by omega⟩ fun w3 e3 => ?_
  refine w_ite (fun z => ?_) (fun z => ?_)
  · refine w_let fun b4 eb => ?_
    subst eb
    obtain ⟨R, eR, r1, r2', r3, r4, r5, r6, r7⟩ := mk73_s (D := D) (G := G) (c := c)
    refine w_b (R := fun p => p = R) ⟨R, eR, rfl⟩ fun p6 e6 => ?_
    subst e6
    refine w_tQ ⟨by omega, by omega⟩ fun g8 e8 => ?_
    have hn : z_Q G 2301 (s_ G 23) x1 = none := by rw [← e3]; exact z
    have P := hG.p (c' := p6.2.2) (k := x1) hn r2' r6 r1
    rw [← e8] at P
    have q1 : ∀ j, z_Q g8 2301 (s_ G 23) j = if j = x1 then some c.1 else z_Q G 2301 (s_ G 23) j := fun j => by
      rw [e8, zQ_w]
      by_cases y : j = x1
      · rw [if_pos y, if_pos ⟨rfl, rfl, y⟩]
      · rw [if_neg y, if_neg (fun q => y q.2.2)]; exact r2'.2.2.2.2 _ _ _
    have q2 : ∀ m a j, m ≠ 2301 → z_Q g8 m a j = z_Q G m a j := fun m a j n => by
      rw [e8, zQ_w, if_neg (fun q => n q.1)]; exact r2'.2.2.2.2 _ _ _
    have d8 := hD.p hG r3 r7 P.2.1 q1 (fun j => q2 _ _ _ (by decide))
    have S := s_X23_stream_30 (N := N) (x1 := x1) (r2 := r2) (x3 := x3) (x4 := v1) (pt := c.1) (G := g8) (D := p6.1) (c := p6.2.2) (r5 hT) P.1 d8 ⟨a0, a1, b0, b1, e1⟩ (by rw [P.2.1, q2 _ _ _ (by decide)]; exact hr) (by rw [P.2.1, q1, if_pos rfl])
    refine Wp.mo S fun o ho => ?_
    obtain ⟨T, ⟨st, pt, m1, m2, m3⟩, m4, m5, m6, m7, m8⟩ := ho
    rw [P.2.1] at m2 m3
    exact ⟨T, ⟨st, pt, m1, m2, m3⟩, m4, m5, P.2.tr m6 (by omega), r3.tr m7 (by omega), by omega⟩
  · cases hw : w3 with
    | none => exact absurd hw z
    | some pt => exact s_X23_stream_30 hT hG hD ⟨a0, a1, b0, b1, e1⟩ hr (by rw [← e3]; exact hw)
