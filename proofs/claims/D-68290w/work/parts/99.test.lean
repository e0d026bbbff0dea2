/-! specifications, printed by gen/mks.py -/
set_option maxRecDepth 100000
/-- n packets come, then no more -/
def StpN (g : Cg) (q : Sq) : Nat → (Int → Int → Int → Prop) → Fz → (Int → Int → Int → Prop) → Fz → Prop
  | 0, B, C, B', C' => ∃ w k l, StR g q B C 0 w k l B' C'
  | n + 1, B, C, B', C' => ∃ f w k l B1 C1, f ≠ 0 ∧ StR g q B C f w k l B1 C1 ∧ StpN g q n B1 C1 B' C'
theorem StpN.det {g : Cg} {q : Sq} (hq : QiK q) (n : Nat) : ∀ {m : Nat} {B B2 B' B2' : Int → Int → Int → Prop} {C C2 C' C2' : Fz}, (∀ w k l, VdT g q w k l → (B w k l ↔ B2 w k l)) → (∀ i, 0 ≤ i → i < sqM q → C i = C2 i) → StpN g q n B C B' C' → StpN g q m B2 C2 B2' C2' → n = m ∧ (∀ w k l, VdT g q w k l → (B' w k l ↔ B2' w k l)) ∧ ∀ i, 0 ≤ i → i < sqM q → C' i = C2' i := by
  induction n with
  | zero =>
    intro m B B2 B' B2' C C2 C' C2' hB hC a b
    obtain ⟨w, k, l, a⟩ := a
    cases m with
    | zero =>
      obtain ⟨w2, k2, l2, b⟩ := b
      have d := StR.det hq hB hC a b
      exact ⟨rfl, d.2.2.1, d.2.2.2⟩
    | succ m =>
      obtain ⟨f, w2, k2, l2, B1, C1, nf, b, -⟩ := b
      have d := StR.det hq hB hC a b
      exact absurd (d.1.mp rfl) nf
  | succ n ih =>
    intro m B B2 B' B2' C C2 C' C2' hB hC a b
    obtain ⟨f, w, k, l, B1, C1, nf, a, a'⟩ := a
    cases m with
    | zero =>
      obtain ⟨w2, k2, l2, b⟩ := b
      have d := StR.det hq hB hC a b
      exact absurd (d.1.mpr rfl) nf
    | succ m =>
      obtain ⟨f2, w2, k2, l2, B12, C12, nf2, b, b'⟩ := b
      have d := StR.det hq hB hC a b
      have r := ih d.2.2.1 d.2.2.2 a' b'
      exact ⟨by omega, r.2⟩
theorem cntK_c {f f' : Int → Int} (n : Nat) (h : ∀ i, 0 ≤ i → i < (n : Int) → f' i = f i) : cntK f' n = cntK f n := by
  induction n with
  | zero => rfl
  | succ n ih =>
    show cntK f' n + f' n = cntK f n + f n
    rw [ih (fun i i0 i1 => h i i0 (by omega)), h n (by omega) (by omega)]
theorem cntK_up {f f' : Int → Int} {k : Int} (k0 : 0 ≤ k) (n : Nat) (k1 : k < (n : Int)) (h : ∀ i, 0 ≤ i → i < (n : Int) → f' i = if i = k then f i + 1 else f i) : cntK f' n = cntK f n + 1 := by
  induction n with
  | zero => omega
  | succ n ih =>
    show cntK f' n + f' n = cntK f n + f n + 1
    have e := h n (by omega) (by omega)
    by_cases z : k = n
    · rw [cntK_c (f := f) (f' := f') n (fun i i0 i1 => by rw [h i i0 (by omega), if_neg (by omega)]), e, if_pos (by omega)]; omega
    · rw [ih (by omega) (fun i i0 i1 => h i i0 (by omega)), e, if_neg (by omega)]; omega
theorem cntK_b {f : Int → Int} {m : Int} (h : ∀ i, 0 ≤ f i ∧ f i ≤ m) (n : Nat) : 0 ≤ cntK f n ∧ cntK f n ≤ m * n := by
  induction n with
  | zero => exact ⟨Int.le_refl _, by show (0 : Int) ≤ m * 0; omega⟩
  | succ n ih =>
    have b := h n
    show 0 ≤ cntK f n + f n ∧ cntK f n + f n ≤ m * ((n + 1 : Nat) : Int)
    rw [show ((n + 1 : Nat) : Int) = n + 1 by omega, Int.mul_add, Int.mul_one]
    omega
theorem StR.cnt {g : Cg} {q : Sq} {B B' : Int → Int → Int → Prop} {C C' : Fz} {f w k l : Int} (h : StR g q B C f w k l B' C') (hf : f ≠ 0) : cntK C' (sqM q).toNat = cntK C (sqM q).toNat + 1 := by
  obtain ⟨a, -, -, -, e⟩ := h.2 hf
  have k0 := a.1.2.2.1
  have k1 := a.1.2.2.2.1
  exact cntK_up k0 _ (by omega) (fun i i0 i1 => e i i0 (by omega))
set_option maxHeartbeats 8000000 in
theorem s_X21_skip_21 {N : Nat} {od : Od} {g : Cg} {q : Sq} {cc : Ct} {B0 : Int → Int → Int → Prop} {C0 : Fz} (hN : 1099511627776 ≤ N) (n : Nat) : ∀ {x1 : Int} {x2 : Int} {G : Gt} {D : Dt} {c : Ct}, Ty D → (CurC D G cc od g q) → (x1 = 2147483647 ∧ 0 ≤ x2) → (x2 = cntK (d_A D 2305 (s_ G 23)) (sqM q).toNat - cntK C0 (sqM q).toNat) → (∀ n B' C', StpN g q n (BecC D G g q) (d_A D 2305 (s_ G 23)) B' C' → StpN g q (n + x2.toNat) B0 C0 B' C') → (0 ≤ cntK C0 (sqM q).toNat) → max 0 (2000000 - x2) < n → Wp (q_X21_skip_21 N n x1 x2 G D c) (Th (fun r s => (fun r D' c' => Ty D' ∧ (0 ≤ r ∧ StpN g q r.toNat B0 C0 (BecC D' G g q) (d_A D' 2305 (s_ G 23)) ∧ r = cntK (d_A D' 2305 (s_ G 23)) (sqM q).toNat - cntK C0 (sqM q).toNat ∧ CurC D' G cc od g q ∧ c' = c)) r s.1 s.2) (fun e s => (fun (e : Nat) D' c' => Ty D' ∧ (e = 99 ∧ False)) e s.1 s.2)) := by
  induction n with
  | zero =>
    intro x1 x2 G D c hT hC h0 hn hP hZ hm; exfalso; omega
  | succ n ih =>
    intro x1 x2 G D c hT hC h0 hn hP hZ hm
    show Wp (q_X21_skip_21 N (n + 1) x1 x2 G D c) _
    rw [q_X21_skip_21]
    have cb := cntK_b (f := d_A D 2305 (s_ G 23)) (m := 255) (fun i => ty_2305 hT (s_ G 23) i) (sqM q).toNat
    have sM := hC.1.smo.2.1
    have sQ := hC.2.1.1
    refine w_ite (fun hc1 => ?_) (fun hc1 => ?_)
    · skip
      refine w_thl ?_
      try dsimp only
      refine ⟨hT, ?_⟩
      exfalso; omega
    · skip
      have c1_hC : CurC D G cc od g q := by
        (first | omega | assumption | (subst_vars; first | omega | assumption) | done)
      refine w_b2 (Wp.fr (s_X21_goOn hN hT c1_hC) fr_X21_goOn) fun v3 d2 h_v3 => ?_
      obtain ⟨⟨T_d2, h_v3⟩, F_d2⟩ := h_v3
      try dsimp only at T_d2 h_v3 F_d2
      obtain ⟨hr, ⟨k, l, st, -⟩, hC2⟩ := h_v3
      refine w_ite (fun hc2 => ?_) (fun hc2 => ?_)
      · skip
        rw [show v3 = 0 by assumption] at st
        have hst0 : StpN g q 0 (BecC D G g q) (d_A D 2305 (s_ G 23)) (BecC d2 G g q) (d_A d2 2305 (s_ G 23)) := ⟨_, _, _, st⟩
        refine w_thl ?_
        try dsimp only
        refine ⟨T_d2, ?_⟩
        have p := hP 0 _ _ hst0
        rw [Nat.zero_add] at p
        refine ⟨h0.2, p, ?_, hC2, rfl⟩
        rw [hn]
        have e := (st.1 rfl).2.2
        rw [cntK_c (f := d_A D 2305 (s_ G 23)) (f' := d_A d2 2305 (s_ G 23)) _ (fun i i0 i1 => e i i0 (by omega))]
      · skip
        have cu := st.cnt (by assumption)
        refine w_gd (by (first | omega | assumption | (subst_vars; first | omega | assumption) | done)) ?_
        refine w_let fun v4 e_v4 => ?_
        have j1_hC : CurC d2 G cc od g q := by
          (first | omega | assumption | (subst_vars; first | omega | assumption) | done)
        have j1_h0 : x1 = 2147483647 ∧ 0 ≤ v4 := by
          (first | omega | assumption | (subst_vars; first | omega | assumption) | done)
        have j1_hn : v4 = cntK (d_A d2 2305 (s_ G 23)) (sqM q).toNat - cntK C0 (sqM q).toNat := by
          rw [e_v4, hn, cu]; omega
        have j1_hP : ∀ n B' C', StpN g q n (BecC d2 G g q) (d_A d2 2305 (s_ G 23)) B' C' → StpN g q (n + v4.toNat) B0 C0 B' C' := by
          intro n B' C' s
          have := hP (n + 1) B' C' ⟨_, _, _, _, _, _, by assumption, st, s⟩
          rw [show n + v4.toNat = n + 1 + x2.toNat by omega]
          exact this
        have j1_hZ : 0 ≤ cntK C0 (sqM q).toNat := by
          (first | omega | assumption | (subst_vars; first | omega | assumption) | done)
        have j1_hm : max 0 (2000000 - v4) < n := by
          (first | omega | assumption | (subst_vars; first | omega | assumption) | done)
        exact ih T_d2 j1_hC j1_h0 j1_hn j1_hP j1_hZ j1_hm
set_option maxHeartbeats 8000000 in
theorem s_X21_skip {N : Nat} {x1 : Int} {G : Gt} {D : Dt} {c : Ct} (hN : 1099511627776 ≤ N) {od : Od} {g : Cg} {q : Sq} {cc : Ct} (hT : Ty D) (hC : CurC D G cc od g q) (h0 : x1 = 2147483647) : Wp (q_X21_skip N x1 G D c) (Th (fun r s => (fun r D' c' => Ty D' ∧ (0 ≤ r ∧ StpN g q r.toNat (BecC D G g q) (d_A D 2305 (s_ G 23)) (BecC D' G g q) (d_A D' 2305 (s_ G 23)) ∧ r = cntK (d_A D' 2305 (s_ G 23)) (sqM q).toNat - cntK (d_A D 2305 (s_ G 23)) (sqM q).toNat ∧ CurC D' G cc od g q ∧ c' = c)) r s.1 s.2) (fun e s => (fun (e : Nat) D' c' => Ty D' ∧ (e = 99 ∧ False)) e s.1 s.2)) := by
  refine w_un (q_X21_skip.eq_1 ..) ?_
  have h8 := hC.1.2.2.2.2.2.2.2.1
  generalize e_ts0 : (if x1 < (0 : Int) then (0 : Int) else (1 : Int)) = ts0
  refine w_un (q_X21_skip_9.eq_1 ..) ?_
  refine w_tht (Wp.fr (s_X21_need hT) fr_X21_need) (fun u p2_2 h_p2_2 => ?_) (fun e_x p2_2 h_p2_2 => ?_)
  · skip
    obtain ⟨⟨T_p2_2, h_p2_2⟩, F_p2_2⟩ := h_p2_2
    try dsimp only at T_p2_2 h_p2_2 F_p2_2
    have t1 := ty_2111 hT (s_ G 21)
    refine w_tht (Wp.fr (s_X21_must T_p2_2) fr_X21_must) (fun u_2 p4 h_p4 => ?_) (fun e_x p4 h_p4 => ?_)
    · skip
      obtain ⟨⟨T_p4, h_p4⟩, F_p4⟩ := h_p4
      try dsimp only at T_p4 h_p4 F_p4
      have j1_hC : CurC p4.1 G cc od g q := by
        rw [h_p4.2.1, h_p2_2.2.1]; exact hC
      have j1_h0 : x1 = 2147483647 ∧ 0 ≤ (0 : Int) := by
        (first | omega | assumption | (subst_vars; first | omega | assumption) | done)
      have j1_hn : (0 : Int) = cntK (d_A p4.1 2305 (s_ G 23)) (sqM q).toNat - cntK (d_A p4.1 2305 (s_ G 23)) (sqM q).toNat := by
        (first | omega | assumption | (subst_vars; first | omega | assumption) | done)
      have j1_hP : ∀ n B' C', StpN g q n (BecC p4.1 G g q) (d_A p4.1 2305 (s_ G 23)) B' C' → StpN g q (n + (0 : Int).toNat) (BecC p4.1 G g q) (d_A p4.1 2305 (s_ G 23)) B' C' := by
        intro n B' C' s; exact s
      have j1_hZ : 0 ≤ cntK (d_A p4.1 2305 (s_ G 23)) (sqM q).toNat := by
        exact (cntK_b (m := 255) (fun i => ty_2305 T_p4 (s_ G 23) i) _).1
      have j1_hm : max 0 (2000000 - (0 : Int)) < N := by
        (first | omega | assumption | (subst_vars; first | omega | assumption) | done)
      refine w_thm (Wp.fr (s_X21_skip_21 hN (od := od) (g := g) (q := q) (cc := cc) (B0 := BecC p4.1 G g q) (C0 := d_A p4.1 2305 (s_ G 23)) _ T_p4 j1_hC j1_h0 j1_hn j1_hP j1_hZ j1_hm) (fr_X21_skip_21 _)) (fun r s ho hF => ?_) (fun e s ho hF => ?_)
      · skip
        obtain ⟨hT', ho⟩ := ho
        try dsimp only at hT' ho ⊢
        try dsimp only at hF
        refine ⟨hT', ?_⟩
        rw [h_p4.2.1, h_p2_2.2.1, h_p4.2.2, h_p2_2.2.2] at ho; exact ho
      · skip
        obtain ⟨hT', ho⟩ := ho
        try dsimp only at hT' ho ⊢
        try dsimp only at hF
        refine ⟨hT', ?_⟩
        exact ho
    · skip
      obtain ⟨⟨T_p4, h_p4⟩, F_p4⟩ := h_p4
      try dsimp only at T_p4 h_p4 F_p4
      refine th_inr ?_
      try dsimp only
      refine ⟨T_p4, ?_⟩
      (first | omega | assumption | (subst_vars; first | omega | assumption) | done)
  · skip
    obtain ⟨⟨T_p2_2, h_p2_2⟩, F_p2_2⟩ := h_p2_2
    try dsimp only at T_p2_2 h_p2_2 F_p2_2
    refine th_inr ?_
    try dsimp only
    refine ⟨T_p2_2, ?_⟩
    (first | omega | assumption | (subst_vars; first | omega | assumption) | done)
