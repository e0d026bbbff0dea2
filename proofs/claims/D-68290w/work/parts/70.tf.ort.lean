/-! specifications, printed by gen/mks.py -/
set_option maxRecDepth 100000
/-- a row of m different numbers below m -/
def PmN (m : Int) (S : Fz) : Prop := (∀ k, 0 ≤ k → k < m → 0 ≤ S k ∧ S k < m) ∧ ∀ i j, 0 ≤ i → i < m → 0 ≤ j → j < m → S i = S j → i = j
/-- a row with something put at a place -/
def hoZ (S : Fz) (a v : Int) : Fz := fun k => if k = a then v else S k
theorem PmN.sw {m : Int} {S : Fz} {a b v : Int} (h : PmN m (hoZ S a v)) (a0 : 0 ≤ a) (a1 : a < m) (b0 : 0 ≤ b) (b1 : b < m) (ne : a ≠ b) : PmN m (hoZ (hoZ S a (S b)) b v) := by
  have r : ∀ k, 0 ≤ k → k < m → ∃ k', 0 ≤ k' ∧ k' < m ∧ hoZ (hoZ S a (S b)) b v k = hoZ S a v k' ∧ (k' = if k = b then a else if k = a then b else k) := fun k k0 k1 => by
    unfold hoZ
    by_cases e : k = b
    · exact ⟨a, a0, a1, by rw [if_pos e, if_pos rfl], by rw [if_pos e]⟩
    · by_cases f : k = a
      · exact ⟨b, b0, b1, by rw [if_neg e, if_pos f, if_neg (fun z => ne z.symm)], by rw [if_neg e, if_pos f]⟩
      · exact ⟨k, k0, k1, by rw [if_neg e, if_neg f, if_neg f], by rw [if_neg e, if_neg f]⟩
  refine ⟨fun k k0 k1 => ?_, fun i j i0 i1 j0 j1 z => ?_⟩
  · obtain ⟨k', p, q, e, -⟩ := r k k0 k1
    rw [e]; exact h.1 k' p q
  · obtain ⟨i', p, q, e, f⟩ := r i i0 i1
    obtain ⟨j', p', q', e', f'⟩ := r j j0 j1
    rw [e, e'] at z
    have w := h.2 i' j' p q p' q' z
    rw [f, f'] at w
    by_cases x1 : i = b
    · rw [if_pos x1] at w
      by_cases y1 : j = b
      · omega
      · rw [if_neg y1] at w
        by_cases y2 : j = a
        · rw [if_pos y2] at w; omega
        · rw [if_neg y2] at w; omega
    · rw [if_neg x1] at w
      by_cases x2 : i = a
      · rw [if_pos x2] at w
        by_cases y1 : j = b
        · rw [if_pos y1] at w; omega
        · rw [if_neg y1] at w
          by_cases y2 : j = a
          · omega
          · rw [if_neg y2] at w; omega
      · rw [if_neg x2] at w
        by_cases y1 : j = b
        · rw [if_pos y1] at w; omega
        · rw [if_neg y1] at w
          by_cases y2 : j = a
          · rw [if_pos y2] at w; omega
          · rw [if_neg y2] at w; exact w
theorem hoZ_i {S : Fz} {a : Int} : hoZ S a (S a) = S := by
  funext k; unfold hoZ; split
  · rename_i h; rw [h]
  · rfl
/-- the first ones ascend -/
def AsN (K : Int → List Int) (S : Fz) (k : Int) : Prop := ∀ i j, 0 ≤ i → i < j → j < k → ll (K (S i)) (K (S j))
theorem AsN.mo {K : Int → List Int} {S : Fz} {k m : Int} (h : AsN K S k) (g : m ≤ k) : AsN K S m := fun i j a b c => h i j a b (by omega)
/-- while one is put into its place among those before it: T is the row as it was -/
def InN (K : Int → List Int) (T S : Fz) (a k : Int) : Prop := (∀ i, 0 ≤ i → i < a → S i = T i) ∧ (∀ i, a < i → i ≤ k → S i = T (i - 1)) ∧ (∀ i, k < i → S i = T i) ∧ (∀ i, a ≤ i → i < k → ll (K (T k)) (K (T i))) ∧ AsN K T k
theorem InN.z {K : Int → List Int} {T : Fz} {k : Int} (h : AsN K T k) : InN K T T k k := ⟨fun _ _ _ => rfl, fun i a b => by omega, fun _ _ => rfl, fun i a b => by omega, h⟩
theorem InN.s {K : Int → List Int} {T S : Fz} {a k : Int} (h : InN K T S a k) (a0 : 1 ≤ a) (ak : a ≤ k) (l : ll (K (T k)) (K (S (a - 1)))) : InN K T (hoZ S a (S (a - 1))) (a - 1) k := by
  obtain ⟨h1, h2, h3, h4, h5⟩ := h
  have e : S (a - 1) = T (a - 1) := h1 _ (by omega) (by omega)
  refine ⟨fun i i0 i1 => ?_, fun i i0 i1 => ?_, fun i i0 => ?_, fun i i0 i1 => ?_, h5⟩
  · unfold hoZ; rw [if_neg (by omega)]; exact h1 i i0 (by omega)
  · unfold hoZ
    by_cases z : i = a
    · rw [if_pos z, e, z]
    · rw [if_neg z]; exact h2 i (by omega) i1
  · unfold hoZ; rw [if_neg (by omega)]; exact h3 i i0
  · by_cases z : i = a - 1
    · rw [z, ← e]; exact l
    · exact h4 i (by omega) i1
/-- put in -/
theorem InN.e {K : Int → List Int} {T S : Fz} {a k : Int} (h : InN K T S a k) (a0 : 0 ≤ a) (ak : a ≤ k) (l : 1 ≤ a → ll (K (T (a - 1))) (K (T k))) : AsN K (hoZ S a (T k)) (k + 1) := by
  obtain ⟨h1, h2, h3, h4, h5⟩ := h
  intro i j i0 ij jk
  unfold hoZ
  by_cases y : j = a
  · rw [if_pos y, if_neg (by omega), h1 i i0 (by omega)]
    have l1 := l (by omega)
    by_cases z : i = a - 1
    · rw [z]; exact l1
    · exact ll_tr _ _ _ (h5 i (a - 1) i0 (by omega) (by omega)) l1
  · rw [if_neg y]
    by_cases x : i = a
    · rw [if_pos x, h2 j (by omega) (by omega)]
      exact h4 (j - 1) (by omega) (by omega)
    · rw [if_neg x]
      have ei : S i = T (if i < a then i else i - 1) := by
        split
        · exact h1 i i0 (by omega)
        · exact h2 i (by omega) (by omega)
      have ej : S j = T (if j < a then j else j - 1) := by
        split
        · exact h1 j (by omega) (by omega)
        · exact h2 j (by omega) (by omega)
      rw [ei, ej]
      refine h5 _ _ ?_ ?_ ?_
      · split <;> omega
      · split <;> split <;> omega
      · split <;> omega
set_option maxHeartbeats 8000000 in
theorem s_X63_sort_52 {N : Nat} {od : Int} {K : Int → List Int} {m : Int} {T : Fz} (hN : 1099511627776 ≤ N) {k27 : Int → Int → Gt → Dt → Option Dt} {M27 : Int} (hk27 : ∀ {x1 : Int} {x2 : Int} {G : Gt} {D : Dt}, Ty D → (x1 = od ∧ 0 ≤ x1 ∧ 0 ≤ m ∧ m ≤ 4096 ∧ (d_I D 6317 (s_ G 63)) = m) → (x2 = 3280 ∨ x2 = 1093 ∨ x2 = 364 ∨ x2 = 121 ∨ x2 = 40 ∨ x2 = 13 ∨ x2 = 4 ∨ x2 = 1 ∨ x2 = 0) → (kD x1 D G = K) → (PmN m (d_A D 6324 (s_ G 63))) → (x2 = 0 → AsN K (d_A D 6324 (s_ G 63)) m) → (∀ a b, 0 ≤ a → a < m → 0 ≤ b → b < m → a ≠ b → ll (K a) (K b) ∨ ll (K b) (K a)) → x2 < M27 → Wp (k27 x1 x2 G D) (fun D' => Ty D' ∧ (PmN m (d_A D' 6324 (s_ G 63)) ∧ AsN K (d_A D' 6324 (s_ G 63)) m))) {k33 : Int → Int → Int → Gt → Dt → Option Dt} {M33 : Int} (hk33 : ∀ {x1 : Int} {x2 : Int} {x3 : Int} {G : Gt} {D : Dt}, Ty D → (x1 = od ∧ 0 ≤ x1 ∧ 1 ≤ x2 ∧ x2 ≤ x3 ∧ (x3 ≤ m ∨ x3 = x2) ∧ 0 ≤ m ∧ m ≤ 4096 ∧ (d_I D 6317 (s_ G 63)) = m) → (x2 = 3280 ∨ x2 = 1093 ∨ x2 = 364 ∨ x2 = 121 ∨ x2 = 40 ∨ x2 = 13 ∨ x2 = 4 ∨ x2 = 1) → (kD x1 D G = K) → (PmN m (d_A D 6324 (s_ G 63))) → (x2 = 1 → AsN K (d_A D 6324 (s_ G 63)) x3) → (∀ a b, 0 ≤ a → a < m → 0 ≤ b → b < m → a ≠ b → ll (K a) (K b) ∨ ll (K b) (K a)) → (x2 - 1 < M27) → max 0 (m - x3) < M33 → Wp (k33 x1 x2 x3 G D) (fun D' => Ty D' ∧ (PmN m (d_A D' 6324 (s_ G 63)) ∧ AsN K (d_A D' 6324 (s_ G 63)) m))) (n : Nat) : ∀ {x1 : Int} {x2 : Int} {x3 : Int} {x4 : Int} {x5 : Int} {G : Gt} {D : Dt}, Ty D → (x1 = od ∧ 0 ≤ x1 ∧ 1 ≤ x2 ∧ 0 ≤ x5 ∧ x5 ≤ x3 ∧ x3 < m ∧ m ≤ 4096 ∧ (d_I D 6317 (s_ G 63)) = m ∧ x4 = T x3 ∧ x2 ≤ x3) → (x2 = 3280 ∨ x2 = 1093 ∨ x2 = 364 ∨ x2 = 121 ∨ x2 = 40 ∨ x2 = 13 ∨ x2 = 4 ∨ x2 = 1) → (kD x1 D G = K) → (PmN m (hoZ (d_A D 6324 (s_ G 63)) x5 x4)) → (x2 = 1 → InN K T (d_A D 6324 (s_ G 63)) x5 x3) → (PmN m T) → (∀ a b, 0 ≤ a → a < m → 0 ≤ b → b < m → a ≠ b → ll (K a) (K b) ∨ ll (K b) (K a)) → (m - (x3 + 1) < M33) → (x2 - 1 < M27) → x5 < n → Wp (q_X63_sort_52 N k27 k33 n x1 x2 x3 x4 x5 G D) (fun D' => Ty D' ∧ (PmN m (d_A D' 6324 (s_ G 63)) ∧ AsN K (d_A D' 6324 (s_ G 63)) m)) := by
  induction n with
  | zero =>
    intro x1 x2 x3 x4 x5 G D hT h0 h2 hK hP hI hI2 hV hM hM2 hm; exfalso; omega
  | succ n ih =>
    intro x1 x2 x3 x4 x5 G D hT h0 h2 hK hP hI hI2 hV hM hM2 hm
    show Wp (q_X63_sort_52 N k27 k33 (n + 1) x1 x2 x3 x4 x5 G D) _
    rw [q_X63_sort_52]
    have t1 := ty_6317 hT (s_ G 63)
    have pT := hI2.1 x3 (by omega) (by omega)
    refine w_ite (fun hc1 => ?_) (fun hc1 => ?_)
    · skip
      refine w_un (q_X63_sort_102.eq_1 ..) ?_
      refine w_tA (by (first | omega | assumption | (subst_vars; first | omega | assumption) | done)) fun d2 e_d2 => ?_
      have T_d2 : Ty d2 := tyA_6324 e_d2 hT (by (first | omega | assumption | (subst_vars; first | omega | assumption) | done))
      have w_d2 := wA e_d2
      have hd2 : d_A d2 6324 (s_ G 63) = hoZ (d_A D 6324 (s_ G 63)) x5 x4 := by
       funext k; rw [e_d2, rA_A]; unfold hoZ; simp
      have kd2 : kD x1 d2 G = kD x1 D G := by rw [e_d2]; rfl
      refine w_gd (by (first | omega | assumption | (subst_vars; first | omega | assumption) | done)) ?_
      refine w_let fun v3 e_v3 => ?_
      have rq1 : d_I d2 6317 (s_ G 63) = d_I D 6317 (s_ G 63) := rdI_A e_d2
      have j1_h0 : x1 = od ∧ 0 ≤ x1 ∧ 1 ≤ x2 ∧ x2 ≤ v3 ∧ (v3 ≤ m ∨ v3 = x2) ∧ 0 ≤ m ∧ m ≤ 4096 ∧ (d_I d2 6317 (s_ G 63)) = m := by
        try simp only [rq1]
        (first | omega | assumption | (subst_vars; first | omega | assumption) | done)
      have j1_h2 : x2 = 3280 ∨ x2 = 1093 ∨ x2 = 364 ∨ x2 = 121 ∨ x2 = 40 ∨ x2 = 13 ∨ x2 = 4 ∨ x2 = 1 := by
        (first | omega | assumption | (subst_vars; first | omega | assumption) | done)
      have j1_hK : kD x1 d2 G = K := by
        first | (rw [kd2]; exact hK) | (rw [kd6]; exact hK)
      have j1_hP : PmN m (d_A d2 6324 (s_ G 63)) := by
        rw [hd2]; exact hP
      have j1_hI : x2 = 1 → AsN K (d_A d2 6324 (s_ G 63)) v3 := by
        intro z
        have hI' := hI z
        rw [hd2, e_v3, h0.2.2.2.2.2.2.2.2.1]
        exact hI'.e h0.2.2.2.1 h0.2.2.2.2.1 (fun a1 => by omega)
      have j1_hV : ∀ a b, 0 ≤ a → a < m → 0 ≤ b → b < m → a ≠ b → ll (K a) (K b) ∨ ll (K b) (K a) := by
        (first | omega | assumption | (subst_vars; first | omega | assumption) | done)
      have j1_hM : x2 - 1 < M27 := by
        (first | omega | assumption | (subst_vars; first | omega | assumption) | done)
      have j1_hm : max 0 (m - v3) < M33 := by
        (first | omega | assumption | (subst_vars; first | omega | assumption) | done)
      exact hk33 T_d2 j1_h0 j1_h2 j1_hK j1_hP j1_hI j1_hV j1_hM j1_hm
    · skip
      refine w_gd (by (first | omega | assumption | (subst_vars; first | omega | assumption) | done)) ?_
      refine w_lA (by (first | omega | assumption | (subst_vars; first | omega | assumption) | done)) fun v2 e_v2 => ?_
      have t_v2 : 0 ≤ v2 ∧ v2 ≤ 4095 := by rw [e_v2]; exact ty_6324 hT _ _
      have rv : 0 ≤ v2 ∧ v2 < 4096 := by omega
      have c1_h0 : 0 ≤ x4 ∧ x4 < 4096 ∧ 0 ≤ v2 ∧ v2 < 4096 ∧ 0 ≤ x1 := by
        (first | omega | assumption | (subst_vars; first | omega | assumption) | done)
      refine w_b (s_X63_compare hT c1_h0) fun v3_2 h_v3_2 => ?_
      refine w_ite (fun hc2 => ?_) (fun hc2 => ?_)
      · skip
        refine w_un (q_X63_sort_102.eq_1 ..) ?_
        refine w_tA (by (first | omega | assumption | (subst_vars; first | omega | assumption) | done)) fun d2_2 e_d2_2 => ?_
        have T_d2_2 : Ty d2_2 := tyA_6324 e_d2_2 hT (by (first | omega | assumption | (subst_vars; first | omega | assumption) | done))
        have w_d2_2 := wA e_d2_2
        have hd2 : d_A d2_2 6324 (s_ G 63) = hoZ (d_A D 6324 (s_ G 63)) x5 x4 := by
         funext k; rw [e_d2_2, rA_A]; unfold hoZ; simp
        have kd2 : kD x1 d2_2 G = kD x1 D G := by rw [e_d2_2]; rfl
        refine w_gd (by (first | omega | assumption | (subst_vars; first | omega | assumption) | done)) ?_
        refine w_let fun v3_3 e_v3_3 => ?_
        have rq2 : d_I d2_2 6317 (s_ G 63) = d_I D 6317 (s_ G 63) := rdI_A e_d2_2
        have j2_h0 : x1 = od ∧ 0 ≤ x1 ∧ 1 ≤ x2 ∧ x2 ≤ v3_3 ∧ (v3_3 ≤ m ∨ v3_3 = x2) ∧ 0 ≤ m ∧ m ≤ 4096 ∧ (d_I d2_2 6317 (s_ G 63)) = m := by
          try simp only [rq2]
          (first | omega | assumption | (subst_vars; first | omega | assumption) | done)
        have j2_h2 : x2 = 3280 ∨ x2 = 1093 ∨ x2 = 364 ∨ x2 = 121 ∨ x2 = 40 ∨ x2 = 13 ∨ x2 = 4 ∨ x2 = 1 := by
          (first | omega | assumption | (subst_vars; first | omega | assumption) | done)
        have j2_hK : kD x1 d2_2 G = K := by
          first | (rw [kd2]; exact hK) | (rw [kd6]; exact hK)
        have j2_hP : PmN m (d_A d2_2 6324 (s_ G 63)) := by
          rw [hd2]; exact hP
        have j2_hI : x2 = 1 → AsN K (d_A d2_2 6324 (s_ G 63)) v3_3 := by
          intro z
          have hI' := hI z
          rw [hd2, e_v3_3, h0.2.2.2.2.2.2.2.2.1]
          refine hI'.e h0.2.2.2.1 h0.2.2.2.2.1 (fun a1 => ?_)
          have q : T (x5 - 1) = v2 := by rw [e_v2, z]; exact (hI'.1 (x5 - 1) (by omega) (by omega)).symm
          have pv := hI2.1 (x5 - 1) (by omega) (by omega)
          have nl : ¬ ll (K (T x3)) (K (T (x5 - 1))) := fun l => by
           rw [q, ← h0.2.2.2.2.2.2.2.2.1, ← hK] at l
           have := h_v3_2.mpr l
           omega
          rcases hV (T (x5 - 1)) (T x3) pv.1 pv.2 pT.1 pT.2 (fun w => by have := hI2.2 _ _ (by omega) (by omega) (by omega) (by omega) w; omega) with l | l
          · exact l
          · exact absurd l nl
        have j2_hV : ∀ a b, 0 ≤ a → a < m → 0 ≤ b → b < m → a ≠ b → ll (K a) (K b) ∨ ll (K b) (K a) := by
          (first | omega | assumption | (subst_vars; first | omega | assumption) | done)
        have j2_hM : x2 - 1 < M27 := by
          (first | omega | assumption | (subst_vars; first | omega | assumption) | done)
        have j2_hm : max 0 (m - v3_3) < M33 := by
          (first | omega | assumption | (subst_vars; first | omega | assumption) | done)
        exact hk33 T_d2_2 j2_h0 j2_h2 j2_hK j2_hP j2_hI j2_hV j2_hM j2_hm
      · skip
        refine w_lA (by (first | omega | assumption | (subst_vars; first | omega | assumption) | done)) fun v5 e_v5 => ?_
        have t_v5 : 0 ≤ v5 ∧ v5 ≤ 4095 := by rw [e_v5]; exact ty_6324 hT _ _
        refine w_tA (by (first | omega | assumption | (subst_vars; first | omega | assumption) | done)) fun d6 e_d6 => ?_
        have T_d6 : Ty d6 := tyA_6324 e_d6 hT (by (first | omega | assumption | (subst_vars; first | omega | assumption) | done))
        have w_d6 := wA e_d6
        have hd6 : d_A d6 6324 (s_ G 63) = hoZ (d_A D 6324 (s_ G 63)) x5 (d_A D 6324 (s_ G 63) (x5 - x2)) := by
         funext k; rw [e_d6, rA_A, e_v5]; unfold hoZ; simp
        have kd6 : kD x1 d6 G = kD x1 D G := by rw [e_d6]; rfl
        refine w_let fun v7 e_v7 => ?_
        have rq3 : d_I d6 6317 (s_ G 63) = d_I D 6317 (s_ G 63) := rdI_A e_d6
        have j3_h0 : x1 = od ∧ 0 ≤ x1 ∧ 1 ≤ x2 ∧ 0 ≤ v7 ∧ v7 ≤ x3 ∧ x3 < m ∧ m ≤ 4096 ∧ (d_I d6 6317 (s_ G 63)) = m ∧ x4 = T x3 ∧ x2 ≤ x3 := by
          try simp only [rq3]
          (first | omega | assumption | (subst_vars; first | omega | assumption) | done)
        have j3_h2 : x2 = 3280 ∨ x2 = 1093 ∨ x2 = 364 ∨ x2 = 121 ∨ x2 = 40 ∨ x2 = 13 ∨ x2 = 4 ∨ x2 = 1 := by
          (first | omega | assumption | (subst_vars; first | omega | assumption) | done)
        have j3_hK : kD x1 d6 G = K := by
          first | (rw [kd2]; exact hK) | (rw [kd6]; exact hK)
        have j3_hP : PmN m (hoZ (d_A d6 6324 (s_ G 63)) v7 x4) := by
          rw [hd6, e_v7]; exact hP.sw (by omega) (by omega) (by omega) (by omega) (by omega)
        have j3_hI : x2 = 1 → InN K T (d_A d6 6324 (s_ G 63)) v7 x3 := by
          intro z
          have hI' := hI z
          rw [hd6, e_v7, z]
          refine hI'.s (by omega) (by omega) ?_
          have l := h_v3_2.mp (by omega)
          rw [h0.2.2.2.2.2.2.2.2.1, e_v2, hK, z] at l
          exact l
        have j3_hI2 : PmN m T := by
          (first | omega | assumption | (subst_vars; first | omega | assumption) | done)
        have j3_hV : ∀ a b, 0 ≤ a → a < m → 0 ≤ b → b < m → a ≠ b → ll (K a) (K b) ∨ ll (K b) (K a) := by
          (first | omega | assumption | (subst_vars; first | omega | assumption) | done)
        have j3_hM : m - (x3 + 1) < M33 := by
          (first | omega | assumption | (subst_vars; first | omega | assumption) | done)
        have j3_hM2 : x2 - 1 < M27 := by
          (first | omega | assumption | (subst_vars; first | omega | assumption) | done)
        have j3_hm : v7 < n := by
          (first | omega | assumption | (subst_vars; first | omega | assumption) | done)
        exact ih T_d6 j3_h0 j3_h2 j3_hK j3_hP j3_hI j3_hI2 j3_hV j3_hM j3_hM2 j3_hm
set_option maxHeartbeats 8000000 in
theorem s_X63_sort_33 {N : Nat} {od : Int} {K : Int → List Int} {m : Int} (hN : 1099511627776 ≤ N) {k27 : Int → Int → Gt → Dt → Option Dt} {M27 : Int} (hk27 : ∀ {x1 : Int} {x2 : Int} {G : Gt} {D : Dt}, Ty D → (x1 = od ∧ 0 ≤ x1 ∧ 0 ≤ m ∧ m ≤ 4096 ∧ (d_I D 6317 (s_ G 63)) = m) → (x2 = 3280 ∨ x2 = 1093 ∨ x2 = 364 ∨ x2 = 121 ∨ x2 = 40 ∨ x2 = 13 ∨ x2 = 4 ∨ x2 = 1 ∨ x2 = 0) → (kD x1 D G = K) → (PmN m (d_A D 6324 (s_ G 63))) → (x2 = 0 → AsN K (d_A D 6324 (s_ G 63)) m) → (∀ a b, 0 ≤ a → a < m → 0 ≤ b → b < m → a ≠ b → ll (K a) (K b) ∨ ll (K b) (K a)) → x2 < M27 → Wp (k27 x1 x2 G D) (fun D' => Ty D' ∧ (PmN m (d_A D' 6324 (s_ G 63)) ∧ AsN K (d_A D' 6324 (s_ G 63)) m))) (n : Nat) : ∀ {x1 : Int} {x2 : Int} {x3 : Int} {G : Gt} {D : Dt}, Ty D → (x1 = od ∧ 0 ≤ x1 ∧ 1 ≤ x2 ∧ x2 ≤ x3 ∧ (x3 ≤ m ∨ x3 = x2) ∧ 0 ≤ m ∧ m ≤ 4096 ∧ (d_I D 6317 (s_ G 63)) = m) → (x2 = 3280 ∨ x2 = 1093 ∨ x2 = 364 ∨ x2 = 121 ∨ x2 = 40 ∨ x2 = 13 ∨ x2 = 4 ∨ x2 = 1) → (kD x1 D G = K) → (PmN m (d_A D 6324 (s_ G 63))) → (x2 = 1 → AsN K (d_A D 6324 (s_ G 63)) x3) → (∀ a b, 0 ≤ a → a < m → 0 ≤ b → b < m → a ≠ b → ll (K a) (K b) ∨ ll (K b) (K a)) → (x2 - 1 < M27) → max 0 (m - x3) < n → Wp (q_X63_sort_33 N k27 n x1 x2 x3 G D) (fun D' => Ty D' ∧ (PmN m (d_A D' 6324 (s_ G 63)) ∧ AsN K (d_A D' 6324 (s_ G 63)) m)) := by
  induction n with
  | zero =>
    intro x1 x2 x3 G D hT h0 h2 hK hP hI hV hM hm; exfalso; omega
  | succ n ih =>
    intro x1 x2 x3 G D hT h0 h2 hK hP hI hV hM hm
    show Wp (q_X63_sort_33 N k27 (n + 1) x1 x2 x3 G D) _
    rw [q_X63_sort_33]
    have t1 := ty_6317 hT (s_ G 63)
    refine w_ite (fun hc1 => ?_) (fun hc1 => ?_)
    · skip
      refine w_gd (by (first | omega | assumption | (subst_vars; first | omega | assumption) | done)) ?_
      refine w_let fun v1 e_v1 => ?_
      have e1 : v1 = (x2 - 1) / 3 := by rw [e_v1]; exact Int.tdiv_eq_ediv_of_nonneg (by omega)
      have j1_h0 : x1 = od ∧ 0 ≤ x1 ∧ 0 ≤ m ∧ m ≤ 4096 ∧ (d_I D 6317 (s_ G 63)) = m := by
        (first | omega | assumption | (subst_vars; first | omega | assumption) | done)
      have j1_h2 : v1 = 3280 ∨ v1 = 1093 ∨ v1 = 364 ∨ v1 = 121 ∨ v1 = 40 ∨ v1 = 13 ∨ v1 = 4 ∨ v1 = 1 ∨ v1 = 0 := by
        (first | omega | assumption | (subst_vars; first | omega | assumption) | done)
      have j1_hK : kD x1 D G = K := by
        (first | omega | assumption | (subst_vars; first | omega | assumption) | done)
      have j1_hP : PmN m (d_A D 6324 (s_ G 63)) := by
        (first | omega | assumption | (subst_vars; first | omega | assumption) | done)
      have j1_hI : v1 = 0 → AsN K (d_A D 6324 (s_ G 63)) m := by
        intro z; exact (hI (by omega)).mo (by omega)
      have j1_hV : ∀ a b, 0 ≤ a → a < m → 0 ≤ b → b < m → a ≠ b → ll (K a) (K b) ∨ ll (K b) (K a) := by
        (first | omega | assumption | (subst_vars; first | omega | assumption) | done)
      have j1_hm : v1 < M27 := by
        (first | omega | assumption | (subst_vars; first | omega | assumption) | done)
      exact hk27 hT j1_h0 j1_h2 j1_hK j1_hP j1_hI j1_hV j1_hm
    · skip
      refine w_lA (by (first | omega | assumption | (subst_vars; first | omega | assumption) | done)) fun v3 e_v3 => ?_
      have t_v3 : 0 ≤ v3 ∧ v3 ≤ 4095 := by rw [e_v3]; exact ty_6324 hT _ _
      have j2_h0 : x1 = od ∧ 0 ≤ x1 ∧ 1 ≤ x2 ∧ 0 ≤ x3 ∧ x3 ≤ x3 ∧ x3 < m ∧ m ≤ 4096 ∧ (d_I D 6317 (s_ G 63)) = m ∧ v3 = (d_A D 6324 (s_ G 63)) x3 ∧ x2 ≤ x3 := by
        (first | omega | assumption | (subst_vars; first | omega | assumption) | done)
      have j2_h2 : x2 = 3280 ∨ x2 = 1093 ∨ x2 = 364 ∨ x2 = 121 ∨ x2 = 40 ∨ x2 = 13 ∨ x2 = 4 ∨ x2 = 1 := by
        (first | omega | assumption | (subst_vars; first | omega | assumption) | done)
      have j2_hK : kD x1 D G = K := by
        (first | omega | assumption | (subst_vars; first | omega | assumption) | done)
      have j2_hP : PmN m (hoZ (d_A D 6324 (s_ G 63)) x3 v3) := by
        rw [e_v3, hoZ_i]; exact hP
      have j2_hI : x2 = 1 → InN K (d_A D 6324 (s_ G 63)) (d_A D 6324 (s_ G 63)) x3 x3 := by
        intro z; exact InN.z (hI z)
      have j2_hI2 : PmN m (d_A D 6324 (s_ G 63)) := by
        (first | omega | assumption | (subst_vars; first | omega | assumption) | done)
      have j2_hV : ∀ a b, 0 ≤ a → a < m → 0 ≤ b → b < m → a ≠ b → ll (K a) (K b) ∨ ll (K b) (K a) := by
        (first | omega | assumption | (subst_vars; first | omega | assumption) | done)
      have j2_hM : m - (x3 + 1) < n := by
        (first | omega | assumption | (subst_vars; first | omega | assumption) | done)
      have j2_hM2 : x2 - 1 < M27 := by
        (first | omega | assumption | (subst_vars; first | omega | assumption) | done)
      have j2_hm : x3 < N := by
        (first | omega | assumption | (subst_vars; first | omega | assumption) | done)
      refine Wp.mo (s_X63_sort_52 hN (od := od) (K := K) (m := m) (T := (d_A D 6324 (s_ G 63))) hk27 (M33 := n) (fun T i0 i1 i2 i3 i4 i5 i6 hm => ih T i0 i1 i2 i3 i4 i5 i6 hm) _ hT j2_h0 j2_h2 j2_hK j2_hP j2_hI j2_hI2 j2_hV j2_hM j2_hM2 j2_hm) ?_
      intro o ho
      exact ho
set_option maxHeartbeats 8000000 in
theorem s_X63_sort_27 {N : Nat} {od : Int} {K : Int → List Int} {m : Int} (hN : 1099511627776 ≤ N) (n : Nat) : ∀ {x1 : Int} {x2 : Int} {G : Gt} {D : Dt}, Ty D → (x1 = od ∧ 0 ≤ x1 ∧ 0 ≤ m ∧ m ≤ 4096 ∧ (d_I D 6317 (s_ G 63)) = m) → (x2 = 3280 ∨ x2 = 1093 ∨ x2 = 364 ∨ x2 = 121 ∨ x2 = 40 ∨ x2 = 13 ∨ x2 = 4 ∨ x2 = 1 ∨ x2 = 0) → (kD x1 D G = K) → (PmN m (d_A D 6324 (s_ G 63))) → (x2 = 0 → AsN K (d_A D 6324 (s_ G 63)) m) → (∀ a b, 0 ≤ a → a < m → 0 ≤ b → b < m → a ≠ b → ll (K a) (K b) ∨ ll (K b) (K a)) → x2 < n → Wp (q_X63_sort_27 N n x1 x2 G D) (fun D' => Ty D' ∧ (PmN m (d_A D' 6324 (s_ G 63)) ∧ AsN K (d_A D' 6324 (s_ G 63)) m)) := by
  induction n with
  | zero =>
    intro x1 x2 G D hT h0 h2 hK hP hI hV hm; exfalso; omega
  | succ n ih =>
    intro x1 x2 G D hT h0 h2 hK hP hI hV hm
    show Wp (q_X63_sort_27 N (n + 1) x1 x2 G D) _
    rw [q_X63_sort_27]
    have t1 := ty_6317 hT (s_ G 63)
    refine w_ite (fun hc1 => ?_) (fun hc1 => ?_)
    · skip
      refine w_some ?_
      refine ⟨hT, ?_⟩
      exact ⟨hP, hI (by omega)⟩
    · skip
      have j1_h0 : x1 = od ∧ 0 ≤ x1 ∧ 1 ≤ x2 ∧ x2 ≤ x2 ∧ (x2 ≤ m ∨ x2 = x2) ∧ 0 ≤ m ∧ m ≤ 4096 ∧ (d_I D 6317 (s_ G 63)) = m := by
        (first | omega | assumption | (subst_vars; first | omega | assumption) | done)
      have j1_h2 : x2 = 3280 ∨ x2 = 1093 ∨ x2 = 364 ∨ x2 = 121 ∨ x2 = 40 ∨ x2 = 13 ∨ x2 = 4 ∨ x2 = 1 := by
        (first | omega | assumption | (subst_vars; first | omega | assumption) | done)
      have j1_hK : kD x1 D G = K := by
        (first | omega | assumption | (subst_vars; first | omega | assumption) | done)
      have j1_hP : PmN m (d_A D 6324 (s_ G 63)) := by
        (first | omega | assumption | (subst_vars; first | omega | assumption) | done)
      have j1_hI : x2 = 1 → AsN K (d_A D 6324 (s_ G 63)) x2 := by
        intro z i j a b c; omega
      have j1_hV : ∀ a b, 0 ≤ a → a < m → 0 ≤ b → b < m → a ≠ b → ll (K a) (K b) ∨ ll (K b) (K a) := by
        (first | omega | assumption | (subst_vars; first | omega | assumption) | done)
      have j1_hM : x2 - 1 < n := by
        (first | omega | assumption | (subst_vars; first | omega | assumption) | done)
      have j1_hm : max 0 (m - x2) < N := by
        (first | omega | assumption | (subst_vars; first | omega | assumption) | done)
      refine Wp.mo (s_X63_sort_33 hN (od := od) (K := K) (m := m) (M27 := n) (fun T i0 i1 i2 i3 i4 i5 hm => ih T i0 i1 i2 i3 i4 i5 hm) _ hT j1_h0 j1_h2 j1_hK j1_hP j1_hI j1_hV j1_hM j1_hm) ?_
      intro o ho
      exact ho
set_option maxHeartbeats 8000000 in
theorem s_X63_sort_2 {N : Nat} {od : Int} {K : Int → List Int} {m : Int} (hN : 1099511627776 ≤ N) (n : Nat) : ∀ {x1 : Int} {x2 : Int} {G : Gt} {D : Dt}, Ty D → (x1 = od ∧ 0 ≤ x1 ∧ 0 ≤ m ∧ m ≤ 4096 ∧ (d_I D 6317 (s_ G 63)) = m ∧ 0 ≤ x2 ∧ x2 ≤ m) → (kD x1 D G = K) → (∀ k, 0 ≤ k → k < x2 → (d_A D 6324 (s_ G 63) (k)) = k) → (∀ a b, 0 ≤ a → a < m → 0 ≤ b → b < m → a ≠ b → ll (K a) (K b) ∨ ll (K b) (K a)) → m - x2 < n → Wp (q_X63_sort_2 N n x1 x2 G D) (fun D' => Ty D' ∧ (PmN m (d_A D' 6324 (s_ G 63)) ∧ AsN K (d_A D' 6324 (s_ G 63)) m)) := by
  induction n with
  | zero =>
    intro x1 x2 G D hT h0 hK hS hV hm; exfalso; omega
  | succ n ih =>
    intro x1 x2 G D hT h0 hK hS hV hm
    show Wp (q_X63_sort_2 N (n + 1) x1 x2 G D) _
    rw [q_X63_sort_2]
    have t1 := ty_6317 hT (s_ G 63)
    refine w_ite (fun hc1 => ?_) (fun hc1 => ?_)
    · skip
      have j1_h0 : x1 = x1 ∧ 0 ≤ x1 ∧ 0 ≤ m ∧ m ≤ 4096 ∧ (d_I D 6317 (s_ G 63)) = m := by
        (first | omega | assumption | (subst_vars; first | omega | assumption) | done)
      have j1_h2 : (3280 : Int) = 3280 ∨ (3280 : Int) = 1093 ∨ (3280 : Int) = 364 ∨ (3280 : Int) = 121 ∨ (3280 : Int) = 40 ∨ (3280 : Int) = 13 ∨ (3280 : Int) = 4 ∨ (3280 : Int) = 1 ∨ (3280 : Int) = 0 := by
        (first | omega | assumption | (subst_vars; first | omega | assumption) | done)
      have j1_hK : kD x1 D G = K := by
        (first | omega | assumption | (subst_vars; first | omega | assumption) | done)
      have j1_hP : PmN m (d_A D 6324 (s_ G 63)) := by
        refine ⟨fun k a b => ?_, fun i j a b c d e => ?_⟩
        · rw [hS k a (by omega)]; omega
        · rw [hS i a (by omega), hS j c (by omega)] at e; exact e
      have j1_hI : (3280 : Int) = 0 → AsN K (d_A D 6324 (s_ G 63)) m := by
        (first | omega | assumption | (subst_vars; first | omega | assumption) | done)
      have j1_hV : ∀ a b, 0 ≤ a → a < m → 0 ≤ b → b < m → a ≠ b → ll (K a) (K b) ∨ ll (K b) (K a) := by
        (first | omega | assumption | (subst_vars; first | omega | assumption) | done)
      have j1_hm : (3280 : Int) < N := by
        (first | omega | assumption | (subst_vars; first | omega | assumption) | done)
      refine Wp.mo (s_X63_sort_27 hN (od := x1) (K := K) (m := m) _ hT j1_h0 j1_h2 j1_hK j1_hP j1_hI j1_hV j1_hm) ?_
      intro o ho
      exact ho
    · skip
      refine w_tA (by (first | omega | assumption | (subst_vars; first | omega | assumption) | done)) fun d2 e_d2 => ?_
      have T_d2 : Ty d2 := tyA_6324 e_d2 hT (by (first | omega | assumption | (subst_vars; first | omega | assumption) | done))
      have w_d2 := wA e_d2
      have kd2 : kD x1 d2 G = kD x1 D G := by rw [e_d2]; rfl
      refine w_gd (by (first | omega | assumption | (subst_vars; first | omega | assumption) | done)) ?_
      refine w_let fun v3 e_v3 => ?_
      have rq1 : d_I d2 6317 (s_ G 63) = d_I D 6317 (s_ G 63) := rdI_A e_d2
      have j2_h0 : x1 = od ∧ 0 ≤ x1 ∧ 0 ≤ m ∧ m ≤ 4096 ∧ (d_I d2 6317 (s_ G 63)) = m ∧ 0 ≤ v3 ∧ v3 ≤ m := by
        try simp only [rq1]
        (first | omega | assumption | (subst_vars; first | omega | assumption) | done)
      have j2_hK : kD x1 d2 G = K := by
        rw [kd2]; exact hK
      have j2_hS : ∀ k, 0 ≤ k → k < v3 → (d_A d2 6324 (s_ G 63) (k)) = k := by
        intro k a b; rw [e_d2, rA_A]
        by_cases z : k = x2
        · rw [if_pos ⟨rfl, rfl, z⟩, z]
        · rw [if_neg (fun y => z y.2.2)]; exact hS k a (by omega)
      have j2_hV : ∀ a b, 0 ≤ a → a < m → 0 ≤ b → b < m → a ≠ b → ll (K a) (K b) ∨ ll (K b) (K a) := by
        (first | omega | assumption | (subst_vars; first | omega | assumption) | done)
      have j2_hm : m - v3 < n := by
        (first | omega | assumption | (subst_vars; first | omega | assumption) | done)
      exact ih T_d2 j2_h0 j2_hK j2_hS j2_hV j2_hm
set_option maxHeartbeats 8000000 in
theorem s_X63_sort {N : Nat} {x1 : Int} {G : Gt} {D : Dt} (hN : 1099511627776 ≤ N) {m : Int} (hT : Ty D) (h0 : 0 ≤ x1 ∧ 0 ≤ m ∧ m ≤ 4096 ∧ (d_I D 6317 (s_ G 63)) = m) (hV : ∀ a b, 0 ≤ a → a < m → 0 ≤ b → b < m → a ≠ b → ll (kD x1 D G a) (kD x1 D G b) ∨ ll (kD x1 D G b) (kD x1 D G a)) : Wp (q_X63_sort N x1 G D) (fun D' => Ty D' ∧ (PmN m (d_A D' 6324 (s_ G 63)) ∧ AsN (kD x1 D G) (d_A D' 6324 (s_ G 63)) m)) := by
  refine w_un (q_X63_sort.eq_1 ..) ?_
  have t1 := ty_6317 hT (s_ G 63)
  have j1_h0 : x1 = x1 ∧ 0 ≤ x1 ∧ 0 ≤ m ∧ m ≤ 4096 ∧ (d_I D 6317 (s_ G 63)) = m ∧ 0 ≤ (0 : Int) ∧ (0 : Int) ≤ m := by
    (first | omega | assumption | (subst_vars; first | omega | assumption) | done)
  have j1_hK : kD x1 D G = (kD x1 D G) := by
    rfl
  have j1_hS : ∀ k, 0 ≤ k → k < (0 : Int) → (d_A D 6324 (s_ G 63) (k)) = k := by
    intro k a b; omega
  have j1_hV : ∀ a b, 0 ≤ a → a < m → 0 ≤ b → b < m → a ≠ b → ll ((kD x1 D G) a) ((kD x1 D G) b) ∨ ll ((kD x1 D G) b) ((kD x1 D G) a) := by
    (first | omega | assumption | (subst_vars; first | omega | assumption) | done)
  have j1_hm : m - (0 : Int) < N := by
    (first | omega | assumption | (subst_vars; first | omega | assumption) | done)
  refine Wp.mo (s_X63_sort_2 hN (od := x1) (K := (kD x1 D G)) (m := m) _ hT j1_h0 j1_hK j1_hS j1_hV j1_hm) ?_
  intro o ho
  exact ho
