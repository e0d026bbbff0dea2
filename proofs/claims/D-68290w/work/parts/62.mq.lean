/-! powers of 2, masks, tables; the arithmetic coder as a plain thing -/
theorem p2_pos (y : Int) : 1 ≤ p2 y := by
  unfold p2
  exact_mod_cast Nat.one_le_two_pow
theorem p2_lit {y : Int} (h : 0 ≤ y ∧ y ≤ 30) : p2 y = 2 ^ y.toNat := by unfold p2; rw [Int.emod_eq_of_lt h.1 (by omega)]
theorem p2_suc {y : Int} (h : 1 ≤ y ∧ y ≤ 30) : p2 y = 2 * p2 (y - 1) := by
  rw [p2_lit (by omega), p2_lit (by omega)]
  have : y.toNat = (y - 1).toNat + 1 := by omega
  rw [this, Int.pow_succ]; omega
theorem p2_mo {x y : Int} (h : 0 ≤ x ∧ x ≤ y ∧ y ≤ 30) : p2 x ≤ p2 y := by
  rw [p2_lit (by omega), p2_lit (by omega)]
  exact_mod_cast Nat.pow_le_pow_right (by omega) (by omega)
theorem p2_mul {x y : Int} (h : 0 ≤ x ∧ 0 ≤ y ∧ x + y ≤ 30) : p2 x * p2 y = p2 (x + y) := by
  rw [p2_lit (by omega), p2_lit (by omega), p2_lit (by omega), ← Int.pow_add]
  congr 1; omega
theorem p2_0 : p2 0 = 1 := by decide
theorem p2_7 : p2 7 = 128 := by decide
theorem p2_8 : p2 8 = 256 := by decide
theorem p2_12 : p2 12 = 4096 := by decide
theorem p2_15 : p2 15 = 32768 := by decide
theorem p2_19 : p2 19 = 524288 := by decide
theorem p2_20 : p2 20 = 1048576 := by decide
theorem p2_27 : p2 27 = 134217728 := by decide
theorem p2_r {y : Int} (h : 15 ≤ y ∧ y ≤ 27) : 32768 ≤ p2 y ∧ p2 y ≤ 134217728 := by
  have a := p2_mo (x := 15) (y := y) (by omega)
  have b := p2_mo (x := y) (y := 27) (by omega)
  rw [p2_15] at a; rw [p2_27] at b; omega
theorem lt_of_mul {x P R s : Int} (hR : 1 ≤ R) (hs : 0 ≤ s) (h : (x + s) * R ≤ 150994944) (hp : P * R = 134217728) : x < 2 * P := by
  by_cases c : x < 2 * P
  · exact c
  · exfalso
    have := Int.mul_le_mul_of_nonneg_right (show 2 * P ≤ x + s by omega) (show 0 ≤ R by omega)
    rw [Int.mul_assoc, hp] at this; omega
theorem ofInt_nn {x : Int} (h : 0 ≤ x) : BitVec.ofInt 64 x = BitVec.ofNat 64 x.toNat := by
  obtain ⟨n, rfl⟩ := Int.eq_ofNat_of_zero_le h; simp
theorem band_nn {x y : Int} (hx : 0 ≤ x ∧ x < 9223372036854775808) (hy : 0 ≤ y ∧ y < 9223372036854775808) : band x y = ((x.toNat &&& y.toNat : Nat) : Int) := by
  unfold band
  rw [ofInt_nn hx.1, ofInt_nn hy.1]
  have hl : x.toNat &&& y.toNat ≤ x.toNat := Nat.and_le_left
  rw [BitVec.toInt_eq_toNat_of_lt]
  · rw [BitVec.toNat_and, BitVec.toNat_ofNat, BitVec.toNat_ofNat, Nat.mod_eq_of_lt (by omega), Nat.mod_eq_of_lt (by omega)]
  · rw [BitVec.toNat_and, BitVec.toNat_ofNat, BitVec.toNat_ofNat, Nat.mod_eq_of_lt (by omega), Nat.mod_eq_of_lt (by omega)]; omega
theorem band_mask {x y : Int} (hx : 0 ≤ x ∧ x < 9223372036854775808) (hy : 0 ≤ y ∧ y ≤ 30) : band x (p2 y - 1) = x % p2 y := by
  have hp := p2_pos y
  have hb := p2_mo (x := y) (y := 30) (by omega)
  have h30 : p2 30 = 1073741824 := by decide
  rw [band_nn hx (by omega), p2_lit hy]
  have : ((2 : Int) ^ y.toNat - 1).toNat = 2 ^ y.toNat - 1 := by
    have := Nat.one_le_two_pow (n := y.toNat)
    have e : ((2 : Int) ^ y.toNat) = ((2 ^ y.toNat : Nat) : Int) := by simp
    rw [e]; omega
  rw [this, Nat.and_two_pow_sub_one_eq_mod]
  obtain ⟨n, rfl⟩ := Int.eq_ofNat_of_zero_le hx.1
  simp
def Qe (s : Int) : Int := (tPART.getD s.toNat 0).toInt
def Ot (s : Int) : Int := (tOTHER.getD s.toNat 0).toInt
def Nx (s : Int) : Int := (tNEXT.getD s.toNat 0).toInt
theorem all47 {P : Int → Prop} (h : ∀ n : Fin 47, P (n.val : Int)) {s : Int} (hs : 0 ≤ s ∧ s < 47) : P s := by
  have := h ⟨s.toNat, by omega⟩
  rwa [show ((⟨s.toNat, by omega⟩ : Fin 47).val : Int) = s by show (s.toNat : Int) = s; omega] at this
theorem Qe_r {s : Int} (hs : 0 ≤ s ∧ s < 47) : 1 ≤ Qe s ∧ Qe s ≤ 22017 := all47 (P := fun s => 1 ≤ Qe s ∧ Qe s ≤ 22017) (by decide) hs
theorem Ot_r {s : Int} (hs : 0 ≤ s ∧ s < 47) : 0 ≤ Ot s ∧ Ot s ≤ 46 := all47 (P := fun s => 0 ≤ Ot s ∧ Ot s ≤ 46) (by decide) hs
theorem Nx_r {s : Int} (hs : 0 ≤ s ∧ s < 47) : 0 ≤ Nx s ∧ Nx s ≤ 46 := all47 (P := fun s => 0 ≤ Nx s ∧ Nx s ≤ 46) (by decide) hs
theorem Nx_e {s : Int} (hs : 0 ≤ s ∧ s < 47) : Nx s = if 45 ≤ s then s else if s = 5 then 38 else if s = 13 then 29 else s + 1 := all47 (P := fun s => Nx s = if 45 ≤ s then s else if s = 5 then 38 else if s = 13 then 29 else s + 1) (by decide) hs
/-- size before it is made greater, states and likely bits behind a bit -/
def mqP (A Q h : Int) : Int := if h = 1 ∧ 32768 ≤ A - Q then A - Q else if (h = 1 ↔ A - Q < Q) then Q else A - Q
def mqS (A Q s h : Int) : Int := if h = 1 ∧ 32768 ≤ A - Q then s else if h = 1 then Nx s else Ot s
def mqL (s l h : Int) : Int := if h = 0 ∧ (s = 0 ∨ s = 6 ∨ s = 14) then 1 - l else l

/-! bytes in a row as a list, the last one first -/
def RepB (f : Int → Int) : Int → List Int → Prop
  | n, [] => n = 0
  | n, x :: t => f (n - 1) = x ∧ RepB f (n - 1) t
theorem RepB.len {f : Int → Int} : ∀ {l : List Int} {n : Int}, RepB f n l → n = l.length := by
  intro l
  induction l with
  | nil => intro n h; simpa [RepB] using h
  | cons x t ih => intro n h; have := ih h.2; simp; omega
theorem RepB.congr {f g : Int → Int} : ∀ {l : List Int} {n : Int}, RepB f n l → (∀ i, 0 ≤ i → i < n → g i = f i) → RepB g n l := by
  intro l
  induction l with
  | nil => intro n h _; exact h
  | cons x t ih =>
    intro n h hg
    have hn := RepB.len h
    refine ⟨?_, ih h.2 fun i h0 h1 => hg i h0 (by omega)⟩
    rw [hg (n - 1) (by simp at hn; omega) (by omega)]; exact h.1
theorem RepB.push {f g : Int → Int} {l : List Int} {n v : Int} (h : RepB f n l) (hg : ∀ i, 0 ≤ i → i < n → g i = f i) (hv : g n = v) : RepB g (n + 1) (v :: l) := by
  refine ⟨?_, ?_⟩
  · rw [show n + 1 - 1 = n by omega]; exact hv
  · rw [show n + 1 - 1 = n by omega]; exact h.congr hg
theorem RepB.raise {f g : Int → Int} {t : List Int} {n x y : Int} (h : RepB f n (x :: t)) (hg : ∀ i, 0 ≤ i → i < n - 1 → g i = f i) (hv : g (n - 1) = y) : RepB g n (y :: t) :=
  ⟨hv, h.2.congr hg⟩
theorem RepB.eq {f g : Int → Int} {l m : List Int} {n : Int} (h : RepB f n l) (k : RepB g n m) (e : ∀ i, 0 ≤ i → i < n → g i = f i) : l = m := by
  induction l generalizing n m with
  | nil => have := k.len; have := h.len; cases m; rfl; simp at *; omega
  | cons x t ih =>
    have h1 := h.len; have h2 := k.len
    cases m with
    | nil => simp at *; omega
    | cons y u =>
      have e1 := e (n - 1) (by simp at h1; omega) (by omega)
      rw [h.1, k.1] at e1
      rw [e1, ih h.2 k.2 fun i a b => e i a (by omega)]
/-! the coder: low, size, room, bytes -/
abbrev Mqs : Type := Int × Int × Int × List Int
def stf (b : Int) : List Int → Int
  | [] => 0
  | x :: t => if b < t.length + 1 ∧ x = 255 then 1 else 0
def caL (b L : Int) : List Int → Int
  | [] => L
  | x :: t => if 134217728 ≤ L ∧ b < t.length + 1 ∧ x ≠ 255 then L - 134217728 else L
def cal (b L : Int) : List Int → List Int
  | [] => []
  | x :: t => if 134217728 ≤ L ∧ b < t.length + 1 ∧ x ≠ 255 then (x + 1) :: t else x :: t
def rom (b : Int) (l : List Int) : Int := if stf b l = 1 then 7 else 8
/-- a byte goes out -/
def outM (b L A : Int) (l : List Int) : Mqs := (caL b L l % p2 (27 - rom b (cal b L l)), A, rom b (cal b L l), (caL b L l / p2 (27 - rom b (cal b L l)) % 256) :: cal b L l)
def dblM (b : Int) (s : Mqs) : Mqs := if s.2.2.1 - 1 = 0 then outM b (s.1 + s.1) (s.2.1 + s.2.1) s.2.2.2 else (s.1 + s.1, s.2.1 + s.2.1, s.2.2.1 - 1, s.2.2.2)
def nrmM (b : Int) : Nat → Mqs → Mqs
  | 0, s => s
  | k + 1, s => if 32768 ≤ s.2.1 then s else nrmM b k (dblM b s)
/-- what is added to low -/
def mqA (A Q h : Int) : Int := if h = 1 ∧ 32768 ≤ A - Q then Q else if (h = 1 ↔ A - Q < Q) then 0 else Q
def encM (b Q h : Int) (s : Mqs) : Mqs := nrmM b 16 (s.1 + mqA s.2.1 Q h, mqP s.2.1 Q h, s.2.2.1, s.2.2.2)
/-- how the coder stands between two steps -/
def OkM (b : Int) (s : Mqs) : Prop := 0 ≤ s.1 ∧ 0 ≤ s.2.1 ∧ s.2.1 ≤ 65535 ∧ 1 ≤ s.2.2.1 ∧ s.2.2.1 ≤ 12 ∧ 0 ≤ b ∧ b ≤ s.2.2.2.length ∧ (s.1 + s.2.1) * p2 s.2.2.1 ≤ 150994944 ∧ ∀ x ∈ s.2.2.2, 0 ≤ x ∧ x ≤ 255
theorem stf_of {f : Int → Int} {n b : Int} {l : List Int} (h : RepB f n l) (hb : 0 ≤ b) : stf b l = if b < n ∧ f (n - 1) = 255 then 1 else 0 := by
  have hl := h.len
  cases l with
  | nil => simp at hl; rw [stf, if_neg (by omega)]
  | cons x t => rw [stf, h.1, hl]; simp
theorem caL_of {f : Int → Int} {n b L : Int} {l : List Int} (h : RepB f n l) (hb : 0 ≤ b) : caL b L l = if 134217728 ≤ L ∧ b < n ∧ f (n - 1) ≠ 255 then L - 134217728 else L := by
  have hl := h.len
  cases l with
  | nil => simp at hl; rw [caL, if_neg (by omega)]
  | cons x t => rw [caL, h.1, hl]; simp
theorem cal_no {f : Int → Int} {n b L : Int} {l : List Int} (h : RepB f n l) (hb : 0 ≤ b) (hc : ¬ (134217728 ≤ L ∧ b < n ∧ f (n - 1) ≠ 255)) : cal b L l = l := by
  have hl := h.len
  cases l with
  | nil => rfl
  | cons x t => rw [cal, if_neg]; rw [h.1, hl] at hc; simpa using hc
theorem cal_yes {f g : Int → Int} {n b L : Int} {l : List Int} (h : RepB f n l) (hb : 0 ≤ b) (hc : 134217728 ≤ L ∧ b < n ∧ f (n - 1) ≠ 255) (hg : ∀ i, 0 ≤ i → i < n - 1 → g i = f i) (hv : g (n - 1) = f (n - 1) + 1) : RepB g n (cal b L l) := by
  have hl := h.len
  cases l with
  | nil => simp at hl; omega
  | cons x t =>
    rw [cal, if_pos (by rw [h.1, hl] at hc; simpa using hc)]
    exact h.raise hg (by rw [hv, h.1])
theorem cal_len (b L : Int) (l : List Int) : (cal b L l).length = l.length := by
  cases l with
  | nil => rfl
  | cons x t => rw [cal]; split <;> simp
theorem rom_r (b : Int) (l : List Int) : rom b l = 7 ∨ rom b l = 8 := by unfold rom; split <;> simp
def CarT (low car room b n last L : Int) : Prop := L = low + car * p2 (27 - room) ∧ (b < n → last < 255 → low < p2 (27 - room)) ∧ (car = 1 → b < n ∧ last < 255)
theorem dblM_ok {b : Int} {s : Mqs} (h : OkM b s) (hA : s.2.1 < 32768) : OkM b (dblM b s) := by
  obtain ⟨L, A, r, l⟩ := s
  unfold OkM at *
  simp only at h hA
  obtain ⟨h1, h2, h3, h4, h5, h6, h7, h8, h9⟩ := h
  unfold dblM
  simp only
  by_cases hr : r - 1 = 0
  · rw [if_pos hr]
    have hr1 : r = 1 := by omega
    subst hr1
    have e1 : p2 1 = 2 := by decide
    rw [e1] at h8
    unfold outM
    simp only
    have hcl := cal_len b (L + L) l
    have hL : 0 ≤ caL b (L + L) l ∧ caL b (L + L) l ≤ L + L := by
      cases l with
      | nil => rw [caL]; omega
      | cons x t => rw [caL]; split <;> omega
    have hp : 32768 ≤ p2 (27 - rom b (cal b (L + L) l)) ∧ p2 (27 - rom b (cal b (L + L) l)) * p2 (rom b (cal b (L + L) l)) = 134217728 ∧ 1 ≤ p2 (rom b (cal b (L + L) l)) ∧ p2 (rom b (cal b (L + L) l)) ≤ 256 := by
      rcases rom_r b (cal b (L + L) l) with e | e <;> rw [e] <;> decide
    have hm1 := Int.emod_nonneg (caL b (L + L) l) (show p2 (27 - rom b (cal b (L + L) l)) ≠ 0 by omega)
    have hm2 := Int.emod_lt_of_pos (caL b (L + L) l) (show 0 < p2 (27 - rom b (cal b (L + L) l)) by omega)
    refine ⟨hm1, by omega, by omega, ?_, ?_, h6, ?_, ?_, ?_⟩
    · rcases rom_r b (cal b (L + L) l) with e | e <;> omega
    · rcases rom_r b (cal b (L + L) l) with e | e <;> omega
    · simp; omega
    · have k1 := Int.mul_le_mul_of_nonneg_right (show caL b (L + L) l % p2 (27 - rom b (cal b (L + L) l)) + (A + A) ≤ p2 (27 - rom b (cal b (L + L) l)) + 65533 by omega) (show 0 ≤ p2 (rom b (cal b (L + L) l)) by omega)
      have k2 : (p2 (27 - rom b (cal b (L + L) l)) + 65533) * p2 (rom b (cal b (L + L) l)) = 134217728 + 65533 * p2 (rom b (cal b (L + L) l)) := by rw [Int.add_mul, hp.2.1]
      omega
    · intro x hx
      rcases List.mem_cons.mp hx with e | e
      · rw [e]; omega
      · cases l with
        | nil => simp [cal] at e
        | cons y t =>
          rw [cal] at e
          split at e
          · rename_i hh
            rcases List.mem_cons.mp e with e | e
            · have := h9 y (by simp); omega
            · exact h9 x (by simp [e])
          · exact h9 x e
  · rw [if_neg hr]
    simp only
    have e1 := p2_suc (y := r) (by omega)
    refine ⟨by omega, by omega, by omega, by omega, by omega, h6, h7, ?_, h9⟩
    rw [e1] at h8
    have : (L + L + (A + A)) * p2 (r - 1) = (L + A) * (2 * p2 (r - 1)) := by grind
    rw [this]; exact h8
theorem dblM_len (b : Int) (s : Mqs) : s.2.2.2.length ≤ (dblM b s).2.2.2.length := by
  unfold dblM; split
  · unfold outM; simp [cal_len]
  · simp
theorem nrmM_len (b : Int) (k : Nat) : ∀ s : Mqs, s.2.2.2.length ≤ (nrmM b k s).2.2.2.length := by
  induction k with
  | zero => intro s; exact Nat.le_refl _
  | succ k ih => intro s; unfold nrmM; split; exact Nat.le_refl _; exact Nat.le_trans (dblM_len b s) (ih _)
theorem dblM_A (b : Int) (s : Mqs) : (dblM b s).2.1 = s.2.1 + s.2.1 := by unfold dblM; split <;> rfl
theorem nrmM_st {b : Int} {J : Nat} {s S : Mqs} (h : 32768 ≤ s.2.1 * 2 ^ J ∧ nrmM b J s = S) (hc : ¬ 32768 ≤ s.2.1) : ∃ K, 32768 ≤ (s.2.1 + s.2.1) * 2 ^ K ∧ nrmM b K (dblM b s) = S := by
  cases J with
  | zero => exfalso; have := h.1; simp at this; omega
  | succ J =>
    unfold nrmM at h
    rw [if_neg hc] at h
    refine ⟨J, ?_, h.2⟩
    have : s.2.1 * 2 ^ (J + 1) = (s.2.1 + s.2.1) * 2 ^ J := by rw [Int.pow_succ]; grind
    rw [← this]; exact h.1
theorem nrmM_end {b : Int} {J : Nat} {s S : Mqs} (h : 32768 ≤ s.2.1 * 2 ^ J ∧ nrmM b J s = S) (hc : 32768 ≤ s.2.1) : s = S := by
  cases J with
  | zero => exact h.2
  | succ J => have := h.2; unfold nrmM at this; rw [if_pos hc] at this; exact this
theorem CarT.dbl {low car room b n last L : Int} (h : CarT low car room b n last L) (hr : 1 ≤ room ∧ room ≤ 12) : CarT (low + low) car (room - 1) b n last (L + L) := by
  unfold CarT at *
  have h2 := p2_suc (y := 27 - (room - 1)) (by omega)
  rw [show 27 - (room - 1) - 1 = 27 - room by omega] at h2
  rw [h2]
  refine ⟨by rw [h.1]; grind, fun a c => ?_, h.2.2⟩
  have := h.2.1 a c; omega
theorem CarT.low {low car room b n last L : Int} (h : CarT low car room b n last L) (hc : 0 ≤ car) : low ≤ L := by
  have h1 := h.1
  have h3 := p2_pos (27 - room)
  have h5 : 0 ≤ car * p2 (27 - room) := Int.mul_nonneg hc (by omega)
  omega
theorem okM_low {L A r : Int} (h : (L + A) * p2 r ≤ 150994944) (hr : 1 ≤ r ∧ r ≤ 12) (hl : 0 ≤ L) (hs : 0 ≤ A) : 2 * (L + A) ≤ 150994944 := by
  have h1 := p2_suc (y := r) (by omega)
  have h2 := p2_pos (r - 1)
  have h6 := Int.mul_le_mul_of_nonneg_left (show (2 : Int) ≤ p2 r by omega) (show 0 ≤ L + A by omega)
  omega
theorem outM_len (b L A : Int) (l : List Int) : (outM b L A l).2.2.2.length = l.length + 1 := by unfold outM; simp [cal_len]
theorem outM_car {b L A : Int} {l : List Int} {n last : Int} : CarT (outM b L A l).1 0 (outM b L A l).2.2.1 b n last (outM b L A l).1 := by
  unfold CarT outM
  simp only
  refine ⟨by omega, fun _ _ => ?_, fun h => by omega⟩
  exact Int.emod_lt_of_pos _ (by have := p2_pos (27 - rom b (cal b L l)); omega)
theorem okM_enc {b L A r Q h : Int} {l : List Int} (k : OkM b (L, A, r, l)) (hA : 32768 ≤ A) (hQ : 1 ≤ Q ∧ Q ≤ 22017) : OkM b (L + mqA A Q h, mqP A Q h, r, l) := by
  unfold OkM at *
  simp only at *
  obtain ⟨k1, k2, k3, k4, k5, k6, k7, k8, k9⟩ := k
  have e : 0 ≤ mqA A Q h ∧ 1 ≤ mqP A Q h ∧ mqA A Q h + mqP A Q h ≤ A := by unfold mqA mqP; grind
  have hp := p2_pos r
  have := Int.mul_le_mul_of_nonneg_right (show L + mqA A Q h + mqP A Q h ≤ L + A by omega) (show 0 ≤ p2 r by omega)
  exact ⟨by omega, by omega, by omega, k4, k5, k6, k7, by omega, k9⟩
theorem mqP_pos {A Q h : Int} (hA : 32768 ≤ A) (hQ : 1 ≤ Q ∧ Q ≤ 22017) : 1 ≤ mqP A Q h := by unfold mqP; grind
/-! a row of bytes that grows -/
theorem growB_spec {D : Dt} {i a : Nat} {c : Ct} {z : Int} (hz : 0 ≤ z ∧ z < 131072 ∧ z ≤ d_N D i a ∧ d_N D i a ≤ 262144 ∧ 0 < d_N D i a) (hl : lkA i = some (-128, 127)) (hT : Ty D) : ∃ p, growB D i a c z = some p ∧ Ty p.1 ∧ z < d_N p.1 i a ∧ d_N p.1 i a ≤ 262144 ∧
    (∀ j, j < z → d_A p.1 i a j = d_A D i a j) ∧ (∀ j b, d_I p.1 j b = d_I D j b) ∧ ((p.2.2.2 : Int) - 2 * d_N p.1 i a = c.2.2 - 2 * d_N D i a) ∧ (256 ≤ d_N D i a → 256 ≤ d_N p.1 i a ∧ (256 * (p.2.2.1 : Int) - d_N p.1 i a ≤ 256 * c.2.1 - d_N D i a)) := by
  unfold growB
  by_cases h : z = d_N D i a
  · rw [if_pos h, if_pos (by omega)]
    refine ⟨_, rfl, ?_⟩
    have hn : d_N (u_N (u_W D i a fun y => if y < z then d_A D i a y else 0) i a (2 * d_N D i a)) i a = 2 * d_N D i a := by
      show (if i = i ∧ a = a then _ else _) = _; rw [if_pos ⟨rfl, rfl⟩]
    refine ⟨?_, ?_, ?_, ?_, ?_, ?_, ?_⟩
    · refine tyN rfl (tyWg rfl hT fun j => ?_)
      rw [hl]; have := hT.2 i a j; rw [hl] at this
      show -128 ≤ _ ∧ _ ≤ (127 : Int)
      split
      · exact this
      · omega
    · rw [hn]; omega
    · rw [hn]; omega
    · intro j hj
      show (up2 D.2.2.2.1 i a _) i a j = _
      unfold up2; rw [if_pos ⟨rfl, rfl⟩, if_pos hj]
    · intro j b; rfl
    · rw [hn]; show ((c.2.2 + 2 * d_N D i a : Nat) : Int) - _ = _; omega
    · intro h256; rw [hn]; refine ⟨by omega, ?_⟩; show 256 * ((c.2.1 + 1 : Nat) : Int) - _ ≤ _; omega
  · rw [if_neg h]
    refine ⟨_, rfl, hT, by show z < (d_N D i a : Int); omega, hz.2.2.2.1, fun _ _ => rfl, fun _ _ => rfl, rfl, fun h => ⟨h, by simp⟩⟩
theorem tob_m (x : Int) : tob x % 256 = x % 256 := by unfold tob; omega
theorem tob_r (x : Int) : -128 ≤ tob x ∧ tob x ≤ 127 := by unfold tob; omega
theorem tos_r (x : Int) : -32768 ≤ tos x ∧ tos x ≤ 32767 := by unfold tos; omega
theorem s_X37_add {x1 : Int} {G : Gt} {D : Dt} {c : Ct} (hT : Ty D) (h1 : 0 ≤ d_I D 3701 (s_ G 37) ∧ d_I D 3701 (s_ G 37) < 131072 ∧ d_I D 3701 (s_ G 37) ≤ d_N D 3700 (s_ G 37) ∧ d_N D 3700 (s_ G 37) ≤ 262144 ∧ 256 ≤ d_N D 3700 (s_ G 37)) :
    Wp (q_X37_add x1 G D c) (fun o => (fun D' c' => Ty D' ∧ (d_I D' 3701 (s_ G 37) = d_I D 3701 (s_ G 37) + 1 ∧ d_I D' 3701 (s_ G 37) ≤ d_N D' 3700 (s_ G 37) ∧ d_N D' 3700 (s_ G 37) ≤ 262144 ∧ 256 ≤ d_N D' 3700 (s_ G 37) ∧ (∀ i, i < d_I D 3701 (s_ G 37) → d_A D' 3700 (s_ G 37) i = d_A D 3700 (s_ G 37) i) ∧ d_A D' 3700 (s_ G 37) (d_I D 3701 (s_ G 37)) = tob x1 ∧
      ((c'.2.2 : Int) - 2 * d_N D' 3700 (s_ G 37) = c.2.2 - 2 * d_N D 3700 (s_ G 37)) ∧ (256 * (c'.2.1 : Int) - d_N D' 3700 (s_ G 37) ≤ 256 * c.2.1 - d_N D 3700 (s_ G 37)))) o.1 o.2) := by
  unfold q_X37_add
  obtain ⟨p, e, g1, g2, g3, g4, g5, g6, g7⟩ := growB_spec (D := D) (i := 3700) (a := s_ G 37) (c := c) (z := d_I D 3701 (s_ G 37)) (by omega) rfl hT
  rw [e]
  have hs := g5 3701 (s_ G 37)
  show Wp (bnd (t_A p.1 _ 3700 (s_ G 37) (d_I p.1 3701 (s_ G 37)) (tob x1)) _) _
  refine w_tA (by rw [hs]; exact ⟨by omega, by omega⟩) fun E eE => ?_
  refine w_gd (by rw [hs]; constructor <;> omega) ?_
  refine w_some ?_
  have T1 := tyA_3700 eE g1 (tob_r x1)
  have T2 := tyI_3701 (E := u_I E 3701 (s_ G 37) (d_I p.1 3701 (s_ G 37) + 1)) rfl T1 (by rw [hs]; omega)
  have n1 : d_N (u_I E 3701 (s_ G 37) (d_I p.1 3701 (s_ G 37) + 1)) 3700 (s_ G 37) = d_N p.1 3700 (s_ G 37) := by
    show d_N E 3700 (s_ G 37) = _; exact rdN_A eE
  have a1 : ∀ l, d_A (u_I E 3701 (s_ G 37) (d_I p.1 3701 (s_ G 37) + 1)) 3700 (s_ G 37) l = if l = d_I p.1 3701 (s_ G 37) then tob x1 else d_A p.1 3700 (s_ G 37) l := fun l => by
    show d_A E 3700 (s_ G 37) l = _; exact wA eE l
  have i1 : d_I (u_I E 3701 (s_ G 37) (d_I p.1 3701 (s_ G 37) + 1)) 3701 (s_ G 37) = d_I D 3701 (s_ G 37) + 1 := by rw [rdI_s rfl, hs]
  have g8 := g7 (by omega)
  refine ⟨T2, i1, ?_, ?_, ?_, ?_, ?_, ?_, ?_⟩
  · rw [i1, n1]; omega
  · rw [n1]; exact g3
  · rw [n1]; exact g8.1
  · intro i hi; rw [a1, hs, if_neg (by omega)]; exact g4 i hi
  · rw [a1, hs, if_pos rfl]
  · rw [n1]; exact g6
  · rw [n1]; exact g8.2
theorem w_tP {β : Type} {i : Int} {k : Int → Option β} {Q : β → Prop} (h : 0 ≤ i ∧ i < 47) (hk : ∀ v, v = Qe i → Wp (k v) Q) : Wp (bnd (tqPART i) k) Q := w_tb h hk
theorem w_tN {β : Type} {i : Int} {k : Int → Option β} {Q : β → Prop} (h : 0 ≤ i ∧ i < 47) (hk : ∀ v, v = Nx i → Wp (k v) Q) : Wp (bnd (tqNEXT i) k) Q := w_tb h hk
theorem w_tO {β : Type} {i : Int} {k : Int → Option β} {Q : β → Prop} (h : 0 ≤ i ∧ i < 47) (hk : ∀ v, v = Ot i → Wp (k v) Q) : Wp (bnd (tqOTHER i) k) Q := w_tb h hk
theorem tob_id {x : Int} (h : -128 ≤ x ∧ x ≤ 127) : tob x = x := by unfold tob; omega
theorem tos_id {x : Int} (h : -32768 ≤ x ∧ x ≤ 32767) : tos x = x := by unfold tos; omega
theorem bxor1 {v : Int} (h : v = 0 ∨ v = 1) : bxor v 1 = 1 - v := by rcases h with h | h <;> subst h <;> decide
theorem encM_rest {b Q h : Int} {s : Mqs} (hh : h = 1 ∧ 32768 ≤ s.2.1 - Q) : encM b Q h s = (s.1 + Q, s.2.1 - Q, s.2.2.1, s.2.2.2) := by
  have e1 : mqA s.2.1 Q h = Q := by unfold mqA; rw [if_pos hh]
  have e2 : mqP s.2.1 Q h = s.2.1 - Q := by unfold mqP; rw [if_pos hh]
  unfold encM; rw [e1, e2]; rw [nrmM]; rw [if_pos hh.2]
