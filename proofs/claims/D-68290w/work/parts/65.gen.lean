/-! general lemmas -/
abbrev Fz : Type := Int → Int
theorem w_ll {α β γ : Type} {a : α} {f : α → β} {k : β → Option γ} {Q : γ → Prop} (h : Wp (lett a (fun v => lett (f v) k)) Q) : Wp (lett (lett a f) k) Q := h
theorem w_lif {β γ : Type} {c : Prop} [Decidable c] {a b : β} {k : β → Option γ} {Q : γ → Prop} (h1 : c → Wp (lett a k) Q) (h2 : ¬ c → Wp (lett b k) Q) : Wp (lett (if c then a else b) k) Q := by
  by_cases h : c
  · rw [if_pos h]; exact h1 h
  · rw [if_neg h]; exact h2 h
theorem w_ll2 {α β γ δ : Type} {a : α} {f : α → β × γ} {k : β → γ → Option δ} {Q : δ → Prop} (h : Wp (lett a (fun v => lett2 (f v) k)) Q) : Wp (lett2 (lett a f) k) Q := h
theorem w_lif2 {β γ δ : Type} {c : Prop} [Decidable c] {a b : β × γ} {k : β → γ → Option δ} {Q : δ → Prop} (h1 : c → Wp (lett2 a k) Q) (h2 : ¬ c → Wp (lett2 b k) Q) : Wp (lett2 (if c then a else b) k) Q := by
  by_cases h : c
  · rw [if_pos h]; exact h1 h
  · rw [if_neg h]; exact h2 h
theorem w_lt {α β : Type} {x : α} {k : α → Option β} {R : α → Prop} {Q : β → Prop} (h : Wp (some x) R) (hk : ∀ o, R o → Wp (k o) Q) : Wp (lett x k) Q := by
  obtain ⟨o, e, h⟩ := h; cases e; exact hk _ h
theorem w_lt2 {α β γ : Type} {x : α × β} {k : α → β → Option γ} {R : α × β → Prop} {Q : γ → Prop} (h : Wp (some x) R) (hk : ∀ u v, R (u, v) → Wp (k u v) Q) : Wp (lett2 x k) Q := by
  obtain ⟨o, e, h⟩ := h; cases e; exact hk _ _ h
theorem w_l2c {α α' β γ : Type} {a : α × α'} {f : α → α' → β} {k : β → Option γ} {Q : γ → Prop} (h : Wp (lett2 a (fun v w => lett (f v w) k)) Q) : Wp (lett (lett2 a f) k) Q := h
theorem w_l2c2 {α α' β β' γ : Type} {a : α × α'} {f : α → α' → β × β'} {k : β → β' → Option γ} {Q : γ → Prop} (h : Wp (lett2 a (fun v w => lett2 (f v w) k)) Q) : Wp (lett2 (lett2 a f) k) Q := h
theorem w_llc {α β γ : Type} {a : α} {f : α → β} {k : β → Option γ} {Q : γ → Prop} (h : Wp (lett a (fun v => lett (f v) k)) Q) : Wp (lett (lett a f) k) Q := h
theorem w_llc2 {α β β' γ : Type} {a : α} {f : α → β × β'} {k : β → β' → Option γ} {Q : γ → Prop} (h : Wp (lett a (fun v => lett2 (f v) k)) Q) : Wp (lett2 (lett a f) k) Q := h
theorem bor_nn {x y : Int} (hx : 0 ≤ x ∧ x < 9223372036854775808) (hy : 0 ≤ y ∧ y < 9223372036854775808) : bor x y = ((x.toNat ||| y.toNat : Nat) : Int) := by
  unfold bor
  rw [ofInt_nn hx.1, ofInt_nn hy.1]
  have h1 : x.toNat < 2 ^ 63 := by omega
  have h2 : y.toNat < 2 ^ 63 := by omega
  have h3 : x.toNat ||| y.toNat < 2 ^ 63 := Nat.or_lt_two_pow h1 h2
  have h4 : (BitVec.ofNat 64 x.toNat ||| BitVec.ofNat 64 y.toNat).toNat = x.toNat ||| y.toNat := by
    rw [BitVec.toNat_or, BitVec.toNat_ofNat, BitVec.toNat_ofNat, Nat.mod_eq_of_lt (by omega), Nat.mod_eq_of_lt (by omega)]
  rw [BitVec.toInt_eq_toNat_of_lt (by omega), h4]
def sam (f g : Nat → Int) (a : Nat) : Prop := ∀ b, b ≠ a → g b = f b
def samA (f g : Nat → Fz) (a : Nat) : Prop := ∀ b, b ≠ a → g b = f b
theorem sam_u {D E F : Dt} {i a : Nat} {v : Int} (e : E = u_I F i a v) (h : ∀ bb, d_I F i bb = d_I D i bb) : sam (fun bb => d_I D i bb) (fun bb => d_I E i bb) a := fun b hb => by
  subst e
  show d_I (u_I F i a v) i b = d_I D i b
  rw [rI_I, if_neg (fun z => hb z.2)]; exact h b
theorem Fr.uI {D E : Dt} {i a : Nat} {v : Int} (e : E = u_I D i a v) : Fr [i] D E := fun j hj => by
  subst e
  have hne : ¬ j = i := by simpa using hj
  refine ⟨?_, rfl, rfl, rfl, rfl, rfl, rfl, rfl⟩
  funext b
  show up2 D.1 i a v j b = D.1 j b
  unfold up2; rw [if_neg (fun z => hne z.1)]
theorem Fr.uA {D E : Dt} {i a : Nat} {k v : Int} (e : E = u_A D i a k v) : Fr [i] D E := fun j hj => by
  subst e
  have hne : ¬ j = i := by simpa using hj
  refine ⟨rfl, rfl, rfl, ?_, rfl, rfl, rfl, rfl⟩
  funext b l
  show up3 D.2.2.2.1 i a k v j b l = D.2.2.2.1 j b l
  unfold up3; rw [if_neg (fun z => hne z.1)]
theorem Fr.eq0 {D E : Dt} (e : E = D) : Fr [] D E := by subst e; exact Fr.rf
theorem Fr.uq {D E : Dt} {i a : Nat} {k : Int} {v : Option Nat} (e : E = u_q D i a k v) : Fr [i] D E := by subst e; exact Fr.rf.q (by simp)
theorem Fr.uR {D E : Dt} {i a : Nat} {v : Option Nat} (e : E = u_R D i a v) : Fr [i] D E := by subst e; exact Fr.rf.R (by simp)
theorem Fr.uF {D E : Dt} {i a : Nat} {k : Int} {v : UInt32} (e : E = u_F D i a k v) : Fr [i] D E := by subst e; exact Fr.rf.F (by simp)
