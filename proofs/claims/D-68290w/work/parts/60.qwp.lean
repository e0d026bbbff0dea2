/-! L3: weakest preconditions of the functions q -/
def Wp {α : Type} (x : Option α) (Q : α → Prop) : Prop := ∃ o, x = some o ∧ Q o
theorem Wp.mo {α : Type} {x : Option α} {Q R : α → Prop} (h : Wp x Q) (k : ∀ o, Q o → R o) : Wp x R := by obtain ⟨o, h1, h2⟩ := h; exact ⟨o, h1, k o h2⟩
theorem Wp.an {α : Type} {x : Option α} {Q R : α → Prop} (h : Wp x Q) (k : ∀ o, x = some o → R o) : Wp x (fun o => Q o ∧ R o) := by obtain ⟨o, h1, h2⟩ := h; exact ⟨o, h1, h2, k o h1⟩
theorem Wp.fr {α : Type} {x : Option α} {Q : α → Prop} (h : Wp x Q) {S : List Nat} {D : Dt} {f : α → Dt} (k : Fp S D f x) : Wp x (fun o => Q o ∧ Fr S D (f o)) := h.an k
theorem w_some {α : Type} {a : α} {Q : α → Prop} (h : Q a) : Wp (some a) Q := ⟨a, rfl, h⟩
theorem w_gd {α : Type} {c : Prop} [Decidable c] {x : Option α} {Q : α → Prop} (h : c) (k : Wp x Q) : Wp (gd c x) Q := by unfold gd; rw [if_pos h]; exact k
theorem w_ite {α : Type} {c : Prop} [Decidable c] {x y : Option α} {Q : α → Prop} (h : c → Wp x Q) (k : ¬ c → Wp y Q) : Wp (if c then x else y) Q := by
  by_cases hc : c
  · rw [if_pos hc]; exact h hc
  · rw [if_neg hc]; exact k hc
theorem w_let {α β : Type} {e : α} {k : α → Option β} {Q : β → Prop} (h : ∀ v, v = e → Wp (k v) Q) : Wp (lett e k) Q := h e rfl
theorem w_let2 {α β γ : Type} {e : α × β} {k : α → β → Option γ} {Q : γ → Prop} (h : ∀ v w, v = e.1 → w = e.2 → Wp (k v w) Q) : Wp (lett2 e k) Q := h _ _ rfl rfl
theorem w_b {α β : Type} {x : Option α} {k : α → Option β} {R : α → Prop} {Q : β → Prop} (h : Wp x R) (hk : ∀ o, R o → Wp (k o) Q) : Wp (bnd x k) Q := by
  obtain ⟨o, h1, h2⟩ := h; rw [h1]; exact hk o h2
theorem w_b2 {α β γ : Type} {x : Option (α × β)} {k : α → β → Option γ} {R : α × β → Prop} {Q : γ → Prop} (h : Wp x R) (hk : ∀ u v, R (u, v) → Wp (k u v) Q) : Wp (bnd2 x k) Q := by
  obtain ⟨o, h1, h2⟩ := h; rw [h1]; exact hk o.1 o.2 h2
theorem w_if' {α : Type} {c : Prop} [Decidable c] {a : α} (h : c) : Wp (if c then some a else none) (fun v => v = a) := by rw [if_pos h]; exact ⟨a, rfl, rfl⟩
theorem w_lA {β : Type} {D : Dt} {n : Int} {i a : Nat} {j : Int} {k : Int → Option β} {Q : β → Prop} (h : inb j n) (hk : ∀ v, v = d_A D i a j → Wp (k v) Q) : Wp (bnd (l_A D n i a j) k) Q := w_b (w_if' h) hk
theorem w_lF {β : Type} {D : Dt} {n : Int} {i a : Nat} {j : Int} {k : UInt32 → Option β} {Q : β → Prop} (h : inb j n) (hk : ∀ v, v = d_F D i a j → Wp (k v) Q) : Wp (bnd (l_F D n i a j) k) Q := w_b (w_if' h) hk
theorem w_lq {β : Type} {D : Dt} {n : Int} {i a : Nat} {j : Int} {k : Option Nat → Option β} {Q : β → Prop} (h : inb j n) (hk : ∀ v, v = d_q D i a j → Wp (k v) Q) : Wp (bnd (l_q D n i a j) k) Q := w_b (w_if' h) hk
theorem w_lE {β : Type} {G : Gt} {n : Int} {i a : Nat} {j : Int} {k : Nat → Option β} {Q : β → Prop} (h : inb j n) (hk : ∀ v, v = z_E G i a j → Wp (k v) Q) : Wp (bnd (l_E G n i a j) k) Q := w_b (w_if' h) hk
theorem w_lQ {β : Type} {G : Gt} {n : Int} {i a : Nat} {j : Int} {k : Option Nat → Option β} {Q : β → Prop} (h : inb j n) (hk : ∀ v, v = z_Q G i a j → Wp (k v) Q) : Wp (bnd (l_Q G n i a j) k) Q := w_b (w_if' h) hk
theorem w_tA {β : Type} {D : Dt} {n : Int} {i a : Nat} {j v : Int} {k : Dt → Option β} {Q : β → Prop} (h : inb j n) (hk : ∀ E, E = u_A D i a j v → Wp (k E) Q) : Wp (bnd (t_A D n i a j v) k) Q := w_b (w_if' h) hk
theorem w_tF {β : Type} {D : Dt} {n : Int} {i a : Nat} {j : Int} {v : UInt32} {k : Dt → Option β} {Q : β → Prop} (h : inb j n) (hk : ∀ E, E = u_F D i a j v → Wp (k E) Q) : Wp (bnd (t_F D n i a j v) k) Q := w_b (w_if' h) hk
theorem w_tq {β : Type} {D : Dt} {n : Int} {i a : Nat} {j : Int} {v : Option Nat} {k : Dt → Option β} {Q : β → Prop} (h : inb j n) (hk : ∀ E, E = u_q D i a j v → Wp (k E) Q) : Wp (bnd (t_q D n i a j v) k) Q := w_b (w_if' h) hk
theorem w_tQ {β : Type} {G : Gt} {n : Int} {i a : Nat} {j : Int} {v : Option Nat} {k : Gt → Option β} {Q : β → Prop} (h : inb j n) (hk : ∀ E, E = w_Q G i a j v → Wp (k E) Q) : Wp (bnd (t_Q G n i a j v) k) Q := w_b (w_if' h) hk
theorem w_tht {α β S : Type} {x : Option ((α ⊕ Nat) × S)} {k : α → S → Option ((β ⊕ Nat) × S)} {R : (α ⊕ Nat) × S → Prop} {Q : (β ⊕ Nat) × S → Prop} (h : Wp x R) (h1 : ∀ v s, R (.inl v, s) → Wp (k v s) Q) (h2 : ∀ e s, R (.inr e, s) → Q (.inr e, s)) : Wp (tht x k) Q := by
  obtain ⟨⟨o, s⟩, hx, r⟩ := h; rw [hx]
  cases o with
  | inl v => exact h1 v s r
  | inr e => exact w_some (h2 e s r)
theorem w_thu {α β S S' : Type} {l : S → S'} {x : Option ((α ⊕ Nat) × S)} {k : α → S → Option ((β ⊕ Nat) × S')} {R : (α ⊕ Nat) × S → Prop} {Q : (β ⊕ Nat) × S' → Prop} (h : Wp x R) (h1 : ∀ v s, R (.inl v, s) → Wp (k v s) Q) (h2 : ∀ e s, R (.inr e, s) → Q (.inr e, l s)) : Wp (thu l x k) Q := by
  obtain ⟨⟨o, s⟩, hx, r⟩ := h; rw [hx]
  cases o with
  | inl v => exact h1 v s r
  | inr e => exact w_some (h2 e s r)
/-! reading behind writing -/
theorem rI_I {D : Dt} {i a j b : Nat} {v : Int} : d_I (u_I D i a v) j b = if j = i ∧ b = a then v else d_I D j b := rfl
theorem rR_R {D : Dt} {i a j b : Nat} {v : Option Nat} : d_R (u_R D i a v) j b = if j = i ∧ b = a then v else d_R D j b := rfl
theorem rA_A {D : Dt} {i a j b : Nat} {k l v : Int} : d_A (u_A D i a k v) j b l = if j = i ∧ b = a ∧ l = k then v else d_A D j b l := rfl
theorem rF_F {D : Dt} {i a j b : Nat} {k l : Int} {v : UInt32} : d_F (u_F D i a k v) j b l = if j = i ∧ b = a ∧ l = k then v else d_F D j b l := rfl
theorem rq_q {D : Dt} {i a j b : Nat} {k l : Int} {v : Option Nat} : d_q (u_q D i a k v) j b l = if j = i ∧ b = a ∧ l = k then v else d_q D j b l := rfl
theorem rN_N {D : Dt} {i a j b v : Nat} : d_N (u_N D i a v) j b = if j = i ∧ b = a then v else d_N D j b := rfl
theorem rA_W {D : Dt} {i a j b : Nat} {l : Int} {v : Int → Int} : d_A (u_W D i a v) j b l = if j = i ∧ b = a then v l else d_A D j b l := by
  unfold d_A u_W up2; show (if j = i ∧ b = a then v else _) l = _; split <;> rfl
theorem rI_R {D : Dt} {i a j b : Nat} {v : Option Nat} : d_I (u_R D i a v) j b = d_I D j b := rfl
theorem rI_A {D : Dt} {i a j b : Nat} {k v : Int} : d_I (u_A D i a k v) j b = d_I D j b := rfl
theorem rI_F {D : Dt} {i a j b : Nat} {k : Int} {v : UInt32} : d_I (u_F D i a k v) j b = d_I D j b := rfl
theorem rI_q {D : Dt} {i a j b : Nat} {k : Int} {v : Option Nat} : d_I (u_q D i a k v) j b = d_I D j b := rfl
theorem rI_W {D : Dt} {i a j b : Nat} {v : Int → Int} : d_I (u_W D i a v) j b = d_I D j b := rfl
theorem rI_N {D : Dt} {i a j b v : Nat} : d_I (u_N D i a v) j b = d_I D j b := rfl
theorem rA_I {D : Dt} {i a j b : Nat} {l v : Int} : d_A (u_I D i a v) j b l = d_A D j b l := rfl
theorem rA_R {D : Dt} {i a j b : Nat} {l : Int} {v : Option Nat} : d_A (u_R D i a v) j b l = d_A D j b l := rfl
theorem rA_F {D : Dt} {i a j b : Nat} {k l : Int} {v : UInt32} : d_A (u_F D i a k v) j b l = d_A D j b l := rfl
theorem rA_q {D : Dt} {i a j b : Nat} {k l : Int} {v : Option Nat} : d_A (u_q D i a k v) j b l = d_A D j b l := rfl
theorem rA_N {D : Dt} {i a j b v : Nat} {l : Int} : d_A (u_N D i a v) j b l = d_A D j b l := rfl
theorem rF_I {D : Dt} {i a j b : Nat} {l v : Int} : d_F (u_I D i a v) j b l = d_F D j b l := rfl
theorem rF_R {D : Dt} {i a j b : Nat} {l : Int} {v : Option Nat} : d_F (u_R D i a v) j b l = d_F D j b l := rfl
theorem rF_A {D : Dt} {i a j b : Nat} {k l v : Int} : d_F (u_A D i a k v) j b l = d_F D j b l := rfl
theorem rR_I {D : Dt} {i a j b : Nat} {v : Int} : d_R (u_I D i a v) j b = d_R D j b := rfl
theorem rR_A {D : Dt} {i a j b : Nat} {k v : Int} : d_R (u_A D i a k v) j b = d_R D j b := rfl
theorem rR_F {D : Dt} {i a j b : Nat} {k : Int} {v : UInt32} : d_R (u_F D i a k v) j b = d_R D j b := rfl
theorem rq_I {D : Dt} {i a j b : Nat} {l v : Int} : d_q (u_I D i a v) j b l = d_q D j b l := rfl
theorem rq_R {D : Dt} {i a j b : Nat} {l : Int} {v : Option Nat} : d_q (u_R D i a v) j b l = d_q D j b l := rfl
theorem rq_A {D : Dt} {i a j b : Nat} {k l v : Int} : d_q (u_A D i a k v) j b l = d_q D j b l := rfl
theorem rN_I {D : Dt} {i a j b : Nat} {v : Int} : d_N (u_I D i a v) j b = d_N D j b := rfl
theorem rN_R {D : Dt} {i a j b : Nat} {v : Option Nat} : d_N (u_R D i a v) j b = d_N D j b := rfl
theorem rN_A {D : Dt} {i a j b : Nat} {k v : Int} : d_N (u_A D i a k v) j b = d_N D j b := rfl
theorem rN_W {D : Dt} {i a j b : Nat} {v : Int → Int} : d_N (u_W D i a v) j b = d_N D j b := rfl
/-! frames, in the form that grind takes -/
theorem Fr.gI {S : List Nat} {D E : Dt} (h : Fr S D E) {i : Nat} (hm : S.contains i = false) (a : Nat) : d_I E i a = d_I D i a := congrFun (h.i hm) a
theorem Fr.gR {S : List Nat} {D E : Dt} (h : Fr S D E) {i : Nat} (hm : S.contains i = false) (a : Nat) : d_R E i a = d_R D i a := congrFun (h.r hm) a
theorem Fr.gA {S : List Nat} {D E : Dt} (h : Fr S D E) {i : Nat} (hm : S.contains i = false) (a : Nat) (j : Int) : d_A E i a j = d_A D i a j := congrFun (congrFun (h.a hm) a) j
theorem Fr.gF {S : List Nat} {D E : Dt} (h : Fr S D E) {i : Nat} (hm : S.contains i = false) (a : Nat) (j : Int) : d_F E i a j = d_F D i a j := congrFun (congrFun (h.f hm) a) j
theorem Fr.gq {S : List Nat} {D E : Dt} (h : Fr S D E) {i : Nat} (hm : S.contains i = false) (a : Nat) (j : Int) : d_q E i a j = d_q D i a j := congrFun (congrFun (h.qq hm) a) j
theorem Fr.gN {S : List Nat} {D E : Dt} (h : Fr S D E) {i : Nat} (hm : S.contains i = false) (a : Nat) : d_N E i a = d_N D i a := congrFun (h.n hm) a
/-! methods that may throw -/
def Th {α S : Type} (P : α → S → Prop) (E : Nat → S → Prop) (o : (α ⊕ Nat) × S) : Prop := match o.1 with
  | .inl v => P v o.2
  | .inr e => E e o.2
theorem w_thl {α S : Type} {P : α → S → Prop} {E : Nat → S → Prop} {v : α} {s : S} (h : P v s) : Wp (some (.inl v, s)) (Th P E) := ⟨_, rfl, h⟩
theorem w_thr {α S : Type} {P : α → S → Prop} {E : Nat → S → Prop} {e : Nat} {s : S} (h : E e s) : Wp (some ((.inr e : α ⊕ Nat), s)) (Th P E) := ⟨_, rfl, h⟩
theorem th_inr {α S : Type} {P : α → S → Prop} {E : Nat → S → Prop} {e : Nat} {s : S} (h : E e s) : Th P E ((.inr e : α ⊕ Nat), s) := h
theorem w_thm {α S : Type} {x : Option ((α ⊕ Nat) × S)} {P P' : α → S → Prop} {E E' : Nat → S → Prop} {F : (α ⊕ Nat) × S → Prop} (h : Wp x (fun o => Th P E o ∧ F o)) (h1 : ∀ r s, P r s → F (.inl r, s) → P' r s) (h2 : ∀ e s, E e s → F (.inr e, s) → E' e s) : Wp x (Th P' E') := by
  obtain ⟨⟨o, s⟩, hx, r, f⟩ := h
  refine ⟨_, hx, ?_⟩
  cases o with
  | inl v => exact h1 v s r f
  | inr e => exact h2 e s r f
theorem w_thm0 {α S : Type} {x : Option ((α ⊕ Nat) × S)} {P P' : α → S → Prop} {E E' : Nat → S → Prop} (h : Wp x (Th P E)) (h1 : ∀ r s, P r s → P' r s) (h2 : ∀ e s, E e s → E' e s) : Wp x (Th P' E') := by
  obtain ⟨⟨o, s⟩, hx, r⟩ := h
  refine ⟨_, hx, ?_⟩
  cases o with
  | inl v => exact h1 v s r
  | inr e => exact h2 e s r
