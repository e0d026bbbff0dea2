/-! L2c: what a function doesn't touch: frames by field -/
def Fr (S : List Nat) (D D' : Dt) : Prop := ∀ i, S.contains i = false → D'.1 i = D.1 i ∧ D'.2.1 i = D.2.1 i ∧ D'.2.2.1 i = D.2.2.1 i ∧ D'.2.2.2.1 i = D.2.2.2.1 i ∧ D'.2.2.2.2.1 i = D.2.2.2.2.1 i ∧
  D'.2.2.2.2.2.1 i = D.2.2.2.2.2.1 i ∧ D'.2.2.2.2.2.2.1 i = D.2.2.2.2.2.2.1 i ∧ D'.2.2.2.2.2.2.2 i = D.2.2.2.2.2.2.2 i
theorem Fr.rf {S : List Nat} {D : Dt} : Fr S D D := fun _ _ => ⟨rfl, rfl, rfl, rfl, rfl, rfl, rfl, rfl⟩
theorem Fr.tr {S : List Nat} {D E F : Dt} (h : Fr S D E) (k : Fr S E F) : Fr S D F := fun i hi =>
  have a := h i hi
  have b := k i hi
  ⟨b.1.trans a.1, b.2.1.trans a.2.1, b.2.2.1.trans a.2.2.1, b.2.2.2.1.trans a.2.2.2.1, b.2.2.2.2.1.trans a.2.2.2.2.1, b.2.2.2.2.2.1.trans a.2.2.2.2.2.1, b.2.2.2.2.2.2.1.trans a.2.2.2.2.2.2.1, b.2.2.2.2.2.2.2.trans a.2.2.2.2.2.2.2⟩
def subl (S T : List Nat) : Bool := S.all fun i => T.contains i
theorem Fr.mo {S T : List Nat} {D E : Dt} (h : Fr S D E) (hs : subl S T = true) : Fr T D E := fun i hi => h i (by
  cases hc : S.contains i with
  | false => rfl
  | true =>
    have := List.all_eq_true.mp hs i (List.contains_iff_mem.mp hc)
    rw [this] at hi; cases hi)
theorem up2_ne {α : Type} {f : Nat → Nat → α} {i j a : Nat} {v : α} (h : i ≠ j) : up2 f i a v j = f j := by
  funext y; unfold up2; rw [if_neg]; intro z; exact h z.1.symm
theorem up3_ne {α : Type} {f : Nat → Nat → Int → α} {i j a : Nat} {b : Int} {v : α} (h : i ≠ j) : up3 f i a b v j = f j := by
  funext y z; unfold up3; rw [if_neg]; intro w; exact h w.1.symm
theorem mem_ne {S : List Nat} {i j : Nat} (h : S.contains i = true) (k : S.contains j = false) : i ≠ j := by
  intro e; rw [e, k] at h; cases h
theorem Fr.I {S : List Nat} {D E : Dt} (h : Fr S D E) {i : Nat} (hm : S.contains i = true) {a : Nat} {v : Int} : Fr S D (u_I E i a v) := h.tr fun j hj => ⟨up2_ne (mem_ne hm hj), rfl, rfl, rfl, rfl, rfl, rfl, rfl⟩
theorem Fr.L {S : List Nat} {D E : Dt} (h : Fr S D E) {i : Nat} (hm : S.contains i = true) {a : Nat} {v : Int} : Fr S D (u_L E i a v) := h.tr fun j hj => ⟨rfl, up2_ne (mem_ne hm hj), rfl, rfl, rfl, rfl, rfl, rfl⟩
theorem Fr.R {S : List Nat} {D E : Dt} (h : Fr S D E) {i : Nat} (hm : S.contains i = true) {a : Nat} {v : Option Nat} : Fr S D (u_R E i a v) := h.tr fun j hj => ⟨rfl, rfl, up2_ne (mem_ne hm hj), rfl, rfl, rfl, rfl, rfl⟩
theorem Fr.A {S : List Nat} {D E : Dt} (h : Fr S D E) {i : Nat} (hm : S.contains i = true) {a : Nat} {b : Int} {v : Int} : Fr S D (u_A E i a b v) := h.tr fun j hj => ⟨rfl, rfl, rfl, up3_ne (mem_ne hm hj), rfl, rfl, rfl, rfl⟩
theorem Fr.J {S : List Nat} {D E : Dt} (h : Fr S D E) {i : Nat} (hm : S.contains i = true) {a : Nat} {b : Int} {v : Int} : Fr S D (u_J E i a b v) := h.tr fun j hj => ⟨rfl, rfl, rfl, rfl, up3_ne (mem_ne hm hj), rfl, rfl, rfl⟩
theorem Fr.F {S : List Nat} {D E : Dt} (h : Fr S D E) {i : Nat} (hm : S.contains i = true) {a : Nat} {b : Int} {v : UInt32} : Fr S D (u_F E i a b v) := h.tr fun j hj => ⟨rfl, rfl, rfl, rfl, rfl, up3_ne (mem_ne hm hj), rfl, rfl⟩
theorem Fr.q {S : List Nat} {D E : Dt} (h : Fr S D E) {i : Nat} (hm : S.contains i = true) {a : Nat} {b : Int} {v : Option Nat} : Fr S D (u_q E i a b v) := h.tr fun j hj => ⟨rfl, rfl, rfl, rfl, rfl, rfl, up3_ne (mem_ne hm hj), rfl⟩
theorem Fr.W {S : List Nat} {D E : Dt} (h : Fr S D E) {i : Nat} (hm : S.contains i = true) {a : Nat} {v : Int → Int} : Fr S D (u_W E i a v) := h.tr fun j hj => ⟨rfl, rfl, rfl, up2_ne (mem_ne hm hj), rfl, rfl, rfl, rfl⟩
theorem Fr.N {S : List Nat} {D E : Dt} (h : Fr S D E) {i : Nat} (hm : S.contains i = true) {a v : Nat} : Fr S D (u_N E i a v) := h.tr fun j hj => ⟨rfl, rfl, rfl, rfl, rfl, rfl, rfl, up2_ne (mem_ne hm hj)⟩
/-! reading through a frame -/
theorem Fr.i {S : List Nat} {D E : Dt} (h : Fr S D E) {i : Nat} (hm : S.contains i = false) : d_I E i = d_I D i := (h i hm).1
theorem Fr.l {S : List Nat} {D E : Dt} (h : Fr S D E) {i : Nat} (hm : S.contains i = false) : d_L E i = d_L D i := (h i hm).2.1
theorem Fr.r {S : List Nat} {D E : Dt} (h : Fr S D E) {i : Nat} (hm : S.contains i = false) : d_R E i = d_R D i := (h i hm).2.2.1
theorem Fr.a {S : List Nat} {D E : Dt} (h : Fr S D E) {i : Nat} (hm : S.contains i = false) : d_A E i = d_A D i := (h i hm).2.2.2.1
theorem Fr.j {S : List Nat} {D E : Dt} (h : Fr S D E) {i : Nat} (hm : S.contains i = false) : d_J E i = d_J D i := (h i hm).2.2.2.2.1
theorem Fr.f {S : List Nat} {D E : Dt} (h : Fr S D E) {i : Nat} (hm : S.contains i = false) : d_F E i = d_F D i := (h i hm).2.2.2.2.2.1
theorem Fr.qq {S : List Nat} {D E : Dt} (h : Fr S D E) {i : Nat} (hm : S.contains i = false) : d_q E i = d_q D i := (h i hm).2.2.2.2.2.2.1
theorem Fr.n {S : List Nat} {D E : Dt} (h : Fr S D E) {i : Nat} (hm : S.contains i = false) : d_N E i = d_N D i := (h i hm).2.2.2.2.2.2.2
/-! the judgement, and a row for each kind of node -/
def Fp {ρ : Type} (S : List Nat) (D : Dt) (f : ρ → Dt) (x : Option ρ) : Prop := ∀ o, x = some o → Fr S D (f o)
theorem Fp.tr {ρ : Type} {S : List Nat} {D E : Dt} {f : ρ → Dt} {x : Option ρ} (h : Fr S D E) (k : Fp S E f x) : Fp S D f x := fun o ho => h.tr (k o ho)
theorem Fp.mo {ρ : Type} {S T : List Nat} {D : Dt} {f : ρ → Dt} {x : Option ρ} (h : Fp S D f x) (hs : subl S T = true) : Fp T D f x := fun o ho => (h o ho).mo hs
theorem fp_ret {ρ : Type} {S : List Nat} {D : Dt} {f : ρ → Dt} {o : ρ} (h : Fr S D (f o)) : Fp S D f (some o) := fun _ e => by cases e; exact h
theorem fp_no {ρ : Type} {S : List Nat} {D : Dt} {f : ρ → Dt} : Fp S D f none := fun _ e => by cases e
theorem fp_ite {ρ : Type} {S : List Nat} {D : Dt} {f : ρ → Dt} {c : Prop} [Decidable c] {x y : Option ρ} (h : Fp S D f x) (k : Fp S D f y) : Fp S D f (if c then x else y) := by
  by_cases hc : c
  · rw [if_pos hc]; exact h
  · rw [if_neg hc]; exact k
theorem fp_gd {ρ : Type} {S : List Nat} {D : Dt} {f : ρ → Dt} {c : Prop} [Decidable c] {x : Option ρ} (h : Fp S D f x) : Fp S D f (gd c x) := fp_ite h fp_no
theorem fp_let {α ρ : Type} {S : List Nat} {D : Dt} {f : ρ → Dt} {v : α} {k : α → Option ρ} (h : Fp S D f (k v)) : Fp S D f (lett v k) := h
theorem fp_bnd {α ρ : Type} {S : List Nat} {D : Dt} {f : ρ → Dt} {x : Option α} {k : α → Option ρ} (h : ∀ v, Fp S D f (k v)) : Fp S D f (bnd x k) := by
  cases x with
  | none => exact fp_no
  | some a => exact h a
theorem fp_b {α ρ : Type} {S : List Nat} {D E : Dt} {f : ρ → Dt} {g : α → Dt} {T : List Nat} {x : Option α} {k : α → Option ρ} (hc : Fp T E g x) (hs : subl T S = true) (H : Fr S D E) (h : ∀ v, Fr S D (g v) → Fp S D f (k v)) : Fp S D f (bnd x k) := by
  cases x with
  | none => exact fp_no
  | some a => exact h a (H.tr ((hc a rfl).mo hs))
theorem fp_b2 {α β ρ : Type} {S : List Nat} {D E : Dt} {f : ρ → Dt} {g : α × β → Dt} {T : List Nat} {x : Option (α × β)} {k : α → β → Option ρ} (hc : Fp T E g x) (hs : subl T S = true) (H : Fr S D E) (h : ∀ v w, Fr S D (g (v, w)) → Fp S D f (k v w)) : Fp S D f (bnd2 x k) := by
  cases x with
  | none => exact fp_no
  | some a => exact h a.1 a.2 (H.tr ((hc a rfl).mo hs))
theorem fp_l {α ρ : Type} {S : List Nat} {D E : Dt} {f : ρ → Dt} {g : α → Dt} {T : List Nat} {x : α} {k : α → Option ρ} (hc : Fr T E (g x)) (hs : subl T S = true) (H : Fr S D E) (h : ∀ v, Fr S D (g v) → Fp S D f (k v)) : Fp S D f (lett x k) := h x (H.tr (hc.mo hs))
theorem fp_l2 {α β ρ : Type} {S : List Nat} {D E : Dt} {f : ρ → Dt} {g : α × β → Dt} {T : List Nat} {x : α × β} {k : α → β → Option ρ} (hc : Fr T E (g x)) (hs : subl T S = true) (H : Fr S D E) (h : ∀ v w, Fr S D (g (v, w)) → Fp S D f (k v w)) : Fp S D f (lett2 x k) := h x.1 x.2 (H.tr (hc.mo hs))
theorem fp_t {α β X : Type} {S : List Nat} {D E : Dt} {T : List Nat} {x : Option ((α ⊕ Nat) × (Dt × X))} {k : α → Dt × X → Option ((β ⊕ Nat) × (Dt × X))} (hc : Fp T E (fun o => o.2.1) x) (hs : subl T S = true) (H : Fr S D E)
    (h : ∀ v p, Fr S D p.1 → Fp S D (fun o => o.2.1) (k v p)) : Fp S D (fun o => o.2.1) (tht x k) := by
  cases x with
  | none => exact fp_no
  | some a =>
    rcases a with ⟨v | e, p⟩
    · exact h v p (H.tr ((hc _ rfl).mo hs))
    · exact fp_ret (H.tr ((hc _ rfl).mo hs))
theorem fp_u {α β : Type} {S : List Nat} {D E : Dt} {G : Gt} {T : List Nat} {x : Option ((α ⊕ Nat) × (Dt × Ct))} {k : α → Dt × Ct → Option ((β ⊕ Nat) × (Dt × Gt × Ct))} (hc : Fp T E (fun o => o.2.1) x) (hs : subl T S = true) (H : Fr S D E)
    (h : ∀ v p, Fr S D p.1 → Fp S D (fun o => o.2.1) (k v p)) : Fp S D (fun o => o.2.1) (thu (fun p => (p.1, G, p.2)) x k) := by
  cases x with
  | none => exact fp_no
  | some a =>
    rcases a with ⟨v | e, p⟩
    · exact h v p (H.tr ((hc _ rfl).mo hs))
    · exact fp_ret (H.tr ((hc _ rfl).mo hs))
theorem fp_tA {S : List Nat} {D E : Dt} {i : Nat} (hm : S.contains i = true) (H : Fr S D E) {ρ : Type} {f : ρ → Dt} {n : Int} {a : Nat} {j v : Int} {k : Dt → Option ρ} (h : ∀ F, Fr S D F → Fp S D f (k F)) : Fp S D f (bnd (t_A E n i a j v) k) := by
  unfold t_A; by_cases hb : inb j n
  · rw [if_pos hb]; exact h _ (H.A hm)
  · rw [if_neg hb]; exact fp_no
theorem fp_tJ {S : List Nat} {D E : Dt} {i : Nat} (hm : S.contains i = true) (H : Fr S D E) {ρ : Type} {f : ρ → Dt} {n : Int} {a : Nat} {j : Int} {v : Int} {k : Dt → Option ρ} (h : ∀ F, Fr S D F → Fp S D f (k F)) : Fp S D f (bnd (t_J E n i a j v) k) := by
  unfold t_J; by_cases hb : inb j n
  · rw [if_pos hb]; exact h _ (H.J hm)
  · rw [if_neg hb]; exact fp_no
theorem fp_tF {S : List Nat} {D E : Dt} {i : Nat} (hm : S.contains i = true) (H : Fr S D E) {ρ : Type} {f : ρ → Dt} {n : Int} {a : Nat} {j : Int} {v : UInt32} {k : Dt → Option ρ} (h : ∀ F, Fr S D F → Fp S D f (k F)) : Fp S D f (bnd (t_F E n i a j v) k) := by
  unfold t_F; by_cases hb : inb j n
  · rw [if_pos hb]; exact h _ (H.F hm)
  · rw [if_neg hb]; exact fp_no
theorem fp_tq {S : List Nat} {D E : Dt} {i : Nat} (hm : S.contains i = true) (H : Fr S D E) {ρ : Type} {f : ρ → Dt} {n : Int} {a : Nat} {j : Int} {v : Option Nat} {k : Dt → Option ρ} (h : ∀ F, Fr S D F → Fp S D f (k F)) : Fp S D f (bnd (t_q E n i a j v) k) := by
  unfold t_q; by_cases hb : inb j n
  · rw [if_pos hb]; exact h _ (H.q hm)
  · rw [if_neg hb]; exact fp_no
theorem fp_cp {S : List Nat} {D E : Dt} {i' : Nat} (hm : S.contains i' = true) (H : Fr S D E) {ρ : Type} {f : ρ → Dt} {n n' : Int} {i a a' : Nat} {j j' m : Int} {k : Dt → Option ρ} (h : ∀ F, Fr S D F → Fp S D f (k F)) : Fp S D f (bnd (a_cp E n i a j n' i' a' j' m) k) := by
  unfold a_cp; split
  · exact h _ (H.W hm)
  · exact fp_no
/-! by hand -/
def S_X37_add : List Nat := [3700, 3701]
def S_X45_add : List Nat := [4500, 4501]
theorem fr_grow {S : List Nat} {D : Dt} {i a : Nat} {c : Ct} {z : Int} (hm : S.contains i = true) : Fp S D (fun o => o.1) (growB D i a c z) := by
  unfold growB
  refine fp_ite (fp_ite (fp_ret ((Fr.rf.W hm).N hm)) fp_no) (fp_ret Fr.rf)
theorem fr_X37_add {x1 : Int} {G : Gt} {D : Dt} {c : Ct} : Fp S_X37_add D (fun o => o.1) (q_X37_add x1 G D c) := by
  refine fp_b (fr_grow (S := S_X37_add) rfl) rfl Fr.rf fun p H => fp_tA rfl H fun F H => fp_gd (fp_ret (H.I rfl))
theorem fr_X45_add {a0 : Nat} {x1 : Int} {G : Gt} {D : Dt} {c : Ct} : Fp S_X45_add D (fun o => o.1) (q_X45_add a0 x1 G D c) := by
  refine fp_b (fr_grow (S := S_X45_add) rfl) rfl Fr.rf fun p H => fp_tA rfl H fun F H => fp_gd (fp_ret (H.I rfl))
theorem fr_mk70 {D : Dt} {G : Gt} {c : Ct} {x : Int} {r : Nat} : Fp [7000] D (fun o => o.1) (mk_70 D G c x r) := fp_ret (Fr.rf.I rfl)
theorem fr_mk76 {D : Dt} {G : Gt} {c : Ct} {x : Int} {r s : Nat} : Fp [7600] D (fun o => o.1) (mk_76 D G c x r s) := fp_ret (Fr.rf.I rfl)
theorem fr_mkBands {l : Nat} {f : Nat → Int} (n : Nat) : ∀ {k : Nat} {D : Dt} {G : Gt} {c : Ct}, Fr [7400, 7500] D (mkBands l f n k D G c).1 := by
  induction n with
  | zero => intro k D G c; exact Fr.rf
  | succ n ih => intro k D G c; exact Fr.tr (Fr.rf.I rfl) ih
theorem fr_mkLevels {a : Nat} (n : Nat) : ∀ {r : Nat} {D : Dt} {G : Gt} {c : Ct}, Fr [7400, 7500] D (mkLevels a n r D G c).1 := by
  induction n with
  | zero => intro r D G c; exact Fr.rf
  | succ n ih => intro r D G c; exact Fr.tr (Fr.tr (Fr.rf.I rfl) (fr_mkBands _)) ih
theorem fr_mk73 {D : Dt} {G : Gt} {c : Ct} : Fp [7400, 7500] D (fun o => o.1) (mk_73 D G c) := fp_ret (fr_mkLevels _)
theorem fr_mk0 {D : Dt} {x : Gt × Ct} : Fp [] D (fun o => o.1) (some (D, x)) := fp_ret Fr.rf
theorem fp_w {ρ : Type} {S : List Nat} {D E : Dt} {f : ρ → Dt} {k : Dt → Option ρ} (H : Fr S D E) (h : ∀ F, Fr S D F → Fp S D f (k F)) : Fp S D f (lett E k) := h E H
theorem fp_sl {α ρ : Type} {S : List Nat} {D : Dt} {f : ρ → Dt} {v : α} {k : α → ρ} (h : Fp S D f (some (k v))) : Fp S D f (some (lett v k)) := h
theorem fp_sw {ρ : Type} {S : List Nat} {D E : Dt} {f : ρ → Dt} {k : Dt → ρ} (H : Fr S D E) (h : ∀ F, Fr S D F → Fp S D f (some (k F))) : Fp S D f (some (lett E k)) := h E H
theorem fp_sc {α ρ : Type} {S T : List Nat} {D E : Dt} {f : ρ → Dt} {g : α → Dt} {x : α} {k : α → ρ} (hc : Fr T E (g x)) (hs : subl T S = true) (H : Fr S D E) (h : ∀ v, Fr S D (g v) → Fp S D f (some (k v))) : Fp S D f (some (lett x k)) := h x (H.tr (hc.mo hs))
theorem fp_si {ρ : Type} {S : List Nat} {D : Dt} {f : ρ → Dt} {c : Prop} [Decidable c] {x y : ρ} (h : Fp S D f (some x)) (k : Fp S D f (some y)) : Fp S D f (some (if c then x else y)) := by
  by_cases hc : c
  · rw [if_pos hc]; exact h
  · rw [if_neg hc]; exact k
theorem fp_sc2 {α β ρ : Type} {S T : List Nat} {D E : Dt} {f : ρ → Dt} {g : α × β → Dt} {x : α × β} {k : α → β → ρ} (hc : Fr T E (g x)) (hs : subl T S = true) (H : Fr S D E) (h : ∀ v w, Fr S D (g (v, w)) → Fp S D f (some (k v w))) : Fp S D f (some (lett2 x k)) := h x.1 x.2 (H.tr (hc.mo hs))
