/-! A function comes to an end, with a property -/
def OK {α : Type} (o : Option α) (Q : α → Prop) : Prop := ∃ r, o = some r ∧ Q r
theorem OK_some {α : Type} {Q : α → Prop} {v : α} (h : Q v) : OK (some v) Q := ⟨v, rfl, h⟩
theorem OK_eq {α : Type} {Q : α → Prop} {o : Option α} {v : α} (e : o = some v) (h : Q v) : OK o Q := ⟨v, e, h⟩
theorem OK_mono {α : Type} {P Q : α → Prop} {o : Option α} (h : OK o P) (k : ∀ r, P r → Q r) : OK o Q := by
  obtain ⟨r, e, p⟩ := h
  exact ⟨r, e, k r p⟩
theorem OK_and {α : Type} {P Q : α → Prop} {o : Option α} (h : OK o P) (k : OK o Q) : OK o (fun r => P r ∧ Q r) := by
  obtain ⟨r, e, p⟩ := h
  obtain ⟨r2, e2, p2⟩ := k
  rw [e] at e2
  cases e2
  exact ⟨r, e, p, p2⟩
theorem OK_jg {α : Type} {P : Prop} {o : Option α} {Q : α → Prop} (p : P) (h : OK o Q) : OK (jg P o) Q := by rw [jg_pos p]; exact h
theorem OK_jl {α β : Type} {e : α} {k : α → Option β} {Q : β → Prop} (h : OK (k e) Q) : OK (jl e k) Q := h
theorem OK_jlx {α β : Type} {e : α} {k : α → Option β} {Q : β → Prop} (h : ∀ x, x = e → OK (k x) Q) : OK (jl e k) Q := h e rfl
theorem OK_jb {α β : Type} {o : Option α} {k : α → Option β} {R : α → Prop} {Q : β → Prop} (h : OK o R) (kk : ∀ x, R x → OK (k x) Q) : OK (jb o k) Q := by
  obtain ⟨r, e, p⟩ := h
  rw [jb_eq e]; exact kk r p
theorem OK_jb2 {α γ β : Type} {o : Option (α × γ)} {k : α → γ → Option β} {R : α × γ → Prop} {Q : β → Prop} (h : OK o R) (kk : ∀ x y, R (x, y) → OK (k x y) Q) : OK (jb2 o k) Q := by
  obtain ⟨⟨x, y⟩, e, p⟩ := h
  rw [jb2_eq e]; exact kk x y p
theorem OK_jb3 {α γ δ β : Type} {o : Option (α × γ × δ)} {k : α → γ → δ → Option β} {R : α × γ × δ → Prop} {Q : β → Prop} (h : OK o R) (kk : ∀ x y z, R (x, y, z) → OK (k x y z) Q) : OK (jb3 o k) Q := by
  obtain ⟨⟨x, y, z⟩, e, p⟩ := h
  rw [jb3_eq e]; exact kk x y z p
theorem OK_if {α : Type} {c : Prop} [Decidable c] {a b : Option α} {Q : α → Prop} (k1 : c → OK a Q) (k2 : ¬ c → OK b Q) : OK (if c then a else b) Q := by
  by_cases q : c
  · rw [if_pos q]; exact k1 q
  · rw [if_neg q]; exact k2 q
theorem OK_jq {α : Type} {t : Int} {a b : Option α} {Q : α → Prop} (k1 : ¬ t = 0 → OK a Q) (k2 : t = 0 → OK b Q) : OK (jq t a b) Q := by
  by_cases q : t = 0
  · rw [jq_neg q]; exact k2 q
  · rw [jq_pos q]; exact k1 q
theorem OK_jml {α β γ : Type} {a : α} {k1 : α → Option γ} {k2 : β → Option γ} {Q : γ → Prop} (h : OK (k1 a) Q) : OK (jm (.inl a) k1 k2) Q := h
theorem OK_jmr {α β γ : Type} {a : β} {k1 : α → Option γ} {k2 : β → Option γ} {Q : γ → Prop} (h : OK (k2 a) Q) : OK (jm (.inr a) k1 k2) Q := h
theorem OK_il {σ ρ : Type} {I J : σ → Prop} {Q : ρ → Prop} {t : σ} (h : I t) (k : J t) : OK (some (.inl t : σ ⊕ ρ)) (Sum.elim (fun t => I t ∧ J t) Q) := ⟨_, rfl, h, k⟩
theorem OK_ir {σ ρ : Type} {A : σ → Prop} {Q : ρ → Prop} {r : ρ} (h : Q r) : OK (some (.inr r : σ ⊕ ρ)) (Sum.elim A Q) := ⟨_, rfl, h⟩
theorem OK_jit {σ ρ : Type} {f : σ → Option (σ ⊕ ρ)} {I : σ → Prop} {m : σ → Nat} {Q : ρ → Prop} {s : σ} (hb : ∀ s, I s → OK (f s) (Sum.elim (fun t => I t ∧ m t < m s) Q)) (h0 : I s) : OK (jit f s) Q := by
  have key : ∀ (n : Nat) (s : σ), m s ≤ n → I s → OK (jit f s) Q := by
    intro n
    induction n with
    | zero =>
      intro s hm hi
      obtain ⟨x, e, q⟩ := hb s hi
      cases x with
      | inl t => have := q.2; omega
      | inr r => exact ⟨r, jit_end e, q⟩
    | succ n ih =>
      intro s hm hi
      obtain ⟨x, e, q⟩ := hb s hi
      cases x with
      | inl t => rw [jit_next e]; exact ih t (by have := q.2; omega) q.1
      | inr r => exact ⟨r, jit_end e, q⟩
  exact key (m s) s (Nat.le_refl _) h0
theorem OK_none {α : Type} {Q : α → Prop} (h : False) : OK (none : Option α) Q := h.elim
theorem w32_id {x : Int} (h1 : -2147483648 ≤ x) (h2 : x < 2147483648) : w32 x = x := by unfold w32; omega
theorem w64_id {x : Int} (h1 : -9223372036854775808 ≤ x) (h2 : x < 9223372036854775808) : w64 x = x := by unfold w64; omega
theorem w32_r (x : Int) : -2147483648 ≤ w32 x ∧ w32 x < 2147483648 := by unfold w32; omega
theorem w64_r (x : Int) : -9223372036854775808 ≤ w64 x ∧ w64 x < 9223372036854775808 := by unfold w64; omega
theorem OK_jt2 {α0 α1 β : Type} {x0 : α0} {x1 : α1} {k : α0 → α1 → Option β} {Q : β → Prop} (h : OK (k x0 x1) Q) : OK (jt2 (x0, x1) k) Q := h
theorem OK_jt3 {α0 α1 α2 β : Type} {x0 : α0} {x1 : α1} {x2 : α2} {k : α0 → α1 → α2 → Option β} {Q : β → Prop} (h : OK (k x0 x1 x2) Q) : OK (jt3 (x0, x1, x2) k) Q := h
theorem OK_jt4 {α0 α1 α2 α3 β : Type} {x0 : α0} {x1 : α1} {x2 : α2} {x3 : α3} {k : α0 → α1 → α2 → α3 → Option β} {Q : β → Prop} (h : OK (k x0 x1 x2 x3) Q) : OK (jt4 (x0, x1, x2, x3) k) Q := h
theorem OK_jt5 {α0 α1 α2 α3 α4 β : Type} {x0 : α0} {x1 : α1} {x2 : α2} {x3 : α3} {x4 : α4} {k : α0 → α1 → α2 → α3 → α4 → Option β} {Q : β → Prop} (h : OK (k x0 x1 x2 x3 x4) Q) : OK (jt5 (x0, x1, x2, x3, x4) k) Q := h
theorem OK_jt6 {α0 α1 α2 α3 α4 α5 β : Type} {x0 : α0} {x1 : α1} {x2 : α2} {x3 : α3} {x4 : α4} {x5 : α5} {k : α0 → α1 → α2 → α3 → α4 → α5 → Option β} {Q : β → Prop} (h : OK (k x0 x1 x2 x3 x4 x5) Q) : OK (jt6 (x0, x1, x2, x3, x4, x5) k) Q := h
theorem OK_jt7 {α0 α1 α2 α3 α4 α5 α6 β : Type} {x0 : α0} {x1 : α1} {x2 : α2} {x3 : α3} {x4 : α4} {x5 : α5} {x6 : α6} {k : α0 → α1 → α2 → α3 → α4 → α5 → α6 → Option β} {Q : β → Prop} (h : OK (k x0 x1 x2 x3 x4 x5 x6) Q) : OK (jt7 (x0, x1, x2, x3, x4, x5, x6) k) Q := h
theorem OK_jt8 {α0 α1 α2 α3 α4 α5 α6 α7 β : Type} {x0 : α0} {x1 : α1} {x2 : α2} {x3 : α3} {x4 : α4} {x5 : α5} {x6 : α6} {x7 : α7} {k : α0 → α1 → α2 → α3 → α4 → α5 → α6 → α7 → Option β} {Q : β → Prop} (h : OK (k x0 x1 x2 x3 x4 x5 x6 x7) Q) : OK (jt8 (x0, x1, x2, x3, x4, x5, x6, x7) k) Q := h
theorem OK_jt9 {α0 α1 α2 α3 α4 α5 α6 α7 α8 β : Type} {x0 : α0} {x1 : α1} {x2 : α2} {x3 : α3} {x4 : α4} {x5 : α5} {x6 : α6} {x7 : α7} {x8 : α8} {k : α0 → α1 → α2 → α3 → α4 → α5 → α6 → α7 → α8 → Option β} {Q : β → Prop} (h : OK (k x0 x1 x2 x3 x4 x5 x6 x7 x8) Q) : OK (jt9 (x0, x1, x2, x3, x4, x5, x6, x7, x8) k) Q := h
theorem OK_jt10 {α0 α1 α2 α3 α4 α5 α6 α7 α8 α9 β : Type} {x0 : α0} {x1 : α1} {x2 : α2} {x3 : α3} {x4 : α4} {x5 : α5} {x6 : α6} {x7 : α7} {x8 : α8} {x9 : α9} {k : α0 → α1 → α2 → α3 → α4 → α5 → α6 → α7 → α8 → α9 → Option β} {Q : β → Prop} (h : OK (k x0 x1 x2 x3 x4 x5 x6 x7 x8 x9) Q) : OK (jt10 (x0, x1, x2, x3, x4, x5, x6, x7, x8, x9) k) Q := h
theorem OK_jt11 {α0 α1 α2 α3 α4 α5 α6 α7 α8 α9 α10 β : Type} {x0 : α0} {x1 : α1} {x2 : α2} {x3 : α3} {x4 : α4} {x5 : α5} {x6 : α6} {x7 : α7} {x8 : α8} {x9 : α9} {x10 : α10} {k : α0 → α1 → α2 → α3 → α4 → α5 → α6 → α7 → α8 → α9 → α10 → Option β} {Q : β → Prop} (h : OK (k x0 x1 x2 x3 x4 x5 x6 x7 x8 x9 x10) Q) : OK (jt11 (x0, x1, x2, x3, x4, x5, x6, x7, x8, x9, x10) k) Q := h
theorem OK_jt12 {α0 α1 α2 α3 α4 α5 α6 α7 α8 α9 α10 α11 β : Type} {x0 : α0} {x1 : α1} {x2 : α2} {x3 : α3} {x4 : α4} {x5 : α5} {x6 : α6} {x7 : α7} {x8 : α8} {x9 : α9} {x10 : α10} {x11 : α11} {k : α0 → α1 → α2 → α3 → α4 → α5 → α6 → α7 → α8 → α9 → α10 → α11 → Option β} {Q : β → Prop} (h : OK (k x0 x1 x2 x3 x4 x5 x6 x7 x8 x9 x10 x11) Q) : OK (jt12 (x0, x1, x2, x3, x4, x5, x6, x7, x8, x9, x10, x11) k) Q := h
