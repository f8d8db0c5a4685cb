/-! Two functions are the same, and what the second one answers has a property -/
def EQ {α : Type} (a b : Option α) (Q : α → Prop) : Prop := a = b ∧ ∀ r, b = some r → Q r
theorem EQ_none {α : Type} {Q : α → Prop} : EQ (none : Option α) none Q := ⟨rfl, fun _ h => by cases h⟩
theorem EQ_some {α : Type} {Q : α → Prop} {v : α} (h : Q v) : EQ (some v) (some v) Q := ⟨rfl, fun _ e => by cases e; exact h⟩
theorem EQ_some' {α : Type} {Q : α → Prop} {v w : α} (e : v = w) (h : Q w) : EQ (some v) (some w) Q := by rw [e]; exact EQ_some h
theorem EQ_refl {α : Type} {a : Option α} : EQ a a (fun _ => True) := ⟨rfl, fun _ _ => trivial⟩
theorem EQ_self {α : Type} {a b : Option α} {Q : α → Prop} (h : EQ a b Q) : EQ a a Q := ⟨rfl, fun r e => h.2 r (h.1 ▸ e)⟩
theorem EQ_jgd {α : Type} {P : Prop} {a b : Option α} {Q : α → Prop} (p : P) (k : EQ a b Q) : EQ (jg P a) b Q := by rw [jg_pos p]; exact k
theorem jg_neg {α : Type} {P : Prop} {k : Option α} (h : ¬ P) : jg P k = none := if_neg h
theorem EQ_jg {α : Type} {P P' : Prop} {a b : Option α} {Q : α → Prop} (i : P ↔ P') (k : P' → EQ a b Q) : EQ (jg P a) (jg P' b) Q := by
  by_cases c : P'
  · rw [jg_pos (i.mpr c), jg_pos c]; exact k c
  · rw [jg_neg (fun p => c (i.mp p)), jg_neg c]; exact EQ_none
theorem EQ_jl {α β : Type} {e e' : α} {k k' : α → Option β} {Q : β → Prop} (h : e = e') (kk : ∀ x, x = e' → EQ (k x) (k' x) Q) : EQ (jl e k) (jl e' k') Q := by
  subst h; exact kk _ rfl
theorem EQ_jb {α β : Type} {o o' : Option α} {k k' : α → Option β} {R : α → Prop} {Q : β → Prop} (h : EQ o o' R) (kk : ∀ x, R x → EQ (k x) (k' x) Q) : EQ (jb o k) (jb o' k') Q := by
  obtain ⟨h1, h2⟩ := h
  subst h1
  cases o with
  | none => exact EQ_none
  | some x => exact kk x (h2 x rfl)
theorem EQ_jb2 {α γ β : Type} {o o' : Option (α × γ)} {k k' : α → γ → Option β} {R : α × γ → Prop} {Q : β → Prop} (h : EQ o o' R) (kk : ∀ x y, R (x, y) → EQ (k x y) (k' x y) Q) : EQ (jb2 o k) (jb2 o' k') Q := by
  obtain ⟨h1, h2⟩ := h
  subst h1
  cases o with
  | none => exact EQ_none
  | some x => exact kk x.1 x.2 (h2 x rfl)
theorem EQ_jb3 {α γ δ β : Type} {o o' : Option (α × γ × δ)} {k k' : α → γ → δ → Option β} {R : α × γ × δ → Prop} {Q : β → Prop} (h : EQ o o' R) (kk : ∀ x y z, R (x, y, z) → EQ (k x y z) (k' x y z) Q) : EQ (jb3 o k) (jb3 o' k') Q := by
  obtain ⟨h1, h2⟩ := h
  subst h1
  cases o with
  | none => exact EQ_none
  | some x => exact kk x.1 x.2.1 x.2.2 (h2 x rfl)
theorem EQ_if {α : Type} {c c' : Prop} [Decidable c] [Decidable c'] {a b a' b' : Option α} {Q : α → Prop} (i : c ↔ c') (k1 : c' → EQ a a' Q) (k2 : ¬ c' → EQ b b' Q) : EQ (if c then a else b) (if c' then a' else b') Q := by
  by_cases q : c'
  · rw [if_pos (i.mpr q), if_pos q]; exact k1 q
  · rw [if_neg (fun p => q (i.mp p)), if_neg q]; exact k2 q
theorem EQ_jq {α : Type} {t : Int} {a b a' b' : Option α} {Q : α → Prop} (k1 : ¬ t = 0 → EQ a a' Q) (k2 : t = 0 → EQ b b' Q) : EQ (jq t a b) (jq t a' b') Q := by
  by_cases q : t = 0
  · rw [jq_neg q, jq_neg q]; exact k2 q
  · rw [jq_pos q, jq_pos q]; exact k1 q
theorem EQ_jm {α β γ : Type} {o : α ⊕ β} {k1 k1' : α → Option γ} {k2 k2' : β → Option γ} {A : α → Prop} {B : β → Prop} {Q : γ → Prop} (h : Sum.elim A B o) (h1 : ∀ a, A a → EQ (k1 a) (k1' a) Q) (h2 : ∀ b, B b → EQ (k2 b) (k2' b) Q) : EQ (jm o k1 k2) (jm o k1' k2') Q := by
  cases o with
  | inl a => exact h1 a h
  | inr b => exact h2 b h
theorem jitN_eq {σ ρ : Type} {f g : σ → Option (σ ⊕ ρ)} {I : σ → Prop} {Q : ρ → Prop} (hb : ∀ s, I s → EQ (f s) (g s) (Sum.elim I Q)) : ∀ (n : Nat) (s : σ), I s → jitN f n s = jitN g n s ∧ ∀ r, jitN g n s = some r → Q r
  | 0, _, _ => ⟨rfl, fun _ h => by cases h⟩
  | n + 1, s, hs => by
    obtain ⟨e1, e2⟩ := hb s hs
    unfold jitN
    rw [e1]
    cases q : g s with
    | none => exact ⟨rfl, fun _ h => by cases h⟩
    | some x =>
      cases x with
      | inl t => exact jitN_eq hb n t (e2 _ q)
      | inr r => exact ⟨rfl, fun r' h => by cases h; exact e2 _ q⟩
theorem EQ_jit {σ ρ : Type} {f g : σ → Option (σ ⊕ ρ)} {I : σ → Prop} {Q : ρ → Prop} (hb : ∀ s, I s → EQ (f s) (g s) (Sum.elim I Q)) {s : σ} (h0 : I s) : EQ (jit f s) (jit g s) Q := by
  have key := jitN_eq hb
  have h1 : ∀ r, jit g s = some r → jit f s = some r ∧ Q r := by
    intro r hr
    obtain ⟨n, hn⟩ := jit_some hr
    exact ⟨jit_of ((key n s h0).1.trans hn), (key n s h0).2 r hn⟩
  refine ⟨?_, fun r hr => (h1 r hr).2⟩
  cases q : jit g s with
  | some r => exact (h1 r q).1
  | none =>
    cases q2 : jit f s with
    | none => rfl
    | some r =>
      obtain ⟨n, hn⟩ := jit_some q2
      rw [jit_of ((key n s h0).1.symm.trans hn)] at q
      cases q
theorem EQ_jt2 {α0 α1 β : Type} {x0 : α0} {x1 : α1} {k k' : α0 → α1 → Option β} {Q : β → Prop} (h : EQ (k x0 x1) (k' x0 x1) Q) : EQ (jt2 (x0, x1) k) (jt2 (x0, x1) k') Q := h
theorem EQ_jt3 {α0 α1 α2 β : Type} {x0 : α0} {x1 : α1} {x2 : α2} {k k' : α0 → α1 → α2 → Option β} {Q : β → Prop} (h : EQ (k x0 x1 x2) (k' x0 x1 x2) Q) : EQ (jt3 (x0, x1, x2) k) (jt3 (x0, x1, x2) k') Q := h
theorem EQ_jt4 {α0 α1 α2 α3 β : Type} {x0 : α0} {x1 : α1} {x2 : α2} {x3 : α3} {k k' : α0 → α1 → α2 → α3 → Option β} {Q : β → Prop} (h : EQ (k x0 x1 x2 x3) (k' x0 x1 x2 x3) Q) : EQ (jt4 (x0, x1, x2, x3) k) (jt4 (x0, x1, x2, x3) k') Q := h
theorem EQ_jt5 {α0 α1 α2 α3 α4 β : Type} {x0 : α0} {x1 : α1} {x2 : α2} {x3 : α3} {x4 : α4} {k k' : α0 → α1 → α2 → α3 → α4 → Option β} {Q : β → Prop} (h : EQ (k x0 x1 x2 x3 x4) (k' x0 x1 x2 x3 x4) Q) : EQ (jt5 (x0, x1, x2, x3, x4) k) (jt5 (x0, x1, x2, x3, x4) k') Q := h
theorem EQ_jt6 {α0 α1 α2 α3 α4 α5 β : Type} {x0 : α0} {x1 : α1} {x2 : α2} {x3 : α3} {x4 : α4} {x5 : α5} {k k' : α0 → α1 → α2 → α3 → α4 → α5 → Option β} {Q : β → Prop} (h : EQ (k x0 x1 x2 x3 x4 x5) (k' x0 x1 x2 x3 x4 x5) Q) : EQ (jt6 (x0, x1, x2, x3, x4, x5) k) (jt6 (x0, x1, x2, x3, x4, x5) k') Q := h
theorem EQ_jt7 {α0 α1 α2 α3 α4 α5 α6 β : Type} {x0 : α0} {x1 : α1} {x2 : α2} {x3 : α3} {x4 : α4} {x5 : α5} {x6 : α6} {k k' : α0 → α1 → α2 → α3 → α4 → α5 → α6 → Option β} {Q : β → Prop} (h : EQ (k x0 x1 x2 x3 x4 x5 x6) (k' x0 x1 x2 x3 x4 x5 x6) Q) : EQ (jt7 (x0, x1, x2, x3, x4, x5, x6) k) (jt7 (x0, x1, x2, x3, x4, x5, x6) k') Q := h
theorem EQ_jt8 {α0 α1 α2 α3 α4 α5 α6 α7 β : Type} {x0 : α0} {x1 : α1} {x2 : α2} {x3 : α3} {x4 : α4} {x5 : α5} {x6 : α6} {x7 : α7} {k k' : α0 → α1 → α2 → α3 → α4 → α5 → α6 → α7 → Option β} {Q : β → Prop} (h : EQ (k x0 x1 x2 x3 x4 x5 x6 x7) (k' x0 x1 x2 x3 x4 x5 x6 x7) Q) : EQ (jt8 (x0, x1, x2, x3, x4, x5, x6, x7) k) (jt8 (x0, x1, x2, x3, x4, x5, x6, x7) k') Q := h
theorem EQ_jt9 {α0 α1 α2 α3 α4 α5 α6 α7 α8 β : Type} {x0 : α0} {x1 : α1} {x2 : α2} {x3 : α3} {x4 : α4} {x5 : α5} {x6 : α6} {x7 : α7} {x8 : α8} {k k' : α0 → α1 → α2 → α3 → α4 → α5 → α6 → α7 → α8 → Option β} {Q : β → Prop} (h : EQ (k x0 x1 x2 x3 x4 x5 x6 x7 x8) (k' x0 x1 x2 x3 x4 x5 x6 x7 x8) Q) : EQ (jt9 (x0, x1, x2, x3, x4, x5, x6, x7, x8) k) (jt9 (x0, x1, x2, x3, x4, x5, x6, x7, x8) k') Q := h
theorem EQ_jt10 {α0 α1 α2 α3 α4 α5 α6 α7 α8 α9 β : Type} {x0 : α0} {x1 : α1} {x2 : α2} {x3 : α3} {x4 : α4} {x5 : α5} {x6 : α6} {x7 : α7} {x8 : α8} {x9 : α9} {k k' : α0 → α1 → α2 → α3 → α4 → α5 → α6 → α7 → α8 → α9 → Option β} {Q : β → Prop} (h : EQ (k x0 x1 x2 x3 x4 x5 x6 x7 x8 x9) (k' x0 x1 x2 x3 x4 x5 x6 x7 x8 x9) Q) : EQ (jt10 (x0, x1, x2, x3, x4, x5, x6, x7, x8, x9) k) (jt10 (x0, x1, x2, x3, x4, x5, x6, x7, x8, x9) k') Q := h
theorem EQ_jt11 {α0 α1 α2 α3 α4 α5 α6 α7 α8 α9 α10 β : Type} {x0 : α0} {x1 : α1} {x2 : α2} {x3 : α3} {x4 : α4} {x5 : α5} {x6 : α6} {x7 : α7} {x8 : α8} {x9 : α9} {x10 : α10} {k k' : α0 → α1 → α2 → α3 → α4 → α5 → α6 → α7 → α8 → α9 → α10 → Option β} {Q : β → Prop} (h : EQ (k x0 x1 x2 x3 x4 x5 x6 x7 x8 x9 x10) (k' x0 x1 x2 x3 x4 x5 x6 x7 x8 x9 x10) Q) : EQ (jt11 (x0, x1, x2, x3, x4, x5, x6, x7, x8, x9, x10) k) (jt11 (x0, x1, x2, x3, x4, x5, x6, x7, x8, x9, x10) k') Q := h
theorem EQ_jt12 {α0 α1 α2 α3 α4 α5 α6 α7 α8 α9 α10 α11 β : Type} {x0 : α0} {x1 : α1} {x2 : α2} {x3 : α3} {x4 : α4} {x5 : α5} {x6 : α6} {x7 : α7} {x8 : α8} {x9 : α9} {x10 : α10} {x11 : α11} {k k' : α0 → α1 → α2 → α3 → α4 → α5 → α6 → α7 → α8 → α9 → α10 → α11 → Option β} {Q : β → Prop} (h : EQ (k x0 x1 x2 x3 x4 x5 x6 x7 x8 x9 x10 x11) (k' x0 x1 x2 x3 x4 x5 x6 x7 x8 x9 x10 x11) Q) : EQ (jt12 (x0, x1, x2, x3, x4, x5, x6, x7, x8, x9, x10, x11) k) (jt12 (x0, x1, x2, x3, x4, x5, x6, x7, x8, x9, x10, x11) k') Q := h
