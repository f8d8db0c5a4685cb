/-! What both the machine's walk and the plain law speak of -/
set_option maxRecDepth 100000
abbrev AH : Type := Int → Int → Int
abbrev AV : Type := Int ⊕ (Int ⊕ Int)
abbrev vI (x : Int) : AV := .inl x
abbrev vL (x : Int) : AV := .inr (.inl x)
abbrev vR (x : Int) : AV := .inr (.inr x)
def strT : List (List Int) := [[], [32, 62, 32], [102], [97], [98], [99], [116, 114, 117, 101], [102, 97, 108, 115, 101], [101, 114, 114, 111, 114], [110, 116, 115], [102, 105, 110, 100], [110], [116], [115], [117, 115, 101], [114, 111, 119], [108, 97, 119], [97, 99, 116], [108, 111, 111, 112], [102, 114, 111, 109], [119, 104, 105, 108, 101], [100, 111], [103, 105, 118, 101], [97, 100, 100, 32, 110, 110, 110, 32, 115, 117, 98, 32, 110, 110, 110, 32, 109, 117, 108, 32, 110, 110, 110, 32, 100, 105, 118, 32, 110, 110, 110, 32, 114, 101, 109, 32, 110, 110, 110, 32, 109, 105, 110, 32, 110, 110, 110, 32, 109, 97, 120, 32, 110, 110, 110, 32, 97, 110, 100, 32, 110, 110, 110, 32, 111, 114, 32, 110, 110, 110, 32, 120, 111, 114, 32, 110, 110, 110, 32, 108, 101, 115, 115, 32, 110, 110, 116, 32, 115, 97, 109, 101, 32, 110, 110, 116, 32, 110, 111, 116, 32, 116, 116, 32, 98, 111, 116, 104, 32, 116, 116, 116, 32, 97, 110, 121, 32, 116, 116, 116, 32, 105, 102, 32, 116, 110, 110, 110, 32, 112, 105, 99, 107, 32, 116, 115, 115, 115, 32, 99, 97, 116, 32, 115, 115, 115, 32, 108, 101, 110, 32, 115, 110, 32, 116, 97, 107, 101, 32, 115, 110, 115, 32, 100, 114, 111, 112, 32, 115, 110, 115, 32, 114, 101, 118, 32, 115, 115, 32, 104, 101, 97, 100, 32, 115, 115, 32, 108, 105, 107, 101, 32, 115, 115, 116, 32, 99, 111, 100, 101, 32, 115, 110, 32, 115, 105, 103, 110, 32, 110, 115, 32], [97, 100, 100, 32, 110, 110, 110], [115, 117, 98, 32, 110, 110, 110], [109, 117, 108, 32, 110, 110, 110], [100, 105, 118, 32, 110, 110, 110], [114, 101, 109, 32, 110, 110, 110], [109, 105, 110, 32, 110, 110, 110], [109, 97, 120, 32, 110, 110, 110], [97, 110, 100, 32, 110, 110, 110], [111, 114, 32, 110, 110, 110], [120, 111, 114, 32, 110, 110, 110], [108, 101, 115, 115, 32, 110, 110, 116], [115, 97, 109, 101, 32, 110, 110, 116], [110, 111, 116, 32, 116, 116], [98, 111, 116, 104, 32, 116, 116, 116], [97, 110, 121, 32, 116, 116, 116], [105, 102, 32, 116, 110, 110, 110], [112, 105, 99, 107, 32, 116, 115, 115, 115], [99, 97, 116, 32, 115, 115, 115], [108, 101, 110, 32, 115, 110], [116, 97, 107, 101, 32, 115, 110, 115], [100, 114, 111, 112, 32, 115, 110, 115], [114, 101, 118, 32, 115, 115], [104, 101, 97, 100, 32, 115, 115], [108, 105, 107, 101, 32, 115, 115, 116], [99, 111, 100, 101, 32, 115, 110], [115, 105, 103, 110, 32, 110, 115]]
def w32 (x : Int) : Int := (x + 2147483648) % 4294967296 - 2147483648
def w64 (x : Int) : Int := (x + 9223372036854775808) % 18446744073709551616 - 9223372036854775808
def jr32 (x : Int) : Prop := -2147483648 ≤ x ∧ x < 2147483648
def jr64 (x : Int) : Prop := -9223372036854775808 ≤ x ∧ x < 9223372036854775808
/-- a store -/
def jst (h : AH) (a i v : Int) : AH := fun b j => if b = a ∧ j = i then v else h b j
/-- what is there before the law began, and is looked into: the script at 1 (its length and its places told by φR from 200 on), at 5 the statics that may be null, strings at 10, 12 .. with their bytes behind them -/
def jScr (φR : Nat → Nat) (j : Nat) : Int := w32 ((φR (201 + j) : Nat) : Int)
def strB (a : Int) : List Int := strT.getD ((a - 10) / 2).toNat []
def oldV (φR : Nat → Nat) (a i : Int) : Int :=
  if a = 1 then (if i = -2 then 101 else if i = -1 then ((φR 200 : Nat) : Int) else if 0 ≤ i then jScr φR i.toNat else 0)
  else if a = 5 then (if 2 ≤ i ∧ i ≤ 4 then (if φR (i.toNat + 100000) = 0 then 0 else i) else 0)
  else if 10 ≤ a ∧ a < 110 then (if a % 2 = 0 then (if i = -2 then 1 else if i = -1 then 4 else if i = 0 then a + 1 else 0) else (if i = -2 then 103 else if i = -1 then (((strB a).length : Nat) : Int) else if 0 ≤ i then (strB a).getD i.toNat 0 else 0))
  else if 2 ≤ a ∧ a ≤ 4 ∧ i = -2 then 150 else 0
/-- numbers' operations but sum, difference, product -/
def jdiv (x y : Int) : Int := (Int32.ofInt x / Int32.ofInt y).toInt
def jrem (x y : Int) : Int := (Int32.ofInt x - Int32.ofInt x / Int32.ofInt y * Int32.ofInt y).toInt
def jand (x y : Int) : Int := (Int32.ofInt x &&& Int32.ofInt y).toInt
def jor (x y : Int) : Int := (Int32.ofInt x ||| Int32.ofInt y).toInt
def jxor (x y : Int) : Int := (Int32.ofInt x ^^^ Int32.ofInt y).toInt
def jshl (x y : Int) : Int := (Int32.ofInt x <<< (Int32.ofInt y &&& 31)).toInt
def jshr (x y : Int) : Int := (Int32.ofInt x >>> (Int32.ofInt y &&& 31)).toInt
def jushr (x y : Int) : Int := (((Int32.ofInt x).toUInt32 >>> ((Int32.ofInt y).toUInt32 &&& Int32.toUInt32 31)).toInt32).toInt
def jdivL (x y : Int) : Int := (Int64.ofInt x / Int64.ofInt y).toInt
def jremL (x y : Int) : Int := (Int64.ofInt x - Int64.ofInt x / Int64.ofInt y * Int64.ofInt y).toInt
def jandL (x y : Int) : Int := (Int64.ofInt x &&& Int64.ofInt y).toInt
def jorL (x y : Int) : Int := (Int64.ofInt x ||| Int64.ofInt y).toInt
def jxorL (x y : Int) : Int := (Int64.ofInt x ^^^ Int64.ofInt y).toInt
def jshlL (x y : Int) : Int := (Int64.ofInt x <<< ((Int32.ofInt y).toInt64 &&& 63)).toInt
def jshrL (x y : Int) : Int := (Int64.ofInt x >>> ((Int32.ofInt y).toInt64 &&& 63)).toInt
def jushrL (x y : Int) : Int := (((Int64.ofInt x).toUInt64 >>> ((Int32.ofInt y).toInt64.toUInt64 &&& Int64.toUInt64 63)).toInt64).toInt
def jcmp (x y : Int) : Int := if y < x then 1 else if x = y then 0 else -1
def ji2b (x : Int) : Int := (Int32.ofInt x).toInt8.toInt32.toInt
def ji2c (x : Int) : Int := (((Int32.ofInt x).toUInt32 % 65536).toInt32).toInt
theorem jst_m {h : AH} {a i x b j : Int} (hi : 0 ≤ i) (hj : j < 0) : jst h a i x b j = h b j := by
  unfold jst
  rw [if_neg]
  intro q
  omega
theorem jst_ne {h : AH} {a i x b j : Int} (hb : b ≠ a) : jst h a i x b j = h b j := by
  unfold jst
  rw [if_neg]
  intro q
  exact hb q.1
theorem jst_ni {h : AH} {a i x b j : Int} (hj : j ≠ i) : jst h a i x b j = h b j := by
  unfold jst
  rw [if_neg]
  intro q
  exact hj q.2
theorem jst_eq {h : AH} {a i x : Int} : jst h a i x a i = x := by
  unfold jst
  rw [if_pos ⟨rfl, rfl⟩]
def ji2z (x : Int) : Int := (Int32.ofInt x &&& 1).toInt
def jnew (h : AH) (kind len : Int) : AH := fun b j =>
  if b = h 0 0 then (if j = -2 then kind else if j = -1 then len else 0)
  else if b = 0 then (if j = 0 then h 0 0 + 1 else if j = 1 then h 0 1 + 1 else if j = 2 then h 0 2 + len else h 0 j)
  else h b j
def jroom (h : AH) (len : Int) : Prop := 0 ≤ len ∧ h 0 1 + 1 ≤ 575367 ∧ h 0 2 + len ≤ 7362325
theorem jnew_at {h : AH} {k n j : Int} : jnew h k n (h 0 0) j = if j = -2 then k else if j = -1 then n else 0 := by
  unfold jnew
  rw [if_pos rfl]
theorem jnew_ne {h : AH} {k n b j : Int} (h1 : b ≠ h 0 0) (h0 : b ≠ 0) : jnew h k n b j = h b j := by
  unfold jnew
  rw [if_neg h1, if_neg h0]
theorem jnew_0 {h : AH} {k n j : Int} (h1 : h 0 0 ≠ 0) : jnew h k n 0 j = if j = 0 then h 0 0 + 1 else if j = 1 then h 0 1 + 1 else if j = 2 then h 0 2 + n else h 0 j := by
  unfold jnew
  rw [if_neg (fun q => h1 q.symm), if_pos rfl]
def jl {α β : Type} (e : α) (k : α → β) : β := k e
theorem jl_some {α β : Type} {e : α} {k : α → Option β} {r : β} (h : jl e k = some r) : ∃ x, x = e ∧ k x = some r := ⟨e, rfl, h⟩
noncomputable def jg {β : Type} (P : Prop) (k : Option β) : Option β := @ite _ P (Classical.propDecidable P) k none
theorem jg_some {β : Type} {P : Prop} {k : Option β} {r : β} (h : jg P k = some r) : P ∧ k = some r := by
  unfold jg at h
  split at h
  · exact ⟨by assumption, h⟩
  · cases h
theorem jg_pos {β : Type} {P : Prop} {k : Option β} (h : P) : jg P k = k := if_pos h
def jb {α β : Type} (o : Option α) (k : α → Option β) : Option β := o.bind k
theorem jb_some {α β : Type} {o : Option α} {k : α → Option β} {r : β} (h : jb o k = some r) : ∃ x, o = some x ∧ k x = some r := by
  cases o with
  | none => cases h
  | some x => exact ⟨x, rfl, h⟩
theorem jb_eq {α β : Type} {o : Option α} {x : α} {k : α → Option β} (h : o = some x) : jb o k = k x := by rw [h]; rfl
def jb2 {α β γ : Type} (o : Option (α × β)) (k : α → β → Option γ) : Option γ := o.bind fun p => k p.1 p.2
theorem jb2_some {α β γ : Type} {o : Option (α × β)} {k : α → β → Option γ} {r : γ} (h : jb2 o k = some r) : ∃ x y, o = some (x, y) ∧ k x y = some r := by
  cases o with
  | none => cases h
  | some x => exact ⟨x.1, x.2, rfl, h⟩
theorem jb2_eq {α β γ : Type} {o : Option (α × β)} {x : α} {y : β} {k : α → β → Option γ} (h : o = some (x, y)) : jb2 o k = k x y := by rw [h]; rfl
def jb3 {α β γ δ : Type} (o : Option (α × β × γ)) (k : α → β → γ → Option δ) : Option δ := o.bind fun p => k p.1 p.2.1 p.2.2
theorem jb3_some {α β γ δ : Type} {o : Option (α × β × γ)} {k : α → β → γ → Option δ} {r : δ} (h : jb3 o k = some r) : ∃ x y z, o = some (x, y, z) ∧ k x y z = some r := by
  cases o with
  | none => cases h
  | some x => exact ⟨x.1, x.2.1, x.2.2, rfl, h⟩
theorem jb3_eq {α β γ δ : Type} {o : Option (α × β × γ)} {x : α} {y : β} {z : γ} {k : α → β → γ → Option δ} (h : o = some (x, y, z)) : jb3 o k = k x y z := by rw [h]; rfl
theorem jif_pos {α : Type} {c : Prop} [Decidable c] {a b : Option α} {r : α} (hc : c) (h : (if c then a else b) = some r) : a = some r := by rw [if_pos hc] at h; exact h
theorem jif_neg {α : Type} {c : Prop} [Decidable c] {a b : Option α} {r : α} (hc : ¬ c) (h : (if c then a else b) = some r) : b = some r := by rw [if_neg hc] at h; exact h
def jm {α β γ : Type} (o : α ⊕ β) (k1 : α → γ) (k2 : β → γ) : γ := match o with
  | .inl a => k1 a
  | .inr b => k2 b
theorem jm_l {α β γ : Type} {a : α} {k1 : α → γ} {k2 : β → γ} {r : γ} (h : jm (.inl a) k1 k2 = r) : k1 a = r := h
theorem jm_r {α β γ : Type} {a : β} {k1 : α → γ} {k2 : β → γ} {r : γ} (h : jm (.inr a) k1 k2 = r) : k2 a = r := h
/-- a loop: its step gives the next state, or what it ends with -/
def jitN {σ ρ : Type} (f : σ → Option (σ ⊕ ρ)) : Nat → σ → Option ρ
  | 0, _ => none
  | n + 1, s => match f s with
    | none => none
    | some (.inl t) => jitN f n t
    | some (.inr r) => some r
noncomputable def jit {σ ρ : Type} (f : σ → Option (σ ⊕ ρ)) (s : σ) : Option ρ := @dite _ (∃ n r, jitN f n s = some r) (Classical.propDecidable _) (fun h => some (Classical.choose (Classical.choose_spec h))) (fun _ => none)
theorem jitN_mono {σ ρ : Type} {f : σ → Option (σ ⊕ ρ)} : ∀ {n : Nat} {s : σ} {r : ρ}, jitN f n s = some r → ∀ m, n ≤ m → jitN f m s = some r
  | 0, _, _, h, _, _ => by cases h
  | n + 1, s, r, h, 0, hm => by omega
  | n + 1, s, r, h, m + 1, hm => by
    unfold jitN at h ⊢
    cases hf : f s with
    | none => rw [hf] at h; cases h
    | some x =>
      rw [hf] at h
      cases x with
      | inl t => exact jitN_mono (n := n) h m (by omega)
      | inr q => exact h
theorem jit_of {σ ρ : Type} {f : σ → Option (σ ⊕ ρ)} {n : Nat} {s : σ} {r : ρ} (h : jitN f n s = some r) : jit f s = some r := by
  have he : ∃ n r, jitN f n s = some r := ⟨n, r, h⟩
  have h1 : jit f s = some (Classical.choose (Classical.choose_spec he)) := dif_pos he
  have h2 := Classical.choose_spec (Classical.choose_spec he)
  rw [h1]
  rcases Nat.le_total n (Classical.choose he) with q | q
  · exact h2.symm.trans (jitN_mono h _ q)
  · exact (jitN_mono h2 _ q).symm.trans h
theorem jit_some {σ ρ : Type} {f : σ → Option (σ ⊕ ρ)} {s : σ} {r : ρ} (h : jit f s = some r) : ∃ n, jitN f n s = some r := by
  by_cases he : ∃ n r, jitN f n s = some r
  · obtain ⟨n, q, hq⟩ := he
    have := jit_of hq
    rw [this] at h
    cases h
    exact ⟨n, hq⟩
  · have h1 : jit f s = none := dif_neg he
    rw [h1] at h
    cases h
theorem jitN_succ {σ ρ : Type} {f : σ → Option (σ ⊕ ρ)} {n : Nat} {s : σ} {r : ρ} (h : jitN f (n + 1) s = some r) : (∃ t, f s = some (.inl t) ∧ jitN f n t = some r) ∨ f s = some (.inr r) := by
  unfold jitN at h
  cases hf : f s with
  | none => rw [hf] at h; cases h
  | some x =>
    rw [hf] at h
    cases x with
    | inl t => exact Or.inl ⟨t, rfl, h⟩
    | inr q => cases h; exact Or.inr rfl
theorem jit_eq {σ ρ : Type} (f : σ → Option (σ ⊕ ρ)) (s : σ) : jit f s = match f s with
    | none => none
    | some (.inl t) => jit f t
    | some (.inr r) => some r := by
  cases hf : f s with
  | none =>
    cases hj : jit f s with
    | none => rfl
    | some r =>
      obtain ⟨n, hn⟩ := jit_some hj
      cases n with
      | zero => cases hn
      | succ n =>
        rcases jitN_succ hn with ⟨t, h1, -⟩ | h1 <;> rw [hf] at h1 <;> cases h1
  | some x =>
    cases x with
    | inl t =>
      show jit f s = jit f t
      cases hj : jit f t with
      | none =>
        cases hj2 : jit f s with
        | none => rfl
        | some r =>
          obtain ⟨n, hn⟩ := jit_some hj2
          cases n with
          | zero => cases hn
          | succ n =>
            rcases jitN_succ hn with ⟨t2, h1, h2⟩ | h1
            · rw [hf] at h1
              cases h1
              rw [jit_of h2] at hj
              cases hj
            · rw [hf] at h1
              cases h1
      | some r =>
        obtain ⟨n, hn⟩ := jit_some hj
        exact jit_of (n := n + 1) (by unfold jitN; rw [hf]; exact hn)
    | inr q => exact jit_of (n := 1) (by unfold jitN; rw [hf])
theorem jit_next {σ ρ : Type} {f : σ → Option (σ ⊕ ρ)} {s t : σ} (h : f s = some (.inl t)) : jit f s = jit f t := by rw [jit_eq, h]
theorem jit_end {σ ρ : Type} {f : σ → Option (σ ⊕ ρ)} {s : σ} {r : ρ} (h : f s = some (.inr r)) : jit f s = some r := by rw [jit_eq, h]
def jt2 {α0 α1 β : Type} (o : α0 × α1) (k : α0 → α1 → β) : β := k o.1 o.2
theorem jt2_s {α0 α1 β : Type} {x0 : α0} {x1 : α1} {k : α0 → α1 → β} {r : β} (h : jt2 (x0, x1) k = r) : k x0 x1 = r := h
def jt3 {α0 α1 α2 β : Type} (o : α0 × α1 × α2) (k : α0 → α1 → α2 → β) : β := k o.1 o.2.1 o.2.2
theorem jt3_s {α0 α1 α2 β : Type} {x0 : α0} {x1 : α1} {x2 : α2} {k : α0 → α1 → α2 → β} {r : β} (h : jt3 (x0, x1, x2) k = r) : k x0 x1 x2 = r := h
def jt4 {α0 α1 α2 α3 β : Type} (o : α0 × α1 × α2 × α3) (k : α0 → α1 → α2 → α3 → β) : β := k o.1 o.2.1 o.2.2.1 o.2.2.2
theorem jt4_s {α0 α1 α2 α3 β : Type} {x0 : α0} {x1 : α1} {x2 : α2} {x3 : α3} {k : α0 → α1 → α2 → α3 → β} {r : β} (h : jt4 (x0, x1, x2, x3) k = r) : k x0 x1 x2 x3 = r := h
def jt5 {α0 α1 α2 α3 α4 β : Type} (o : α0 × α1 × α2 × α3 × α4) (k : α0 → α1 → α2 → α3 → α4 → β) : β := k o.1 o.2.1 o.2.2.1 o.2.2.2.1 o.2.2.2.2
theorem jt5_s {α0 α1 α2 α3 α4 β : Type} {x0 : α0} {x1 : α1} {x2 : α2} {x3 : α3} {x4 : α4} {k : α0 → α1 → α2 → α3 → α4 → β} {r : β} (h : jt5 (x0, x1, x2, x3, x4) k = r) : k x0 x1 x2 x3 x4 = r := h
def jt6 {α0 α1 α2 α3 α4 α5 β : Type} (o : α0 × α1 × α2 × α3 × α4 × α5) (k : α0 → α1 → α2 → α3 → α4 → α5 → β) : β := k o.1 o.2.1 o.2.2.1 o.2.2.2.1 o.2.2.2.2.1 o.2.2.2.2.2
theorem jt6_s {α0 α1 α2 α3 α4 α5 β : Type} {x0 : α0} {x1 : α1} {x2 : α2} {x3 : α3} {x4 : α4} {x5 : α5} {k : α0 → α1 → α2 → α3 → α4 → α5 → β} {r : β} (h : jt6 (x0, x1, x2, x3, x4, x5) k = r) : k x0 x1 x2 x3 x4 x5 = r := h
def jt7 {α0 α1 α2 α3 α4 α5 α6 β : Type} (o : α0 × α1 × α2 × α3 × α4 × α5 × α6) (k : α0 → α1 → α2 → α3 → α4 → α5 → α6 → β) : β := k o.1 o.2.1 o.2.2.1 o.2.2.2.1 o.2.2.2.2.1 o.2.2.2.2.2.1 o.2.2.2.2.2.2
theorem jt7_s {α0 α1 α2 α3 α4 α5 α6 β : Type} {x0 : α0} {x1 : α1} {x2 : α2} {x3 : α3} {x4 : α4} {x5 : α5} {x6 : α6} {k : α0 → α1 → α2 → α3 → α4 → α5 → α6 → β} {r : β} (h : jt7 (x0, x1, x2, x3, x4, x5, x6) k = r) : k x0 x1 x2 x3 x4 x5 x6 = r := h
def jt8 {α0 α1 α2 α3 α4 α5 α6 α7 β : Type} (o : α0 × α1 × α2 × α3 × α4 × α5 × α6 × α7) (k : α0 → α1 → α2 → α3 → α4 → α5 → α6 → α7 → β) : β := k o.1 o.2.1 o.2.2.1 o.2.2.2.1 o.2.2.2.2.1 o.2.2.2.2.2.1 o.2.2.2.2.2.2.1 o.2.2.2.2.2.2.2
theorem jt8_s {α0 α1 α2 α3 α4 α5 α6 α7 β : Type} {x0 : α0} {x1 : α1} {x2 : α2} {x3 : α3} {x4 : α4} {x5 : α5} {x6 : α6} {x7 : α7} {k : α0 → α1 → α2 → α3 → α4 → α5 → α6 → α7 → β} {r : β} (h : jt8 (x0, x1, x2, x3, x4, x5, x6, x7) k = r) : k x0 x1 x2 x3 x4 x5 x6 x7 = r := h
def jt9 {α0 α1 α2 α3 α4 α5 α6 α7 α8 β : Type} (o : α0 × α1 × α2 × α3 × α4 × α5 × α6 × α7 × α8) (k : α0 → α1 → α2 → α3 → α4 → α5 → α6 → α7 → α8 → β) : β := k o.1 o.2.1 o.2.2.1 o.2.2.2.1 o.2.2.2.2.1 o.2.2.2.2.2.1 o.2.2.2.2.2.2.1 o.2.2.2.2.2.2.2.1 o.2.2.2.2.2.2.2.2
theorem jt9_s {α0 α1 α2 α3 α4 α5 α6 α7 α8 β : Type} {x0 : α0} {x1 : α1} {x2 : α2} {x3 : α3} {x4 : α4} {x5 : α5} {x6 : α6} {x7 : α7} {x8 : α8} {k : α0 → α1 → α2 → α3 → α4 → α5 → α6 → α7 → α8 → β} {r : β} (h : jt9 (x0, x1, x2, x3, x4, x5, x6, x7, x8) k = r) : k x0 x1 x2 x3 x4 x5 x6 x7 x8 = r := h
def jt10 {α0 α1 α2 α3 α4 α5 α6 α7 α8 α9 β : Type} (o : α0 × α1 × α2 × α3 × α4 × α5 × α6 × α7 × α8 × α9) (k : α0 → α1 → α2 → α3 → α4 → α5 → α6 → α7 → α8 → α9 → β) : β := k o.1 o.2.1 o.2.2.1 o.2.2.2.1 o.2.2.2.2.1 o.2.2.2.2.2.1 o.2.2.2.2.2.2.1 o.2.2.2.2.2.2.2.1 o.2.2.2.2.2.2.2.2.1 o.2.2.2.2.2.2.2.2.2
theorem jt10_s {α0 α1 α2 α3 α4 α5 α6 α7 α8 α9 β : Type} {x0 : α0} {x1 : α1} {x2 : α2} {x3 : α3} {x4 : α4} {x5 : α5} {x6 : α6} {x7 : α7} {x8 : α8} {x9 : α9} {k : α0 → α1 → α2 → α3 → α4 → α5 → α6 → α7 → α8 → α9 → β} {r : β} (h : jt10 (x0, x1, x2, x3, x4, x5, x6, x7, x8, x9) k = r) : k x0 x1 x2 x3 x4 x5 x6 x7 x8 x9 = r := h
def jt11 {α0 α1 α2 α3 α4 α5 α6 α7 α8 α9 α10 β : Type} (o : α0 × α1 × α2 × α3 × α4 × α5 × α6 × α7 × α8 × α9 × α10) (k : α0 → α1 → α2 → α3 → α4 → α5 → α6 → α7 → α8 → α9 → α10 → β) : β := k o.1 o.2.1 o.2.2.1 o.2.2.2.1 o.2.2.2.2.1 o.2.2.2.2.2.1 o.2.2.2.2.2.2.1 o.2.2.2.2.2.2.2.1 o.2.2.2.2.2.2.2.2.1 o.2.2.2.2.2.2.2.2.2.1 o.2.2.2.2.2.2.2.2.2.2
theorem jt11_s {α0 α1 α2 α3 α4 α5 α6 α7 α8 α9 α10 β : Type} {x0 : α0} {x1 : α1} {x2 : α2} {x3 : α3} {x4 : α4} {x5 : α5} {x6 : α6} {x7 : α7} {x8 : α8} {x9 : α9} {x10 : α10} {k : α0 → α1 → α2 → α3 → α4 → α5 → α6 → α7 → α8 → α9 → α10 → β} {r : β} (h : jt11 (x0, x1, x2, x3, x4, x5, x6, x7, x8, x9, x10) k = r) : k x0 x1 x2 x3 x4 x5 x6 x7 x8 x9 x10 = r := h
def jt12 {α0 α1 α2 α3 α4 α5 α6 α7 α8 α9 α10 α11 β : Type} (o : α0 × α1 × α2 × α3 × α4 × α5 × α6 × α7 × α8 × α9 × α10 × α11) (k : α0 → α1 → α2 → α3 → α4 → α5 → α6 → α7 → α8 → α9 → α10 → α11 → β) : β := k o.1 o.2.1 o.2.2.1 o.2.2.2.1 o.2.2.2.2.1 o.2.2.2.2.2.1 o.2.2.2.2.2.2.1 o.2.2.2.2.2.2.2.1 o.2.2.2.2.2.2.2.2.1 o.2.2.2.2.2.2.2.2.2.1 o.2.2.2.2.2.2.2.2.2.2.1 o.2.2.2.2.2.2.2.2.2.2.2
theorem jt12_s {α0 α1 α2 α3 α4 α5 α6 α7 α8 α9 α10 α11 β : Type} {x0 : α0} {x1 : α1} {x2 : α2} {x3 : α3} {x4 : α4} {x5 : α5} {x6 : α6} {x7 : α7} {x8 : α8} {x9 : α9} {x10 : α10} {x11 : α11} {k : α0 → α1 → α2 → α3 → α4 → α5 → α6 → α7 → α8 → α9 → α10 → α11 → β} {r : β} (h : jt12 (x0, x1, x2, x3, x4, x5, x6, x7, x8, x9, x10, x11) k = r) : k x0 x1 x2 x3 x4 x5 x6 x7 x8 x9 x10 x11 = r := h
def jcpG (h : AH) (k a sp b dp n : Int) : Prop := h a (-2) = k ∧ h b (-2) = k ∧ (200 ≤ a ∨ k = 103) ∧ 200 ≤ b ∧ 0 ≤ sp ∧ 0 ≤ dp ∧ 0 ≤ n ∧ sp + n ≤ h a (-1) ∧ dp + n ≤ h b (-1)
def jZ (x : Int) : Prop := x = 0 ∨ x = 1
def jCh (x : Int) : Prop := 0 ≤ x ∧ x ≤ 65535
def jBy (x : Int) : Prop := -128 ≤ x ∧ x ≤ 127
def jI (i n : Int) : Prop := 0 ≤ i ∧ i < n
def jcpy (h : AH) (a sp b dp n : Int) : AH := fun c j => if c = b ∧ dp ≤ j ∧ j < dp + n then h a (sp + (j - dp)) else h c j
def jq {β : Type} (t : Int) (a b : Option β) : Option β := if t = 0 then b else a
theorem jq_some {β : Type} {t : Int} {a b : Option β} {r : β} (h : jq t a b = some r) : (¬ t = 0 ∧ a = some r) ∨ (t = 0 ∧ b = some r) := by
  unfold jq at h
  split at h
  · exact Or.inr ⟨by assumption, h⟩
  · exact Or.inl ⟨by assumption, h⟩
theorem jq_pos {β : Type} {t : Int} {a b : Option β} (h : ¬ t = 0) : jq t a b = a := if_neg h
theorem jq_neg {β : Type} {t : Int} {a b : Option β} (h : t = 0) : jq t a b = b := if_pos h
def jmulN (h : AH) (k kc n m : Int) : Nat → AH
  | 0 => jnew h k n
  | i + 1 => jst (jnew (jmulN h k kc n m i) kc m) (h 0 0) i (jmulN h k kc n m i 0 0)
def jmulG (h : AH) (n m : Int) : Prop := 0 ≤ n ∧ 0 ≤ m ∧ m ≤ 100000 ∧ h 0 1 + 1 + n ≤ 575367 ∧ h 0 2 + n + n * m ≤ 7362325
/-- one cell of six slots more, that isn't looked into -/
def jth (h : AH) : AH := fun b j => if b = 0 ∧ j = 1 then h 0 1 + 1 else if b = 0 ∧ j = 2 then h 0 2 + 6 else h b j
/-- the first heap -/
def jh0 (φR : Nat → Nat) : AH := fun a i => if a = 0 then (if i = 0 then 200 else 0) else if 0 < a ∧ a < 200 then oldV φR a i else 0
theorem jh0_old {φR : Nat → Nat} {a : Int} (h0 : 0 < a) (h2 : a < 200) (i : Int) : jh0 φR a i = oldV φR a i := by
  unfold jh0
  rw [if_neg (by omega), if_pos ⟨h0, h2⟩]
theorem jh0_hi {φR : Nat → Nat} {a : Int} (h : a < 0 ∨ 200 ≤ a) (i : Int) : jh0 φR a i = 0 := by
  unfold jh0
  rw [if_neg (by omega), if_neg (by omega)]
