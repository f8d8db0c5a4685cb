/-! the price of a term, pure -/
/-- the j-th piece of the ask is this node's own -/
def hdP (A : AD) (i : NI) (j : Int) : Prop := (i.1 = 1 ∧ A.2.2.2.2.1 j = -1 ∧ A.2.2.2.2.2.1 j = i.2.2.1 ∧ A.2.2.2.2.2.2.1 j = i.2.1) ∨ (i.1 = 2 ∧ A.2.2.2.2.1 j ≠ -1 ∧ A.2.2.2.2.1 j = i.2.1)
theorem hdP_u {A : AD} (d : dpA A) {i : NI} {j k : Int} (j0 : 0 ≤ j ∧ j < A.2.2.2.1) (k0 : 0 ≤ k ∧ k < A.2.2.2.1) (a : hdP A i j) (b : hdP A i k) : j = k := by
  refine dpA_2 d j0 k0 ?_
  rcases a with ⟨a1, a2, a3, a4⟩ | ⟨a1, a2, a3⟩ <;> rcases b with ⟨b1, b2, b3, b4⟩ | ⟨b1, b2, b3⟩
  · exact ⟨by omega, fun _ => ⟨by omega, by omega⟩⟩
  · omega
  · omega
  · exact ⟨by omega, fun z => absurd z a2⟩
/-- the price of the node's piece among the first n; -1: none -/
noncomputable def prH (A : AD) (i : NI) : Nat → Int
  | 0 => -1
  | n + 1 => cif (hdP A i n) (A.2.2.2.2.2.2.2 n) (prH A i n)
theorem prH_n {A : AD} {i : NI} : ∀ {n : Nat}, (∀ j : Int, 0 ≤ j → j < (n : Int) → ¬ hdP A i j) → prH A i n = -1
  | 0, _ => rfl
  | n + 1, f => by
    show cif _ _ _ = _
    rw [cif_n (f n (by omega) (by omega))]
    exact prH_n (fun j a b => f j a (by omega))
theorem prH_y {A : AD} {i : NI} (d : dpA A) {j : Int} (y : hdP A i j) (j0 : 0 ≤ j ∧ j < A.2.2.2.1) : ∀ {n : Nat}, j < (n : Int) → (n : Int) ≤ A.2.2.2.1 → prH A i n = A.2.2.2.2.2.2.2 j
  | 0, l, _ => by omega
  | n + 1, l, u => by
    show cif _ _ _ = _
    by_cases z : hdP A i n
    · have e : ((n : Nat) : Int) = j := hdP_u d ⟨by omega, by omega⟩ j0 z y
      rw [cif_y z, e]
    · rw [cif_n z]
      by_cases e : j = (n : Int)
      · exact absurd (e ▸ y) z
      · exact prH_y d y j0 (by omega) (by omega)
/-- the price of a node -/
noncomputable def prI (A : AD) (i : NI) : Int := if i.1 = 0 then 1 else prH A i A.2.2.2.1.toNat
/-- the price of a term; -1: it has a node that is no piece -/
noncomputable def cosT (A : AD) : TR → Int
  | .leaf i => prI A i
  | .branch _ s r => if cosT A r < 0 ∨ cosT A s < 0 then -1 else cosT A s + cosT A r

