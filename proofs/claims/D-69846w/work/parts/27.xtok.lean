/-! x's token at hand -/
theorem scan_r {p : Int → Bool} {n : Int} (hp : ∀ i, n ≤ i → p i = false) : ∀ {k : Nat} {a : Int}, a ≤ scan p k a ∧ (scan p k a = a ∨ scan p k a ≤ n)
  | 0, a => ⟨Int.le_refl _, Or.inl rfl⟩
  | k + 1, a => by
    show a ≤ (if p a = true then scan p k (a + 1) else a) ∧ _
    show _ ∧ ((if p a = true then scan p k (a + 1) else a) = a ∨ (if p a = true then scan p k (a + 1) else a) ≤ n)
    by_cases q : p a = true
    · rw [if_pos q]
      have := scan_r hp (k := k) (a := a + 1)
      have l : a < n := by
        by_cases z : a < n
        · exact z
        · rw [hp a (by omega)] at q; exact absurd q (by decide)
      omega
    · rw [if_neg q]; exact ⟨Int.le_refl _, Or.inl rfl⟩
theorem wsE_r (B : Int → Int) (n q : Int) : q ≤ wsE B n q ∧ (wsE B n q = q ∨ wsE B n q ≤ n) := scan_r (fun i h => by rw [byt_n h]; rfl)
theorem letE_r (B : Int → Int) (n q : Int) : q ≤ letE B n q ∧ (letE B n q = q ∨ letE B n q ≤ n) := scan_r (fun i h => by rw [byt_n h]; rfl)
theorem digE_r (B : Int → Int) (n q : Int) : q ≤ digE B n q ∧ (digE B n q = q ∨ digE B n q ≤ n) := scan_r (fun i h => by rw [byt_n h]; rfl)
theorem scan_1 {p : Int → Bool} {k : Nat} {a : Int} (hp : p a = true) {n : Int} (hn : ∀ i, n ≤ i → p i = false) : a + 1 ≤ scan p (k + 1) a := by
  show a + 1 ≤ (if p a = true then scan p k (a + 1) else a)
  rw [if_pos hp]
  exact (scan_r hn).1
theorem letE_1 {B : Int → Int} {n q : Int} (h : isL (byt B n q) = true) : q + 1 ≤ letE B n q := scan_1 (k := 2001) (p := fun i => isL (byt B n i)) h (n := n) (fun i h => by rw [byt_n h]; rfl)
theorem digE_1 {B : Int → Int} {n q : Int} (h : isD (byt B n q) = true) : q + 1 ≤ digE B n q := scan_1 (k := 2001) (p := fun i => isD (byt B n i)) h (n := n) (fun i h => by rw [byt_n h]; rfl)
theorem tS_r {B : Int → Int} {n q : Int} (h0 : q ≤ n) : q ≤ tS B n q ∧ tS B n q ≤ n := by
  have := wsE_r B n q
  unfold tS; omega
/-- the six sorts of tokens -/
theorem tK_cases (B : Int → Int) (n q : Int) (hB : ∀ i, 0 ≤ i → i < n → 0 ≤ B i) (h0 : 0 ≤ q) :
    (tC B n q < 0 ∧ n ≤ tS B n q ∧ tK B n q = (0, tS B n q, 0)) ∨
    (isL (tC B n q) = true ∧ letE B n (tS B n q) - tS B n q ≤ 8 ∧ tK B n q = (1, letE B n (tS B n q), cod B (tS B n q) (letE B n (tS B n q) - tS B n q).toNat)) ∨
    (isL (tC B n q) = false ∧ isD (tC B n q) = true ∧ digE B n (tS B n q) - tS B n q ≤ 2 ∧ dgs B (tS B n q) (digE B n (tS B n q) - tS B n q).toNat ≤ 15 ∧ tK B n q = (2, digE B n (tS B n q), dgs B (tS B n q) (digE B n (tS B n q) - tS B n q).toNat)) ∨
    (tC B n q = 34 ∧ letE B n (tS B n q + 1) - (tS B n q + 1) ≤ 6 ∧ byt B n (letE B n (tS B n q + 1)) = 34 ∧ tK B n q = (3, letE B n (tS B n q + 1) + 1, cod B (tS B n q + 1) (letE B n (tS B n q + 1) - (tS B n q + 1)).toNat)) ∨
    (tC B n q = 45 ∧ byt B n (tS B n q + 1) = 62 ∧ tK B n q = (4, tS B n q + 2, 256)) ∨
    (sgn (tC B n q) ∧ tK B n q = (4, tS B n q + 1, tC B n q)) ∨
    (0 ≤ tC B n q ∧ tO B n q = 5 ∧ tS B n q + 1 ≤ tE B n q) := by
  have ws := wsE_r B n q
  unfold tO tE tK
  by_cases c1 : tC B n q < 0
  · left
    refine ⟨c1, ?_, by rw [if_pos c1]⟩
    by_cases z : tS B n q < n
    · unfold tC at c1
      rw [byt_i z] at c1
      have := hB (tS B n q) (by unfold tS; omega) z
      omega
    · omega
  right
  rw [if_neg c1]
  cases c2 : isL (tC B n q) with
  | true =>
    rw [if_pos rfl]
    have l1 := letE_1 (B := B) (n := n) (q := tS B n q) c2
    by_cases c3 : letE B n (tS B n q) - tS B n q ≤ 8
    · left; exact ⟨rfl, c3, by rw [if_pos c3]⟩
    · rw [if_neg c3]
      right; right; right; right; right
      exact ⟨by omega, rfl, l1⟩
  | false =>
  right
  rw [if_neg (by decide)]
  cases c3 : isD (tC B n q) with
  | true =>
    rw [if_pos rfl]
    have l1 := digE_1 (B := B) (n := n) (q := tS B n q) c3
    by_cases c4 : digE B n (tS B n q) - tS B n q ≤ 2 ∧ dgs B (tS B n q) (digE B n (tS B n q) - tS B n q).toNat ≤ 15
    · left; exact ⟨rfl, rfl, c4.1, c4.2, by rw [if_pos c4]⟩
    · rw [if_neg c4]
      right; right; right; right
      exact ⟨by omega, rfl, l1⟩
  | false =>
  right
  rw [if_neg (by decide)]
  by_cases c4 : tC B n q = 34
  · rw [if_pos c4]
    have l1 := letE_r B n (tS B n q + 1)
    by_cases c5 : letE B n (tS B n q + 1) - (tS B n q + 1) ≤ 6 ∧ byt B n (letE B n (tS B n q + 1)) = 34
    · left; exact ⟨c4, c5.1, c5.2, by rw [if_pos c5]⟩
    · rw [if_neg c5]
      right; right; right
      exact ⟨by omega, rfl, by show tS B n q + 1 ≤ letE B n (tS B n q + 1) + 1; omega⟩
  right
  rw [if_neg c4]
  by_cases c5 : tC B n q = 45 ∧ byt B n (tS B n q + 1) = 62
  · rw [if_pos c5]; left; exact ⟨c5.1, c5.2, rfl⟩
  right
  rw [if_neg c5]
  by_cases c6 : sgn (tC B n q)
  · rw [if_pos c6]; left; exact ⟨c6, rfl⟩
  right
  rw [if_neg c6]
  exact ⟨by omega, rfl, by show tS B n q + 1 ≤ tS B n q + 1; omega⟩

