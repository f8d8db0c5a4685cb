/-! Texts and their tokens -/
def byt (B : Int → Int) (n i : Int) : Int := if i < n then B i else -1
def scan (p : Int → Bool) : Nat → Int → Int
  | 0, i => i
  | k + 1, i => if p i = true then scan p k (i + 1) else i
theorem scan_of {p : Int → Bool} : ∀ {k : Nat} {a e : Int}, (∀ i, a ≤ i → i < e → p i = true) → p e = false → a ≤ e → e - a < k → scan p k a = e
  | 0, a, e, _, _, h1, h2 => by omega
  | k + 1, a, e, h, g, h1, h2 => by
    show (if p a = true then scan p k (a + 1) else a) = e
    by_cases q : a = e
    · subst q; rw [if_neg (by rw [g]; decide)]
    · rw [if_pos (h a (by omega) (by omega))]
      exact scan_of (fun i i0 i1 => h i (by omega) i1) g (by omega) (by omega)
def isL (c : Int) : Bool := decide (97 ≤ c) && decide (c ≤ 122)
def isD (c : Int) : Bool := decide (48 ≤ c) && decide (c ≤ 57)
def isS (c : Int) : Bool := decide (c = 32) || decide (c = 10)
theorem isL_t {c : Int} (h0 : 97 ≤ c) (h1 : c ≤ 122) : isL c = true := by unfold isL; rw [decide_eq_true h0, decide_eq_true h1]; rfl
theorem isL_f {c : Int} (h : ¬ (97 ≤ c ∧ c ≤ 122)) : isL c = false := by
  unfold isL
  by_cases q : 97 ≤ c
  · rw [decide_eq_true q, decide_eq_false (by omega)]; rfl
  · rw [decide_eq_false q]; rfl
theorem isD_t {c : Int} (h0 : 48 ≤ c) (h1 : c ≤ 57) : isD c = true := by unfold isD; rw [decide_eq_true h0, decide_eq_true h1]; rfl
theorem isD_f {c : Int} (h : ¬ (48 ≤ c ∧ c ≤ 57)) : isD c = false := by
  unfold isD
  by_cases q : 48 ≤ c
  · rw [decide_eq_true q, decide_eq_false (by omega)]; rfl
  · rw [decide_eq_false q]; rfl
theorem isS_t {c : Int} (h : c = 32 ∨ c = 10) : isS c = true := by rcases h with rfl | rfl <;> decide
theorem isS_f {c : Int} (h0 : c ≠ 32) (h1 : c ≠ 10) : isS c = false := by unfold isS; rw [decide_eq_false h0, decide_eq_false h1]; rfl
theorem isL_lt {B : Int → Int} {n i : Int} (h : isL (byt B n i) = true) : i < n := by
  unfold byt at h
  by_cases q : i < n
  · exact q
  · rw [if_neg q] at h; exact absurd h (by decide)
theorem isL_r {c : Int} (h : isL c = true) : 97 ≤ c ∧ c ≤ 122 := by
  by_cases q : 97 ≤ c ∧ c ≤ 122
  · exact q
  · rw [isL_f q] at h; exact absurd h (by decide)
theorem byt_n {B : Int → Int} {n i : Int} (h : n ≤ i) : byt B n i = -1 := if_neg (by omega)
theorem byt_i {B : Int → Int} {n i : Int} (h : i < n) : byt B n i = B i := if_pos h
def wsE (B : Int → Int) (n q : Int) : Int := scan (fun i => isS (byt B n i)) 2002 q
def letE (B : Int → Int) (n s : Int) : Int := scan (fun i => isL (byt B n i)) 2002 s
def digE (B : Int → Int) (n s : Int) : Int := scan (fun i => isD (byt B n i)) 2002 s
/-- letters as digits to the base 27; digits -/
def cod (B : Int → Int) (s : Int) : Nat → Int
  | 0 => 0
  | k + 1 => 27 * cod B s k + (B (s + k) - 96)
def dgs (B : Int → Int) (s : Int) : Nat → Int
  | 0 => 0
  | k + 1 => 10 * dgs B s k + (B (s + k) - 48)
def tS (B : Int → Int) (n q : Int) : Int := wsE B n q
def tC (B : Int → Int) (n q : Int) : Int := byt B n (tS B n q)
abbrev sgn (c : Int) : Prop := c = 40 ∨ c = 41 ∨ c = 44 ∨ c = 59 ∨ c = 58 ∨ c = 61 ∨ c = 63
/-- sort of a token (0 end, 1 name, 2 number, 3 word, 4 sign, 5 none), its end, its value -/
def tK (B : Int → Int) (n q : Int) : Int × Int × Int :=
  if tC B n q < 0 then (0, tS B n q, 0)
  else if isL (tC B n q) = true then (if letE B n (tS B n q) - tS B n q ≤ 8 then (1, letE B n (tS B n q), cod B (tS B n q) (letE B n (tS B n q) - tS B n q).toNat) else (5, letE B n (tS B n q), 0))
  else if isD (tC B n q) = true then (if digE B n (tS B n q) - tS B n q ≤ 2 ∧ dgs B (tS B n q) (digE B n (tS B n q) - tS B n q).toNat ≤ 15 then (2, digE B n (tS B n q), dgs B (tS B n q) (digE B n (tS B n q) - tS B n q).toNat) else (5, digE B n (tS B n q), 0))
  else if tC B n q = 34 then (if letE B n (tS B n q + 1) - (tS B n q + 1) ≤ 6 ∧ byt B n (letE B n (tS B n q + 1)) = 34 then (3, letE B n (tS B n q + 1) + 1, cod B (tS B n q + 1) (letE B n (tS B n q + 1) - (tS B n q + 1)).toNat) else (5, letE B n (tS B n q + 1) + 1, 0))
  else if tC B n q = 45 ∧ byt B n (tS B n q + 1) = 62 then (4, tS B n q + 2, 256)
  else if sgn (tC B n q) then (4, tS B n q + 1, tC B n q)
  else (5, tS B n q + 1, 0)
def tO (B : Int → Int) (n q : Int) : Int := (tK B n q).1
def tE (B : Int → Int) (n q : Int) : Int := (tK B n q).2.1
def tV (B : Int → Int) (n q : Int) : Int := (tK B n q).2.2
theorem cod_r {B : Int → Int} {s : Int} : ∀ {k : Nat}, (∀ i : Int, s ≤ i → i < s + k → 97 ≤ B i ∧ B i ≤ 122) → 0 ≤ cod B s k ∧ cod B s k < ((27 ^ k : Nat) : Int)
  | 0, _ => ⟨show (0 : Int) ≤ 0 by decide, show (0 : Int) < 1 by decide⟩
  | k + 1, h => by
    have a := cod_r (k := k) (fun i i0 i1 => h i i0 (by omega))
    have b := h (s + k) (by omega) (by omega)
    show 0 ≤ 27 * cod B s k + (B (s + k) - 96) ∧ 27 * cod B s k + (B (s + k) - 96) < ((27 ^ (k + 1) : Nat) : Int)
    rw [Nat.pow_succ, Int.natCast_mul]
    omega
theorem cod_8 {B : Int → Int} {s : Int} {k : Nat} (hk : k ≤ 8) (h : ∀ i : Int, s ≤ i → i < s + k → 97 ≤ B i ∧ B i ≤ 122) : 0 ≤ cod B s k ∧ cod B s k < 282429536481 := by
  have a := cod_r h
  have b : (27 : Nat) ^ k ≤ 27 ^ 8 := Nat.pow_le_pow_right (by decide) hk
  omega
theorem cod_6 {B : Int → Int} {s : Int} {k : Nat} (hk : k ≤ 6) (h : ∀ i : Int, s ≤ i → i < s + k → 97 ≤ B i ∧ B i ≤ 122) : 0 ≤ cod B s k ∧ cod B s k < 387420489 := by
  have a := cod_r h
  have b : (27 : Nat) ^ k ≤ 27 ^ 6 := Nat.pow_le_pow_right (by decide) hk
  omega
theorem cod_step {B : Int → Int} {s i : Int} (h : s ≤ i) : cod B s (i + 1 - s).toNat = 27 * cod B s (i - s).toNat + (B i - 96) := by
  obtain ⟨k, hk⟩ : ∃ k : Nat, i = s + k := ⟨(i - s).toNat, by omega⟩
  subst hk
  rw [show (s + (k : Int) + 1 - s).toNat = k + 1 by omega, show (s + (k : Int) - s).toNat = k by omega]
  rfl
theorem dgs_step {B : Int → Int} {s i : Int} (h : s ≤ i) : dgs B s (i + 1 - s).toNat = 10 * dgs B s (i - s).toNat + (B i - 48) := by
  obtain ⟨k, hk⟩ : ∃ k : Nat, i = s + k := ⟨(i - s).toNat, by omega⟩
  subst hk
  rw [show (s + (k : Int) + 1 - s).toNat = k + 1 by omega, show (s + (k : Int) - s).toNat = k by omega]
  rfl
/-! x's lexer -/
/-- what x reads: n bytes at A -/
def TX (B : Int → Int) (n A : Int) (h : AH) : Prop := h 441 0 = A ∧ h 441 1 = n ∧ 0 ≤ n ∧ n ≤ 2000 ∧ 439 ≤ A ∧ A ≤ 440 ∧ h A (-2) = 103 ∧ n ≤ h A (-1) ∧ ∀ i, 0 ≤ i → i < n → h A i % 256 = B i ∧ -128 ≤ h A i ∧ h A i ≤ 127
theorem TX_fr {B : Int → Int} {n A : Int} {h h' : AH} (t : TX B n A h) (f0 : h' 441 0 = h 441 0) (f1 : h' 441 1 = h 441 1) (f : ∀ s, h' A s = h A s) : TX B n A h' := by
  obtain ⟨a, b, c, d, e, e2, g, i, j⟩ := t
  exact ⟨by rw [f0, a], by rw [f1, b], c, d, e, e2, by rw [f, g], by rw [f]; exact i, fun k k0 k1 => by rw [f]; exact j k k0 k1⟩
theorem vX13_byteAt (a1 : Int) {h : AH} {B : Int → Int} {n A : Int} (t : TX B n A h) (i0 : 0 ≤ a1) : OK (gX13_byteAt a1 h) (fun v => v = byt B n a1) := by
  obtain ⟨ta, tb, tc, td, te, te2, tg, ti, tj⟩ := t
  unfold gX13_byteAt
  refine OK_if (fun c1 => ?_) (fun c1 => ?_)
  · skip
    try simp (disch := omega) only [jst_eq, jst_ne, jst_ni, jI_i, jcmp_lt, jcmp_gt, w32_id, jcpy_out, Sum.elim_inl, Sum.elim_inr, jt2, jt3, jt4, jt5, jt6, jt7, jt8] at c1
    refine OK_some ?_
    try dsimp only [Sum.elim_inl, Sum.elim_inr, jt2, jt3, jt4, jt5, jt6, jt7, jt8]
    (rw [byt_n (by omega)]) -- o1 e1
  · skip
    try simp (disch := omega) only [jst_eq, jst_ne, jst_ni, jI_i, jcmp_lt, jcmp_gt, w32_id, jcpy_out, Sum.elim_inl, Sum.elim_inr, jt2, jt3, jt4, jt5, jt6, jt7, jt8] at c1
    refine OK_jg (by (rw [ta]; exact ⟨tg, by unfold jI; omega⟩)) ?_ -- o2
    refine OK_some ?_
    try dsimp only [Sum.elim_inl, Sum.elim_inr, jt2, jt3, jt4, jt5, jt6, jt7, jt8]
    (rw [jand_255, ta, byt_i (by omega)]; exact (tj a1 i0 (by omega)).1) -- o3 e2

