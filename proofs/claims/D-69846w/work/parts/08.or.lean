/-! Shifts to the left and sums of parts -/
theorem jshl_eq {n : Nat} (hn : n < 32) (x : Int) : jshl x (n : Int) = w32 (x * (2 ^ n : Nat)) := by
  unfold jshl
  have hs : ∀ n : Nat, n < 32 → ((Int32.ofInt (n : Int) &&& 31).toBitVec.smod 32).toNat = n := by decide +kernel
  show (Int32.toBitVec (Int32.ofInt x <<< (Int32.ofInt (n : Int) &&& 31))).toInt = _
  rw [Int32.toBitVec_shiftLeft]
  rw [BitVec.shiftLeft_eq', hs n hn, BitVec.toInt_shiftLeft, i32_bv, w32_bmod, Nat.shiftLeft_eq]
  rw [Int.natCast_mul, bv_nat, Int.emod_mul_bmod]
theorem jor_nat {x y : Int} {a b : Nat} (ha : x % 4294967296 = a) (hb : y % 4294967296 = b) : jor x y = w32 ((a ||| b : Nat) : Int) := by
  unfold jor
  show (BitVec.ofInt 32 x ||| BitVec.ofInt 32 y).toInt = _
  have e32 : ((2 ^ 32 : Nat) : Int) = 4294967296 := by decide
  have h1 : (BitVec.ofInt 32 x).toNat = a := by have := bv_nat 32 x; rw [e32] at this; omega
  have h2 : (BitVec.ofInt 32 y).toNat = b := by have := bv_nat 32 y; rw [e32] at this; omega
  rw [BitVec.toInt_eq_toNat_bmod, BitVec.toNat_or, h1, h2, w32_bmod]
theorem jor_add {k : Nat} {x y : Int} {a : Nat} (ha : x % 4294967296 = ((a * 2 ^ k : Nat) : Int)) (hy : 0 ≤ y) (hy2 : y < ((2 ^ k : Nat) : Int)) (hk : y < 4294967296) : jor x y = w32 (x + y) := by
  rw [jor_nat (a := a * 2 ^ k) (b := y.toNat) ha (by omega), ← Nat.shiftLeft_eq, ← Nat.shiftLeft_add_eq_or_of_lt (by omega), Nat.shiftLeft_eq, Int.natCast_add, ← ha]
  unfold w32
  omega
theorem jor8 {x b : Int} (h0 : 0 ≤ b) (h1 : b < 256) : jor (jshl x 8) b = w32 (x * 256 + b) := by
  rw [show (8 : Int) = ((8 : Nat) : Int) from rfl, jshl_eq (by decide)]
  have e : ((2 ^ 8 : Nat) : Int) = 256 := by decide
  rw [e, jor_add (k := 8) (a := ((x * 256) % 4294967296 / 256).toNat) (by unfold w32; rw [Int.natCast_mul, e]; omega) h0 (by omega) (by omega)]
  unfold w32
  omega
theorem w32_mod (x : Int) : w32 x % 4294967296 = x % 4294967296 := by unfold w32; omega
theorem w32_cg {x y : Int} (h : x % 4294967296 = y % 4294967296) : w32 x = w32 y := by unfold w32; omega
theorem w32_add (x y : Int) : w32 (w32 x + y) = w32 (x + y) := w32_cg (by unfold w32; omega)
theorem jor_ad2 {k : Nat} {x y q p : Int} (ep : ((2 ^ k : Nat) : Int) = p) (ha : x % 4294967296 = q * p) (hq : 0 ≤ q) (hy : 0 ≤ y) (hy2 : y < p) (hk : y < 4294967296) : jor (w32 x) y = w32 (x + y) := by
  rw [jor_add (k := k) (a := q.toNat) (by rw [w32_mod, Int.natCast_mul, ep, Int.toNat_of_nonneg hq]; exact ha) hy (by omega) hk, w32_add]
theorem jor32 {a b c d : Int} (hb : 0 ≤ b ∧ b < 256) (hc : 0 ≤ c ∧ c < 256) (hd : 0 ≤ d ∧ d < 256) : jor (jor (jor (jshl a 24) (jshl b 16)) (jshl c 8)) d = w32 (a * 16777216 + b * 65536 + c * 256 + d) := by
  rw [show (8 : Int) = ((8 : Nat) : Int) from rfl, show (16 : Int) = ((16 : Nat) : Int) from rfl, show (24 : Int) = ((24 : Nat) : Int) from rfl, jshl_eq (by decide), jshl_eq (by decide), jshl_eq (by decide)]
  have e : ((2 ^ 8 : Nat) : Int) = 256 := by decide
  have e2 : ((2 ^ 16 : Nat) : Int) = 65536 := by decide
  have e3 : ((2 ^ 24 : Nat) : Int) = 16777216 := by decide
  rw [e, e2, e3, w32_id (x := b * 65536) (by omega) (by omega), w32_id (x := c * 256) (by omega) (by omega)]
  rw [jor_ad2 (k := 24) (q := a % 256) e3 (by omega) (by omega) (by omega) (by omega) (by omega)]
  rw [jor_ad2 (k := 16) (q := (a * 256 + b) % 65536) e2 (by omega) (by omega) (by omega) (by omega) (by omega)]
  rw [jor_ad2 (k := 8) (q := (a * 65536 + b * 256 + c) % 16777216) e (by omega) (by omega) (by omega) (by omega) (by omega)]
