/-! More of numbers -/
theorem bm32 {x : Int} (h1 : -2147483648 ≤ x) (h2 : x < 2147483648) : x.bmod (2 ^ 32) = x := by rw [← w32_bmod, w32_id h1 h2]
theorem bm64 {x : Int} (h1 : -9223372036854775808 ≤ x) (h2 : x < 9223372036854775808) : x.bmod (2 ^ 64) = x := by rw [← w64_bmod, w64_id h1 h2]
theorem jdiv_nn {x y : Int} (h0 : 0 ≤ x) (h1 : x < 2147483648) (h2 : 0 < y) (h3 : y < 2147483648) : jdiv x y = x / y := by
  unfold jdiv
  rw [Int32.toInt_div, i32_toInt, i32_toInt, w32_id (by omega) h1, w32_id (by omega) h3, Int.tdiv_eq_ediv_of_nonneg h0]
  have a : 0 ≤ x / y := Int.ediv_nonneg h0 (by omega)
  have b : x / y ≤ x := Int.ediv_le_self _ h0
  exact bm32 (by omega) (by omega)
theorem jrem_nn {x y : Int} (h0 : 0 ≤ x) (h1 : x < 2147483648) (h2 : 0 < y) (h3 : y < 2147483648) : jrem x y = x % y := by
  unfold jrem
  have e : (Int32.ofInt x / Int32.ofInt y).toInt = x / y := jdiv_nn h0 h1 h2 h3
  have a : 0 ≤ x / y := Int.ediv_nonneg h0 (by omega)
  have m : 0 ≤ x % y := Int.emod_nonneg _ (by omega)
  have m2 : x % y < y := Int.emod_lt_of_pos _ h2
  have d : y * (x / y) + x % y = x := Int.mul_ediv_add_emod x y
  have c : x / y * y = x - x % y := by rw [Int.mul_comm]; omega
  rw [Int32.toInt_sub, Int32.toInt_mul, e, i32_toInt, i32_toInt, w32_id (by omega) h1, w32_id (by omega) h3, c, bm32 (x := x - x % y) (by omega) (by omega), bm32 (by omega) (by omega)]
  omega
theorem jshr_k {x : Int} (h1 : -2147483648 ≤ x) (h2 : x < 2147483648) : jshr x 8 = x / 256 := jshr_eq (n := 8) (by decide) h1 h2
theorem jshr_16 {x : Int} (h1 : -2147483648 ≤ x) (h2 : x < 2147483648) : jshr x 16 = x / 65536 := jshr_eq (n := 16) (by decide) h1 h2
theorem jshr_24 {x : Int} (h1 : -2147483648 ≤ x) (h2 : x < 2147483648) : jshr x 24 = x / 16777216 := jshr_eq (n := 24) (by decide) h1 h2
theorem toInt_mod (x : BitVec 32) {k : Nat} (hk : k ≤ 32) : x.toInt % ((2 ^ k : Nat) : Int) = ((x.toNat % 2 ^ k : Nat) : Int) := by
  rw [Int.natCast_emod, BitVec.toInt_eq_toNat_cond]
  split
  · rfl
  · have e : ((2 ^ 32 : Nat) : Int) = ((2 ^ k : Nat) : Int) * ((2 ^ (32 - k) : Nat) : Int) := by
      rw [← Int.natCast_mul, ← Nat.pow_add, show k + (32 - k) = 32 by omega]
    rw [e, Int.sub_mul_emod_self_left]
theorem toNat_mod (x : Int) {k : Nat} (hk : k ≤ 32) : ((BitVec.ofInt 32 x).toNat % 2 ^ k : Nat) = (x % ((2 ^ k : Nat) : Int)).toNat := by
  have h := bv_nat 32 x
  have p : (0 : Int) < ((2 ^ k : Nat) : Int) := by exact_mod_cast Nat.two_pow_pos k
  apply Int.ofNat.inj
  show (((BitVec.ofInt 32 x).toNat % 2 ^ k : Nat) : Int) = ((x % ((2 ^ k : Nat) : Int)).toNat : Int)
  rw [Int.natCast_emod, h, Int.toNat_of_nonneg (Int.emod_nonneg _ (by omega))]
  exact Int.emod_emod_of_dvd x (by exact_mod_cast Nat.pow_dvd_pow 2 hk)
theorem jxor_mod {k : Nat} (hk : k ≤ 32) (x y : Int) : jxor x y % ((2 ^ k : Nat) : Int) = (((x % ((2 ^ k : Nat) : Int)).toNat ^^^ (y % ((2 ^ k : Nat) : Int)).toNat : Nat) : Int) := by
  unfold jxor
  show (BitVec.ofInt 32 x ^^^ BitVec.ofInt 32 y).toInt % _ = _
  rw [toInt_mod _ hk, BitVec.toNat_xor, Nat.xor_mod_two_pow, toNat_mod x hk, toNat_mod y hk]
theorem jxor_lt {k : Nat} (hk : k < 32) {x y : Int} (hx : 0 ≤ x) (hx2 : x < ((2 ^ k : Nat) : Int)) (hy : 0 ≤ y) (hy2 : y < ((2 ^ k : Nat) : Int)) : jxor x y = ((x.toNat ^^^ y.toNat : Nat) : Int) := by
  have hl : (2 : Nat) ^ k ≤ 2 ^ 31 := Nat.pow_le_pow_right (by decide) (by omega)
  have h2 : x.toNat ^^^ y.toNat < 2 ^ k := Nat.xor_lt_two_pow (by omega) (by omega)
  have h3 := jxor_mod (k := 32) (by decide) x y
  rw [Int.emod_eq_of_lt (a := x) hx (by omega), Int.emod_eq_of_lt (a := y) hy (by omega)] at h3
  unfold jxor at h3 ⊢
  have h4 : (BitVec.ofInt 32 x ^^^ BitVec.ofInt 32 y).toInt % ((2 ^ 32 : Nat) : Int) = ((BitVec.ofInt 32 x ^^^ BitVec.ofInt 32 y).toNat : Int) := by
    rw [toInt_mod _ (by decide)]
    rw [Nat.mod_eq_of_lt (BitVec.isLt _)]
  have h5 : (BitVec.ofInt 32 x ^^^ BitVec.ofInt 32 y).toNat = x.toNat ^^^ y.toNat := by
    have : (BitVec.ofInt 32 x ^^^ BitVec.ofInt 32 y).toInt % ((2 ^ 32 : Nat) : Int) = ((x.toNat ^^^ y.toNat : Nat) : Int) := h3
    omega
  show (BitVec.ofInt 32 x ^^^ BitVec.ofInt 32 y).toInt = _
  rw [BitVec.toInt_eq_toNat_of_lt (by omega), h5]
/-- what a byte is after it was turned by another one -/
theorem jxor_byte {x y z : Int} (h : z = x % 256) : ji2b (ji2b (jxor x (ji2b y))) % 256 = jxor z (y % 256) := by
  rw [ji2b_255, ji2b_255]
  have h1 := jxor_mod (k := 8) (by decide) x (ji2b y)
  have e : ((2 ^ 8 : Nat) : Int) = 256 := by decide
  rw [e, ji2b_255, ← h] at h1
  rw [h1, jxor_lt (k := 8) (by decide) (by omega) (by omega) (by omega) (by omega)]
theorem jushr_27 (x : Int) : jushr x (w32 (-5)) = jushr x 27 := rfl
theorem jushr_low {x : Int} (h1 : -2147483648 ≤ x) (h2 : x < 2147483648) {n : Nat} (hn : n ≤ 24) : jushr x (n : Int) % 256 = jshr x (n : Int) % 256 := by
  rw [jshr_eq (by omega) h1 h2]
  unfold jushr
  have hs : ∀ n : Nat, n < 32 → (((Int32.ofInt (n : Int)).toUInt32 &&& Int32.toUInt32 31).toBitVec % 32).toNat = n := by decide +kernel
  have e : (((Int32.ofInt x).toUInt32 >>> ((Int32.ofInt (n : Int)).toUInt32 &&& Int32.toUInt32 31)).toInt32).toInt = (BitVec.toInt (BitVec.ofInt 32 x >>> n)) := by
    show BitVec.toInt (((Int32.ofInt x).toUInt32 >>> ((Int32.ofInt (n : Int)).toUInt32 &&& Int32.toUInt32 31)).toBitVec) = _
    rw [UInt32.toBitVec_shiftRight, BitVec.ushiftRight_eq', hs n (by omega)]
    rfl
  rw [e]
  have h3 := toInt_mod (BitVec.ofInt 32 x >>> n) (k := 8) (by decide)
  have e8 : ((2 ^ 8 : Nat) : Int) = 256 := by decide
  rw [e8] at h3
  rw [h3, BitVec.toNat_ushiftRight, Nat.shiftRight_eq_div_pow]
  have hp : 0 < 2 ^ n := Nat.two_pow_pos n
  have h4 := bv_nat 32 x
  have e32 : ((2 ^ 32 : Nat) : Int) = ((2 ^ n : Nat) : Int) * (((2 ^ (24 - n) : Nat) : Int) * 256) := by
    have : (2 : Nat) ^ 32 = 2 ^ n * (2 ^ (24 - n) * 256) := by
      rw [show (256 : Nat) = 2 ^ 8 from rfl, ← Nat.pow_add, ← Nat.pow_add]; congr 1; omega
    rw [this, Int.natCast_mul, Int.natCast_mul]; rfl
  have h5 : (x : Int) = ((2 ^ n : Nat) : Int) * (((2 ^ (24 - n) : Nat) : Int) * 256) * (x / ((2 ^ 32 : Nat) : Int)) + x % ((2 ^ 32 : Nat) : Int) := by
    rw [← e32]; exact (Int.mul_ediv_add_emod x _).symm
  have hp2 : (0 : Int) < ((2 ^ n : Nat) : Int) := by exact_mod_cast hp
  have h6 : x / ((2 ^ n : Nat) : Int) = (((2 ^ (24 - n) : Nat) : Int) * (x / ((2 ^ 32 : Nat) : Int))) * 256 + (x % ((2 ^ 32 : Nat) : Int)) / ((2 ^ n : Nat) : Int) := by
    conv => lhs; rw [h5]
    rw [Int.mul_assoc, Int.add_comm, Int.add_mul_ediv_left _ _ (by omega), Int.add_comm]
    congr 1
    rw [Int.mul_assoc, Int.mul_comm 256, ← Int.mul_assoc]
  rw [h6, Int.natCast_emod, Int.natCast_ediv, h4]
  have e9 : (((256 : Nat)) : Int) = 256 := rfl
  have e10 : ((2 ^ 8 : Nat) : Int) = 256 := rfl
  rw [e10]
  omega
theorem jcpy_out {h : AH} {a sp b dp n c j : Int} (hn : ¬ (c = b ∧ dp ≤ j ∧ j < dp + n)) : jcpy h a sp b dp n c j = h c j := by
  by_cases q : c = b
  · subst q; rw [jcpy_at, if_neg (fun z => hn ⟨rfl, z⟩)]
  · exact jcpy_ne q
theorem jcpy_in {h : AH} {a sp b dp n j : Int} (h1 : dp ≤ j) (h2 : j < dp + n) : jcpy h a sp b dp n b j = h a (sp + (j - dp)) := by rw [jcpy_at, if_pos ⟨h1, h2⟩]
