/-! Numbers: what the machine's operations are over Int -/
theorem jcmp_lt {x y : Int} : jcmp x y < 0 ↔ x < y := by unfold jcmp; split <;> (try split) <;> omega
theorem jcmp_gt {x y : Int} : 0 < jcmp x y ↔ y < x := by unfold jcmp; split <;> (try split) <;> omega
theorem jcmp_eq {x y : Int} : jcmp x y = 0 ↔ x = y := by unfold jcmp; split <;> (try split) <;> omega
theorem jcmp_le {x y : Int} : jcmp x y ≤ 0 ↔ x ≤ y := by unfold jcmp; split <;> (try split) <;> omega
theorem jcmp_ge {x y : Int} : 0 ≤ jcmp x y ↔ y ≤ x := by unfold jcmp; split <;> (try split) <;> omega
theorem w32_bmod (x : Int) : w32 x = x.bmod (2 ^ 32) := by
  unfold w32 Int.bmod
  have : (((2 ^ 32 : Nat) : Int)) = 4294967296 := by decide
  simp only [this]
  split <;> omega
theorem w64_bmod (x : Int) : w64 x = x.bmod (2 ^ 64) := by
  unfold w64 Int.bmod
  have : (((2 ^ 64 : Nat) : Int)) = 18446744073709551616 := by decide
  simp only [this]
  split <;> omega
theorem i32_toInt (x : Int) : (Int32.ofInt x).toInt = w32 x := by
  rw [w32_bmod]
  exact Int32.toInt_ofInt
theorem i64_toInt (x : Int) : (Int64.ofInt x).toInt = w64 x := by
  rw [w64_bmod]
  exact Int64.toInt_ofInt
theorem i32_bv (x : Int) : (Int32.ofInt x).toBitVec = BitVec.ofInt 32 x := rfl
theorem i64_bv (x : Int) : (Int64.ofInt x).toBitVec = BitVec.ofInt 64 x := rfl
theorem bv_nat (n : Nat) (x : Int) : ((BitVec.ofInt n x).toNat : Int) = x % (2 ^ n : Nat) := by
  rw [BitVec.toNat_ofInt]
  have : (0 : Int) < ((2 ^ n : Nat) : Int) := by exact_mod_cast Nat.two_pow_pos n
  exact Int.toNat_of_nonneg (Int.emod_nonneg _ (by omega))
theorem jand_mask {k : Nat} (hk : k < 32) (x : Int) : jand x ((2 ^ k - 1 : Nat) : Int) = x % (2 ^ k : Nat) := by
  unfold jand
  show (BitVec.ofInt 32 x &&& BitVec.ofInt 32 _).toInt = _
  have h1 : (BitVec.ofInt 32 x &&& BitVec.ofInt 32 ((2 ^ k - 1 : Nat) : Int)).toNat = (BitVec.ofInt 32 x).toNat % 2 ^ k := by
    rw [BitVec.toNat_and]
    have h2 : (BitVec.ofInt 32 ((2 ^ k - 1 : Nat) : Int)).toNat = 2 ^ k - 1 := by
      have := bv_nat 32 ((2 ^ k - 1 : Nat) : Int)
      have hl : (2 : Nat) ^ k ≤ 2 ^ 31 := Nat.pow_le_pow_right (by decide) (by omega)
      have h3 : ((2 ^ k - 1 : Nat) : Int) % ((2 ^ 32 : Nat) : Int) = ((2 ^ k - 1 : Nat) : Int) := Int.emod_eq_of_lt (by omega) (by omega)
      omega
    rw [h2]
    exact Nat.and_two_pow_sub_one_eq_mod _ _
  have hl : (2 : Nat) ^ k ≤ 2 ^ 31 := Nat.pow_le_pow_right (by decide) (by omega)
  have hp : (0 : Nat) < 2 ^ k := Nat.two_pow_pos k
  have h4 : (BitVec.ofInt 32 x).toNat % 2 ^ k < 2 ^ k := Nat.mod_lt _ hp
  rw [BitVec.toInt_eq_toNat_of_lt (by rw [h1]; omega), h1, Int.natCast_emod, bv_nat]
  exact Int.emod_emod_of_dvd x (by exact_mod_cast Nat.pow_dvd_pow 2 (by omega))
theorem jand_255 (x : Int) : jand x 255 = x % 256 := jand_mask (k := 8) (by decide) x
theorem jand_15 (x : Int) : jand x 15 = x % 16 := jand_mask (k := 4) (by decide) x
theorem jand_31 (x : Int) : jand x 31 = x % 32 := jand_mask (k := 5) (by decide) x
theorem jand_1 (x : Int) : jand x 1 = x % 2 := jand_mask (k := 1) (by decide) x
theorem jand_1023 (x : Int) : jand x 1023 = x % 1024 := jand_mask (k := 10) (by decide) x
theorem jand_262143 (x : Int) : jand x 262143 = x % 262144 := jand_mask (k := 18) (by decide) x
theorem jand_524287 (x : Int) : jand x 524287 = x % 524288 := jand_mask (k := 19) (by decide) x
theorem ji2b_eq (x : Int) : ji2b x = (x + 128) % 256 - 128 := by
  unfold ji2b
  have h1 : ((Int32.ofInt x).toInt8.toInt32).toInt = (Int32.ofInt x).toInt8.toInt := Int8.toInt_toInt32 _
  rw [h1, Int32.toInt_toInt8, i32_toInt]
  unfold Int.bmod w32
  have : ((2 ^ 8 : Nat) : Int) = 256 := by decide
  simp only [this]
  split <;> omega
theorem ji2b_id {x : Int} (h1 : -128 ≤ x) (h2 : x < 128) : ji2b x = x := by rw [ji2b_eq]; omega
theorem jshr_eq {n : Nat} (hn : n < 32) {x : Int} (h1 : -2147483648 ≤ x) (h2 : x < 2147483648) : jshr x (n : Int) = x / (2 ^ n : Nat) := by
  unfold jshr
  have hs : ∀ n : Nat, n < 32 → ((Int32.ofInt (n : Int) &&& 31).toBitVec.smod 32).toNat = n := by decide +kernel
  show (Int32.toBitVec (Int32.ofInt x >>> (Int32.ofInt (n : Int) &&& 31))).toInt = _
  rw [Int32.toBitVec_shiftRight]
  rw [BitVec.sshiftRight_eq', hs n hn, BitVec.toInt_sshiftRight, i32_bv, BitVec.toInt_ofInt, ← w32_bmod, w32_id h1 h2, Int.shiftRight_eq_div_pow]
theorem jI_i {i n : Int} : jI i n ↔ 0 ≤ i ∧ i < n := Iff.rfl
theorem jZ_i {x : Int} : jZ x ↔ x = 0 ∨ x = 1 := Iff.rfl
theorem jCh_i {x : Int} : jCh x ↔ 0 ≤ x ∧ x ≤ 65535 := Iff.rfl
theorem ji2c_id {x : Int} (h1 : 0 ≤ x) (h2 : x ≤ 65535) : ji2c x = x := by
  unfold ji2c
  have h3 : ((Int32.ofInt x).toUInt32 % 65536).toNat = x.toNat := by
    rw [UInt32.toNat_mod]
    have : (Int32.ofInt x).toUInt32.toNat = x.toNat := by
      show (BitVec.ofInt 32 x).toNat = _
      have := bv_nat 32 x
      have h4 : ((2 ^ 32 : Nat) : Int) = 4294967296 := by decide
      rw [h4] at this
      omega
    rw [this]
    have : (65536 : UInt32).toNat = 65536 := by decide
    rw [this]
    exact Nat.mod_eq_of_lt (by omega)
  show (((Int32.ofInt x).toUInt32 % 65536).toInt32.toBitVec).toInt = x
  show (((Int32.ofInt x).toUInt32 % 65536).toBitVec).toInt = x
  rw [BitVec.toInt_eq_toNat_of_lt]
  · show ((((Int32.ofInt x).toUInt32 % 65536).toNat : Nat) : Int) = x
    rw [h3]; omega
  · show 2 * ((Int32.ofInt x).toUInt32 % 65536).toNat < 2 ^ 32
    rw [h3]; omega
theorem jst_at {h : AH} {a i v j : Int} : jst h a i v a j = if j = i then v else h a j := by
  unfold jst
  by_cases q : j = i
  · rw [if_pos ⟨rfl, q⟩, if_pos q]
  · rw [if_neg (fun e => q e.2), if_neg q]
theorem jcpy_at {h : AH} {a sp b dp n j : Int} : jcpy h a sp b dp n b j = if dp ≤ j ∧ j < dp + n then h a (sp + (j - dp)) else h b j := by
  unfold jcpy
  by_cases q : dp ≤ j ∧ j < dp + n
  · rw [if_pos ⟨rfl, q⟩, if_pos q]
  · rw [if_neg (fun e => q e.2), if_neg q]
theorem jcpy_ne {h : AH} {a sp b dp n c j : Int} (hc : c ≠ b) : jcpy h a sp b dp n c j = h c j := by
  unfold jcpy
  exact if_neg (fun e => hc e.1)
theorem ji2b_255 (x : Int) : ji2b x % 256 = x % 256 := by rw [ji2b_eq]; omega
