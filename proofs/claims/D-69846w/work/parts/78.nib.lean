/-! longs as sixteen nibbles -/
def uL (x : Int) : Nat := (BitVec.ofInt 64 x).toNat
theorem uL_lt (x : Int) : uL x < 18446744073709551616 := (BitVec.ofInt 64 x).isLt
theorem uL_bv (b : BitVec 64) : uL b.toInt = b.toNat := by unfold uL; rw [BitVec.ofInt_toInt]
theorem uL_m (x : Int) : ((uL x : Nat) : Int) = x % 18446744073709551616 := bv_nat 64 x
theorem uL_and (x y : Int) : uL (jandL x y) = uL x &&& uL y := by
  show uL (BitVec.ofInt 64 x &&& BitVec.ofInt 64 y).toInt = _
  rw [uL_bv, BitVec.toNat_and]; rfl
theorem uL_or (x y : Int) : uL (jorL x y) = uL x ||| uL y := by
  show uL (BitVec.ofInt 64 x ||| BitVec.ofInt 64 y).toInt = _
  rw [uL_bv, BitVec.toNat_or]; rfl
theorem uL_xor (x y : Int) : uL (jxorL x y) = uL x ^^^ uL y := by
  show uL (BitVec.ofInt 64 x ^^^ BitVec.ofInt 64 y).toInt = _
  rw [uL_bv, BitVec.toNat_xor]; rfl
theorem bv64_r (b : BitVec 64) : jr64 b.toInt := by
  have h1 := @BitVec.toInt_lt 64 b
  have h2 := @BitVec.le_toInt 64 b
  have e : (2 : Int) ^ (64 - 1) = 9223372036854775808 := by decide
  rw [e] at h1 h2
  unfold jr64
  omega
theorem jandL_r (x y : Int) : jr64 (jandL x y) := bv64_r (BitVec.ofInt 64 x &&& BitVec.ofInt 64 y)
theorem jorL_r (x y : Int) : jr64 (jorL x y) := bv64_r (BitVec.ofInt 64 x ||| BitVec.ofInt 64 y)
theorem jxorL_r (x y : Int) : jr64 (jxorL x y) := bv64_r (BitVec.ofInt 64 x ^^^ BitVec.ofInt 64 y)
theorem uL_inj {x y : Int} (hx : jr64 x) (hy : jr64 y) (e : uL x = uL y) : x = y := by
  have h1 := uL_m x
  have h2 := uL_m y
  rw [e] at h1
  unfold jr64 at hx hy
  omega
theorem uL_w64 (x : Int) : ((uL (w64 x) : Nat) : Int) = x % 18446744073709551616 := by
  rw [uL_m]
  unfold w64
  omega
theorem uL_add {x y : Int} (h : uL x + uL y < 18446744073709551616) : uL (w64 (x + y)) = uL x + uL y := by
  have h1 := uL_w64 (x + y)
  have h2 := uL_m x
  have h3 := uL_m y
  omega
theorem uL_sub {x y : Int} (h : uL y ≤ uL x) : uL (w64 (x - y)) = uL x - uL y := by
  have h1 := uL_w64 (x - y)
  have h2 := uL_m x
  have h3 := uL_m y
  have h4 := uL_lt x
  omega
theorem uL_15 {x : Int} (h : uL x * 15 < 18446744073709551616) : uL (w64 (x * 15)) = uL x * 15 := by
  have h1 := uL_w64 (x * 15)
  have h2 := uL_m x
  omega
/-- nibble i -/
def nb (u i : Nat) : Nat := u / 2 ^ (4 * i) % 2 ^ 4
theorem nb_lt (u i : Nat) : nb u i < 16 := Nat.mod_lt _ (by decide)
theorem nb_0 (u : Nat) : nb u 0 = u % 16 := by
  unfold nb
  rw [Nat.mul_zero, Nat.pow_zero, Nat.div_one]
theorem pw16 (i : Nat) : 2 ^ (4 * (i + 1)) = 16 * 2 ^ (4 * i) := by
  rw [show 4 * (i + 1) = 4 + 4 * i by omega, Nat.pow_add]
theorem nb_s (u i : Nat) : nb (u / 16) i = nb u (i + 1) := by
  unfold nb
  rw [Nat.div_div_eq_div_mul, pw16]
theorem nb_and (u v i : Nat) : nb (u &&& v) i = nb u i &&& nb v i := by
  unfold nb
  rw [Nat.and_div_two_pow, Nat.and_mod_two_pow]
theorem nb_or (u v i : Nat) : nb (u ||| v) i = nb u i ||| nb v i := by
  unfold nb
  rw [Nat.or_div_two_pow, Nat.or_mod_two_pow]
theorem nb_xor (u v i : Nat) : nb (u ^^^ v) i = nb u i ^^^ nb v i := by
  unfold nb
  rw [Nat.xor_div_two_pow, Nat.xor_mod_two_pow]
theorem nb_ext : ∀ (n : Nat) {u v : Nat}, u < 2 ^ (4 * n) → v < 2 ^ (4 * n) → (∀ i, i < n → nb u i = nb v i) → u = v
  | 0, u, v, a, b, _ => by
    rw [Nat.mul_zero, Nat.pow_zero] at a b
    omega
  | n + 1, u, v, a, b, h => by
    rw [pw16] at a b
    have e0 := h 0 (by omega)
    rw [nb_0, nb_0] at e0
    have e := nb_ext n (u := u / 16) (v := v / 16) (by omega) (by omega) (fun i l => by rw [nb_s, nb_s]; exact h (i + 1) (by omega))
    omega
theorem nb_add : ∀ (i : Nat) {u v : Nat}, (∀ j, j ≤ i → nb u j + nb v j < 16) → nb (u + v) i = nb u i + nb v i
  | 0, u, v, h => by
    have e := h 0 (by omega)
    rw [nb_0, nb_0] at e
    rw [nb_0, nb_0, nb_0]
    omega
  | i + 1, u, v, h => by
    have e := h 0 (by omega)
    rw [nb_0, nb_0] at e
    rw [← nb_s, ← nb_s, ← nb_s, show (u + v) / 16 = u / 16 + v / 16 by omega]
    exact nb_add i (fun j l => by rw [nb_s, nb_s]; exact h (j + 1) (by omega))
theorem nb_sub : ∀ (i : Nat) {u v : Nat}, (∀ j, j ≤ i → nb v j ≤ nb u j) → nb (u - v) i = nb u i - nb v i ∨ u < v
  | 0, u, v, h => by
    have e := h 0 (by omega)
    rw [nb_0, nb_0] at e
    rw [nb_0, nb_0, nb_0]
    omega
  | i + 1, u, v, h => by
    have e := h 0 (by omega)
    rw [nb_0, nb_0] at e
    rw [← nb_s, ← nb_s, ← nb_s, show (u - v) / 16 = u / 16 - v / 16 by omega]
    rcases nb_sub i (u := u / 16) (v := v / 16) (fun j l => by rw [nb_s, nb_s]; exact h (j + 1) (by omega)) with y | y
    · exact Or.inl y
    · exact Or.inr (by omega)
theorem nb_le : ∀ (n : Nat) {u v : Nat}, v < 2 ^ (4 * n) → (∀ j, j < n → nb v j ≤ nb u j) → v ≤ u
  | 0, u, v, a, _ => by
    rw [Nat.mul_zero, Nat.pow_zero] at a
    omega
  | n + 1, u, v, a, h => by
    rw [pw16] at a
    have e := h 0 (by omega)
    rw [nb_0, nb_0] at e
    have e2 := nb_le n (u := u / 16) (v := v / 16) (by omega) (fun j l => by rw [nb_s, nb_s]; exact h (j + 1) (by omega))
    omega
theorem nb_15 : ∀ (i : Nat) {u : Nat}, (∀ j, j ≤ i → nb u j ≤ 1) → nb (u * 15) i = nb u i * 15
  | 0, u, h => by
    have e := h 0 (by omega)
    rw [nb_0] at e
    rw [nb_0, nb_0]
    omega
  | i + 1, u, h => by
    have e := h 0 (by omega)
    rw [nb_0] at e
    rw [← nb_s, ← nb_s, show u * 15 / 16 = u / 16 * 15 by omega]
    exact nb_15 i (fun j l => by rw [nb_s]; exact h (j + 1) (by omega))
theorem nb_16 (w : Nat) : ∀ i, nb (16 * w) i = if i = 0 then 0 else nb w (i - 1)
  | 0 => by rw [nb_0, if_pos rfl]; omega
  | i + 1 => by
    rw [← nb_s, if_neg (by omega), show 16 * w / 16 = w by omega, show i + 1 - 1 = i by omega]
theorem nb_sm {v : Nat} (h : v < 16) : ∀ i, nb v i = if i = 0 then v else 0
  | 0 => by rw [nb_0, if_pos rfl]; omega
  | i + 1 => by
    rw [← nb_s, if_neg (by omega), show v / 16 = 0 by omega]
    unfold nb
    rw [Nat.zero_div]
theorem nb_sh {v : Nat} (h : v < 16) : ∀ k i, nb (2 ^ (4 * k) * v) i = if i = k then v else 0
  | 0, i => by
    rw [Nat.mul_zero, Nat.pow_zero, Nat.one_mul]
    exact nb_sm h i
  | k + 1, i => by
    rw [pw16, Nat.mul_assoc, nb_16]
    by_cases y : i = 0
    · rw [if_pos y, if_neg (by omega)]
    · rw [if_neg y, nb_sh h k (i - 1)]
      by_cases z : i = k + 1
      · rw [if_pos (by omega), if_pos z]
      · rw [if_neg (by omega), if_neg z]
theorem nbL_ext {x y : Int} (hx : jr64 x) (hy : jr64 y) (h : ∀ i, i < 16 → nb (uL x) i = nb (uL y) i) : x = y := uL_inj hx hy (nb_ext 16 (uL_lt x) (uL_lt y) h)
theorem uL_K7 : uL 8608480567731124087 = 8608480567731124087 := by decide +kernel
theorem uL_K8 : uL (-8608480567731124088) = 9838263505978427528 := by decide +kernel
theorem uL_K1 : uL 1229782938247303441 = 1229782938247303441 := by decide +kernel
theorem uL_KF : uL (-1) = 18446744073709551615 := by decide +kernel
theorem nb_K7 : ∀ i, i < 16 → nb 8608480567731124087 i = 7 := by decide +kernel
theorem nb_K8 : ∀ i, i < 16 → nb 9838263505978427528 i = 8 := by decide +kernel
theorem nb_K1 : ∀ i, i < 16 → nb 1229782938247303441 i = 1 := by decide +kernel
theorem nb_KF : ∀ i, i < 16 → nb 18446744073709551615 i = 15 := by decide +kernel
/-! sums of nibbles -/
def addL (x y : Int) : Int := jxorL (w64 (jandL x 8608480567731124087 + jandL y 8608480567731124087)) (jandL (jxorL x y) (-8608480567731124088))
def subL (x y : Int) : Int := jxorL (w64 (jorL x (-8608480567731124088) - jandL y 8608480567731124087)) (jandL (jxorL x (jxorL y (-1))) (-8608480567731124088))
theorem addL_r (x y : Int) : jr64 (addL x y) := jxorL_r _ _
theorem subL_r (x y : Int) : jr64 (subL x y) := jxorL_r _ _
theorem add_nn : ∀ a, a < 16 → ∀ b, b < 16 → ((a &&& 7) + (b &&& 7)) ^^^ ((a ^^^ b) &&& 8) = (a + b) % 16 := by decide +kernel
theorem sub_nn : ∀ a, a < 16 → ∀ b, b < 16 → ((a ||| 8) - (b &&& 7)) ^^^ ((a ^^^ (b ^^^ 15)) &&& 8) = (a + 16 - b) % 16 := by decide +kernel
theorem and7 : ∀ a, a < 16 → (a &&& 7) ≤ 7 := by decide +kernel
theorem or8 : ∀ a, a < 16 → 8 ≤ (a ||| 8) := by decide +kernel
theorem addL_n (x y : Int) {i : Nat} (hi : i < 16) : nb (uL (addL x y)) i = (nb (uL x) i + nb (uL y) i) % 16 := by
  have le : ∀ z : Int, uL (jandL z 8608480567731124087) ≤ 8608480567731124087 := fun z => by
    rw [uL_and, uL_K7]
    exact Nat.and_le_right
  have n7 : ∀ (z : Int) (j : Nat), j < 16 → nb (uL (jandL z 8608480567731124087)) j = (nb (uL z) j &&& 7) := fun z j l => by rw [uL_and, uL_K7, nb_and, nb_K7 j l]
  unfold addL
  rw [uL_xor, nb_xor, uL_add (by have := le x; have := le y; omega), nb_add i (fun j l => by rw [n7 x j (by omega), n7 y j (by omega)]; have := and7 _ (nb_lt (uL x) j); have := and7 _ (nb_lt (uL y) j); omega), n7 x i hi, n7 y i hi, uL_and, nb_and, uL_xor, nb_xor, uL_K8, nb_K8 i hi]
  exact add_nn _ (nb_lt _ _) _ (nb_lt _ _)
theorem subL_n (x y : Int) {i : Nat} (hi : i < 16) : nb (uL (subL x y)) i = (nb (uL x) i + 16 - nb (uL y) i) % 16 := by
  have n7 : ∀ (z : Int) (j : Nat), j < 16 → nb (uL (jandL z 8608480567731124087)) j = (nb (uL z) j &&& 7) := fun z j l => by rw [uL_and, uL_K7, nb_and, nb_K7 j l]
  have n8 : ∀ (z : Int) (j : Nat), j < 16 → nb (uL (jorL z (-8608480567731124088))) j = (nb (uL z) j ||| 8) := fun z j l => by rw [uL_or, uL_K8, nb_or, nb_K8 j l]
  have nl : ∀ j, j < 16 → nb (uL (jandL y 8608480567731124087)) j ≤ nb (uL (jorL x (-8608480567731124088))) j := fun j l => by
    rw [n7 y j l, n8 x j l]
    have := and7 _ (nb_lt (uL y) j)
    have := or8 _ (nb_lt (uL x) j)
    omega
  have ge : uL (jandL y 8608480567731124087) ≤ uL (jorL x (-8608480567731124088)) := nb_le 16 (uL_lt _) nl
  unfold subL
  rw [uL_xor, nb_xor, uL_sub ge, (nb_sub i (fun j l => nl j (by omega))).resolve_right (by omega), n7 y i hi, n8 x i hi, uL_and, nb_and, uL_xor, nb_xor, uL_xor, nb_xor, uL_K8, nb_K8 i hi, uL_KF, nb_KF i hi]
  exact sub_nn _ (nb_lt _ _) _ (nb_lt _ _)
/-! shifts -/
theorem sm64 : ∀ n : Nat, n < 64 → (((Int32.ofInt (n : Int)).toInt64 &&& 63).toBitVec.smod 64).toNat = n := by decide +kernel
theorem um64 : ∀ n : Nat, n < 64 → (((Int32.ofInt (n : Int)).toInt64.toUInt64 &&& Int64.toUInt64 63).toNat % 64) = n := by decide +kernel
theorem jushrL_u {n : Nat} (hn : n < 64) (x : Int) : uL (jushrL x (n : Int)) = uL x / 2 ^ n := by
  unfold jushrL
  show uL (((Int64.ofInt x).toUInt64 >>> ((Int32.ofInt (n : Int)).toInt64.toUInt64 &&& Int64.toUInt64 63)).toBitVec).toInt = _
  rw [uL_bv]
  show ((Int64.ofInt x).toUInt64 >>> ((Int32.ofInt (n : Int)).toInt64.toUInt64 &&& Int64.toUInt64 63)).toNat = _
  rw [UInt64.toNat_shiftRight, um64 n hn, Nat.shiftRight_eq_div_pow]
  rfl
theorem jushrL_r (x y : Int) : jr64 (jushrL x y) := bv64_r _
theorem jshrL_e {n : Nat} (hn : n < 64) {x : Int} (hx : jr64 x) : jshrL x (n : Int) = x / 2 ^ n := by
  unfold jshrL
  show (BitVec.sshiftRight' (BitVec.ofInt 64 x) (((Int32.ofInt (n : Int)).toInt64 &&& 63).toBitVec.smod 64)).toInt = _
  rw [BitVec.sshiftRight_eq', sm64 n hn, BitVec.toInt_sshiftRight, BitVec.toInt_ofInt, ← w64_bmod, w64_id hx.1 hx.2, Int.shiftRight_eq_div_pow]
  norm_cast
theorem jshlL_u {n : Nat} (hn : n < 64) (x : Int) : uL (jshlL x (n : Int)) = uL x * 2 ^ n % 18446744073709551616 := by
  unfold jshlL
  show uL ((BitVec.ofInt 64 x) <<< (((Int32.ofInt (n : Int)).toInt64 &&& 63).toBitVec.smod 64)).toInt = _
  rw [uL_bv, BitVec.shiftLeft_eq', sm64 n hn, BitVec.toNat_shiftLeft, Nat.shiftLeft_eq]
  rfl
theorem jshlL_r (x y : Int) : jr64 (jshlL x y) := bv64_r _
theorem nbI (a : Int) {i : Nat} (hi : i < 16) : ((nb (uL a) i : Nat) : Int) = a / 2 ^ (4 * i) % 16 := by
  have h1 := uL_m a
  have hp : ∀ k : Nat, ((2 ^ k : Nat) : Int) = (2 : Int) ^ k := fun k => by rw [Int.natCast_pow]; rfl
  have e : (18446744073709551616 : Int) = 2 ^ (4 * i) * (16 * 2 ^ (4 * (15 - i))) := by
    have z : 18446744073709551616 = 2 ^ (4 * i) * (16 * 2 ^ (4 * (15 - i))) := by
      rw [← pw16, ← Nat.pow_add, show 4 * i + 4 * (15 - i + 1) = 64 by omega]
    have z2 : ((18446744073709551616 : Nat) : Int) = ((2 ^ (4 * i) * (16 * 2 ^ (4 * (15 - i))) : Nat) : Int) := congrArg (fun n : Nat => (n : Int)) z
    rw [Int.natCast_mul, Int.natCast_mul, hp, hp] at z2
    exact z2
  have ha : a = ((uL a : Nat) : Int) + 2 ^ (4 * i) * ((16 * 2 ^ (4 * (15 - i))) * (a / 18446744073709551616)) := by
    rw [← Int.mul_assoc, ← e]
    omega
  have h0 : (2 : Int) ^ (4 * i) ≠ 0 := by
    rw [← hp]
    have := Nat.two_pow_pos (4 * i)
    omega
  have k : a / 2 ^ (4 * i) = ((uL a : Nat) : Int) / 2 ^ (4 * i) + 16 * (2 ^ (4 * (15 - i)) * (a / 18446744073709551616)) := by
    conv => lhs; rw [ha]
    rw [Int.add_mul_ediv_left _ _ h0, Int.mul_assoc]
  unfold nb
  rw [k, Int.add_mul_emod_self_left, Int.natCast_emod, Int.natCast_ediv, hp]
  rfl

