/-! rows of acts: an act on all inputs at once -/
def mulS (x y : Int) (k : Nat) (m l : Int) : Int := addL m (jandL l (w64 (jandL (jushrL y k) 1229782938247303441 * 15)))
def mulM (x y : Int) : Nat → Int × Int
  | 0 => (0, x)
  | k + 1 => (mulS x y k (mulM x y k).1 (mulM x y k).2, addL (mulM x y k).2 (mulM x y k).2)
def mulL (x y : Int) : Int := (mulM x y 4).1
theorem bit_nn : ∀ y, y < 16 → ∀ k, k < 4 → ((y / 2 ^ k % 16 &&& 1) * 15 ≤ 15) := by decide +kernel
theorem mul_nn : ∀ k, k < 4 → ∀ x, x < 16 → ∀ y, y < 16 → ((x * (y % 2 ^ k)) % 16 + ((x * 2 ^ k) % 16 &&& ((y / 2 ^ k &&& 1) * 15))) % 16 = (x * (y % 2 ^ (k + 1))) % 16 ∧ ((x * 2 ^ k) % 16 + (x * 2 ^ k) % 16) % 16 = (x * 2 ^ (k + 1)) % 16 := by decide +kernel
theorem and1 (a : Nat) : (a &&& 1) = a % 2 := Nat.and_one_is_mod a
theorem nb_shr (u k i : Nat) (hk : k < 4) : (nb (u / 2 ^ k) i &&& 1) = (nb u i / 2 ^ k &&& 1) := by
  unfold nb
  rw [and1, and1, Nat.div_div_eq_div_mul, Nat.mul_comm, ← Nat.div_div_eq_div_mul]
  generalize u / 2 ^ (4 * i) = w
  have h : k = 0 ∨ k = 1 ∨ k = 2 ∨ k = 3 := by omega
  rcases h with rfl | rfl | rfl | rfl
  · omega
  · omega
  · omega
  · omega
theorem mask_n (y : Int) (k i : Nat) (hk : k < 4) (hi : i < 16) : nb (uL (w64 (jandL (jushrL y (k : Int)) 1229782938247303441 * 15))) i = (nb (uL y) i / 2 ^ k &&& 1) * 15 := by
  have n1 : ∀ j, j < 16 → nb (uL (jandL (jushrL y (k : Int)) 1229782938247303441)) j = (nb (uL y) j / 2 ^ k &&& 1) := fun j l => by
    rw [uL_and, uL_K1, nb_and, nb_K1 j l, jushrL_u (by omega)]
    exact nb_shr _ _ _ hk
  have le : uL (jandL (jushrL y (k : Int)) 1229782938247303441) ≤ 1229782938247303441 := by
    rw [uL_and, uL_K1]
    exact Nat.and_le_right
  rw [uL_15 (by omega), nb_15 i (fun j l => by rw [n1 j (by omega), and1]; omega), n1 i hi]
theorem mulM_n (x y : Int) {i : Nat} (hi : i < 16) : ∀ k, k ≤ 4 → nb (uL (mulM x y k).1) i = (nb (uL x) i * (nb (uL y) i % 2 ^ k)) % 16 ∧ nb (uL (mulM x y k).2) i = (nb (uL x) i * 2 ^ k) % 16
  | 0, _ => by
    show nb (uL 0) i = _ ∧ nb (uL x) i = _
    have h0 : uL 0 = 0 := by decide +kernel
    have h1 := nb_lt (uL x) i
    rw [h0, Nat.pow_zero, Nat.mod_one, Nat.mul_zero, Nat.mul_one]
    refine ⟨?_, by omega⟩
    unfold nb
    rw [Nat.zero_div]
  | k + 1, l => by
    obtain ⟨a, b⟩ := mulM_n x y hi k (by omega)
    have z := mul_nn k (by omega) _ (nb_lt (uL x) i) _ (nb_lt (uL y) i)
    show nb (uL (mulS x y k (mulM x y k).1 (mulM x y k).2)) i = _ ∧ nb (uL (addL (mulM x y k).2 (mulM x y k).2)) i = _
    unfold mulS
    rw [addL_n _ _ hi, addL_n _ _ hi, uL_and, nb_and, mask_n y k i (by omega) hi, a, b]
    exact z
theorem mulL_n (x y : Int) {i : Nat} (hi : i < 16) : nb (uL (mulL x y)) i = (nb (uL x) i * nb (uL y) i) % 16 := by
  have := (mulM_n x y hi 4 (by omega)).1
  have h1 := nb_lt (uL y) i
  rw [show nb (uL y) i % 2 ^ 4 = nb (uL y) i from Nat.mod_eq_of_lt h1] at this
  exact this
theorem mulL_r (x y : Int) : jr64 (mulL x y) := addL_r _ _
/-- nibble by nibble -/
def qA (c p q : Nat) : Nat := if c = 0 then (p + q) % 16 else if c = 2 then (p + 16 - q) % 16 else if c = 4 then p ^^^ q else if c = 6 then p &&& q else if c = 8 then 15 - p else if c = 10 then q else if c = 15 then q else if c = 11 then (p + 1) % 16 else if c = 13 then (p + p) % 16 else if c = 14 then p / 2 else if c = 16 then (16 - p) % 16 else if c = 17 then p * q % 16 else p
def qB (c p q : Nat) : Nat := if c = 1 then (p + q) % 16 else if c = 3 then (q + 16 - p) % 16 else if c = 5 then q ^^^ p else if c = 7 then q ||| p else if c = 9 then p else if c = 15 then p else if c = 12 then (q + 1) % 16 else q
/-- all at once -/
def AL (c : Nat) (a b : Int) : Int := if c = 0 then addL a b else if c = 2 then subL a b else if c = 4 then jxorL a b else if c = 6 then jandL a b else if c = 8 then jxorL a (-1) else if c = 10 then b else if c = 15 then b else if c = 11 then addL a 1229782938247303441 else if c = 13 then addL a a else if c = 14 then jandL (jushrL a 1) 8608480567731124087 else if c = 16 then subL 0 a else if c = 17 then mulL a b else a
def BL (c : Nat) (a b : Int) : Int := if c = 1 then addL a b else if c = 3 then subL b a else if c = 5 then jxorL b a else if c = 7 then jorL b a else if c = 9 then a else if c = 15 then a else if c = 12 then addL b 1229782938247303441 else b
theorem c18 {c : Nat} (h : c < 18) : c = 0 ∨ c = 1 ∨ c = 2 ∨ c = 3 ∨ c = 4 ∨ c = 5 ∨ c = 6 ∨ c = 7 ∨ c = 8 ∨ c = 9 ∨ c = 10 ∨ c = 11 ∨ c = 12 ∨ c = 13 ∨ c = 14 ∨ c = 15 ∨ c = 16 ∨ c = 17 := by omega
theorem xor15 : ∀ a, a < 16 → a ^^^ 15 = 15 - a := by decide +kernel
theorem shr1 (u i : Nat) : (nb (u / 2 ^ 1) i &&& 7) = nb u i / 2 := by
  have h7 : ∀ a, (a &&& 7) = a % 8 := fun a => Nat.and_two_pow_sub_one_eq_mod a 3
  unfold nb
  rw [h7, Nat.div_div_eq_div_mul, Nat.mul_comm, ← Nat.div_div_eq_div_mul]
  generalize u / 2 ^ (4 * i) = w
  omega
theorem nb_z (i : Nat) : nb (uL 0) i = 0 := by
  have h0 : uL 0 = 0 := by decide +kernel
  rw [h0]
  unfold nb
  rw [Nat.zero_div]
theorem AL_n {c : Nat} (hc : c < 18) (a b : Int) {i : Nat} (hi : i < 16) : nb (uL (AL c a b)) i = qA c (nb (uL a) i) (nb (uL b) i) := by
  have h1 := nb_lt (uL a) i
  have k1 : nb (uL 1229782938247303441) i = 1 := by rw [uL_K1]; exact nb_K1 i hi
  rcases c18 hc with rfl | rfl | rfl | rfl | rfl | rfl | rfl | rfl | rfl | rfl | rfl | rfl | rfl | rfl | rfl | rfl | rfl | rfl
  · exact addL_n a b hi
  · rfl
  · exact subL_n a b hi
  · rfl
  · show nb (uL (jxorL a b)) i = _; rw [uL_xor, nb_xor]; rfl
  · rfl
  · show nb (uL (jandL a b)) i = _; rw [uL_and, nb_and]; rfl
  · rfl
  · show nb (uL (jxorL a (-1))) i = _; rw [uL_xor, nb_xor, uL_KF, nb_KF i hi]; exact xor15 _ h1
  · rfl
  · rfl
  · show nb (uL (addL a 1229782938247303441)) i = _; rw [addL_n _ _ hi, k1]; rfl
  · rfl
  · exact addL_n a a hi
  · show nb (uL (jandL (jushrL a 1) 8608480567731124087)) i = _
    have e : uL (jushrL a 1) = uL a / 2 ^ 1 := jushrL_u (n := 1) (by omega) a
    rw [uL_and, nb_and, uL_K7, nb_K7 i hi, e]; exact shr1 _ _
  · rfl
  · show nb (uL (subL 0 a)) i = _; rw [subL_n _ _ hi, nb_z, Nat.zero_add]; rfl
  · exact mulL_n a b hi
theorem BL_n {c : Nat} (hc : c < 18) (a b : Int) {i : Nat} (hi : i < 16) : nb (uL (BL c a b)) i = qB c (nb (uL a) i) (nb (uL b) i) := by
  have k1 : nb (uL 1229782938247303441) i = 1 := by rw [uL_K1]; exact nb_K1 i hi
  rcases c18 hc with rfl | rfl | rfl | rfl | rfl | rfl | rfl | rfl | rfl | rfl | rfl | rfl | rfl | rfl | rfl | rfl | rfl | rfl
  · rfl
  · exact addL_n a b hi
  · rfl
  · exact subL_n b a hi
  · rfl
  · show nb (uL (jxorL b a)) i = _; rw [uL_xor, nb_xor]; rfl
  · rfl
  · show nb (uL (jorL b a)) i = _; rw [uL_or, nb_or]; rfl
  · rfl
  · rfl
  · rfl
  · rfl
  · show nb (uL (addL b 1229782938247303441)) i = _; rw [addL_n _ _ hi, k1]; rfl
  · rfl
  · rfl
  · rfl
  · rfl
  · rfl
theorem ite_r64 {P : Prop} {d : Decidable P} {x y : Int} (hx : jr64 x) (hy : jr64 y) : jr64 (@ite Int P d x y) := by
  by_cases h : P
  · rw [if_pos h]; exact hx
  · rw [if_neg h]; exact hy
theorem AL_r {c : Nat} {a b : Int} (ha : jr64 a) (hb : jr64 b) : jr64 (AL c a b) :=
  ite_r64 (addL_r _ _) (ite_r64 (subL_r _ _) (ite_r64 (jxorL_r _ _) (ite_r64 (jandL_r _ _) (ite_r64 (jxorL_r _ _) (ite_r64 hb (ite_r64 hb (ite_r64 (addL_r _ _) (ite_r64 (addL_r _ _) (ite_r64 (jandL_r _ _) (ite_r64 (subL_r _ _) (ite_r64 (mulL_r _ _) ha)))))))))))
theorem BL_r {c : Nat} {a b : Int} (ha : jr64 a) (hb : jr64 b) : jr64 (BL c a b) :=
  ite_r64 (addL_r _ _) (ite_r64 (subL_r _ _) (ite_r64 (jxorL_r _ _) (ite_r64 (jorL_r _ _) (ite_r64 ha (ite_r64 ha (ite_r64 (addL_r _ _) hb))))))
theorem AL_0 (a b : Int) : AL 0 a b = addL a b := rfl
theorem BL_0 (a b : Int) : BL 0 a b = b := rfl
theorem AL_1 (a b : Int) : AL 1 a b = a := rfl
theorem BL_1 (a b : Int) : BL 1 a b = addL a b := rfl
theorem AL_2 (a b : Int) : AL 2 a b = subL a b := rfl
theorem BL_2 (a b : Int) : BL 2 a b = b := rfl
theorem AL_3 (a b : Int) : AL 3 a b = a := rfl
theorem BL_3 (a b : Int) : BL 3 a b = subL b a := rfl
theorem AL_4 (a b : Int) : AL 4 a b = jxorL a b := rfl
theorem BL_4 (a b : Int) : BL 4 a b = b := rfl
theorem AL_5 (a b : Int) : AL 5 a b = a := rfl
theorem BL_5 (a b : Int) : BL 5 a b = jxorL b a := rfl
theorem AL_6 (a b : Int) : AL 6 a b = jandL a b := rfl
theorem BL_6 (a b : Int) : BL 6 a b = b := rfl
theorem AL_7 (a b : Int) : AL 7 a b = a := rfl
theorem BL_7 (a b : Int) : BL 7 a b = jorL b a := rfl
theorem AL_8 (a b : Int) : AL 8 a b = jxorL a (-1) := rfl
theorem BL_8 (a b : Int) : BL 8 a b = b := rfl
theorem AL_9 (a b : Int) : AL 9 a b = a := rfl
theorem BL_9 (a b : Int) : BL 9 a b = a := rfl
theorem AL_10 (a b : Int) : AL 10 a b = b := rfl
theorem BL_10 (a b : Int) : BL 10 a b = b := rfl
theorem AL_11 (a b : Int) : AL 11 a b = addL a 1229782938247303441 := rfl
theorem BL_11 (a b : Int) : BL 11 a b = b := rfl
theorem AL_12 (a b : Int) : AL 12 a b = a := rfl
theorem BL_12 (a b : Int) : BL 12 a b = addL b 1229782938247303441 := rfl
theorem AL_13 (a b : Int) : AL 13 a b = addL a a := rfl
theorem BL_13 (a b : Int) : BL 13 a b = b := rfl
theorem AL_14 (a b : Int) : AL 14 a b = jandL (jushrL a 1) 8608480567731124087 := rfl
theorem BL_14 (a b : Int) : BL 14 a b = b := rfl
theorem AL_15 (a b : Int) : AL 15 a b = b := rfl
theorem BL_15 (a b : Int) : BL 15 a b = a := rfl
theorem AL_16 (a b : Int) : AL 16 a b = subL 0 a := rfl
theorem BL_16 (a b : Int) : BL 16 a b = b := rfl
theorem AL_17 (a b : Int) : AL 17 a b = mulL a b := rfl
theorem BL_17 (a b : Int) : BL 17 a b = b := rfl
/-! x's acts -/
theorem vX11_add (a0 : Int) (a2 : Int) : OK (gX11_add a0 a2) (fun r => r = addL a0 a2) := by
  unfold gX11_add
  refine OK_some ?_
  try dsimp only [Sum.elim_inl, Sum.elim_inr, jt2, jt3, jt4, jt5, jt6, jt7, jt8]
  rfl -- o1 e1
theorem vX11_sub (a0 : Int) (a2 : Int) : OK (gX11_sub a0 a2) (fun r => r = subL a0 a2) := by
  unfold gX11_sub
  refine OK_some ?_
  try dsimp only [Sum.elim_inl, Sum.elim_inr, jt2, jt3, jt4, jt5, jt6, jt7, jt8]
  rfl -- o1 e1
theorem vX11_mul_l9 (i2 : Int) (a40 : Int) (a60 : Int) (a80 : Int) {x : Int} (h1 : a40 = 0 ∧ a60 = x ∧ a80 = 0) : OK (gX11_mul_l9 i2 a40 a60 a80) (fun r => r = mulL x i2) := by
  unfold gX11_mul_l9
  refine OK_jit (I := (fun (s : Int × Int × Int) => jt3 s fun a4 a6 a8 => (0 ≤ a8 ∧ a8 ≤ 4) ∧ (a4 = (mulM x i2 a8.toNat).1 ∧ a6 = (mulM x i2 a8.toNat).2))) (m := (fun (s : Int × Int × Int) => jt3 s fun a4 a6 a8 => (4 - a8).toNat)) ?_ ?_
  · intro s hs
    obtain ⟨a4, a6, a8⟩ := s
    dsimp only [Sum.elim_inl, Sum.elim_inr, jt2, jt3, jt4, jt5, jt6, jt7, jt8] at hs
    obtain ⟨q0, q1⟩ := hs
    unfold gX11_mul_b9
    refine OK_jt3 ?_
    refine OK_if (fun c1 => ?_) (fun c1 => ?_)
    · skip
      try simp (disch := omega) only [jst_eq, jst_ne, jst_ni, jI_i, jcmp_lt, jcmp_gt, w32_id, jcpy_out, Sum.elim_inl, Sum.elim_inr, jt2, jt3, jt4, jt5, jt6, jt7, jt8] at c1
      refine OK_ir ?_
      (have e : a8.toNat = 4 := (by omega); rw [e] at q1; exact q1.1) -- o1 e1
    · skip
      try simp (disch := omega) only [jst_eq, jst_ne, jst_ni, jI_i, jcmp_lt, jcmp_gt, w32_id, jcpy_out, Sum.elim_inl, Sum.elim_inr, jt2, jt3, jt4, jt5, jt6, jt7, jt8] at c1
      refine OK_jb (vX11_add _ _) (fun v5 r1 => ?_)
      try dsimp only [Sum.elim_inl, Sum.elim_inr, jt2, jt3, jt4, jt5, jt6, jt7, jt8] at r1
      have v1 := r1
      clear r1
      try simp (disch := omega) only [jst_eq, jst_ne, jst_ni, jI_i, jcmp_lt, jcmp_gt, w32_id, jcpy_out, Sum.elim_inl, Sum.elim_inr, jt2, jt3, jt4, jt5, jt6, jt7, jt8] at v1
      refine OK_jb (vX11_add _ _) (fun v7 r2 => ?_)
      try dsimp only [Sum.elim_inl, Sum.elim_inr, jt2, jt3, jt4, jt5, jt6, jt7, jt8] at r2
      have v2 := r2
      clear r2
      try simp (disch := omega) only [jst_eq, jst_ne, jst_ni, jI_i, jcmp_lt, jcmp_gt, w32_id, jcpy_out, Sum.elim_inl, Sum.elim_inr, jt2, jt3, jt4, jt5, jt6, jt7, jt8] at v2
      refine OK_jlx (fun x8 ex8 => ?_)
      try simp (disch := omega) only [jst_eq, jst_ne, jst_ni, jI_i, jcmp_lt, jcmp_gt, w32_id, jcpy_out, Sum.elim_inl, Sum.elim_inr, jt2, jt3, jt4, jt5, jt6, jt7, jt8] at ex8
      refine OK_il ?_ ?_
      · try dsimp only [Sum.elim_inl, Sum.elim_inr, jt2, jt3, jt4, jt5, jt6, jt7, jt8]
        refine ⟨?_, ?_⟩
        · (first | assumption | omega | ((try dsimp only [jt2, jt3, jt4]); first | omega | (simp (disch := omega) only [jst_eq, jst_ne, jst_ni, jst_o, jI_i, jcpy_out, w32_id, jdiv_nn, jshr_k, jand_255] <;> first | done | omega | assumption)) | (intros; simp (disch := omega) only [jst_eq, jst_ne, jst_ni, jst_o, jI_i, jcpy_out, w32_id, jdiv_nn, *] <;> first | done | omega) | (intros; simp (disch := omega) only [jst_eq, jst_ne, jst_ni, jst_o, jI_i, jcpy_out, w32_id, jdiv_nn] at * <;> first | done | omega | assumption) | (intros; first | rfl | (exfalso; omega) | ((repeat' apply And.intro) <;> first | assumption | rfl | omega | trivial))) -- o2 e2i.1
        · (have e : x8.toNat = a8.toNat + 1 := (by omega); have e8 : ((a8.toNat : Nat) : Int) = a8 := (by omega); rw [e]; refine ⟨?_, ?_⟩; { show v5 = mulS x i2 a8.toNat (mulM x i2 a8.toNat).1 (mulM x i2 a8.toNat).2; unfold mulS; rw [e8, ← q1.1, ← q1.2]; assumption }; { show v7 = addL (mulM x i2 a8.toNat).2 (mulM x i2 a8.toNat).2; rw [← q1.2]; assumption }) -- o3 e2i.2
      · (first | assumption | omega | ((try dsimp only [jt2, jt3, jt4]); first | omega | (simp (disch := omega) only [jst_eq, jst_ne, jst_ni, jst_o, jI_i, jcpy_out, w32_id, jdiv_nn, jshr_k, jand_255] <;> first | done | omega | assumption)) | (intros; simp (disch := omega) only [jst_eq, jst_ne, jst_ni, jst_o, jI_i, jcpy_out, w32_id, jdiv_nn, *] <;> first | done | omega) | (intros; simp (disch := omega) only [jst_eq, jst_ne, jst_ni, jst_o, jI_i, jcpy_out, w32_id, jdiv_nn] at * <;> first | done | omega | assumption) | (intros; first | rfl | (exfalso; omega) | ((repeat' apply And.intro) <;> first | assumption | rfl | omega | trivial))) -- o4 e2m
  · try dsimp only [Sum.elim_inl, Sum.elim_inr, jt2, jt3, jt4, jt5, jt6, jt7, jt8]
    refine ⟨?_, ?_⟩
    · (first | assumption | omega | ((try dsimp only [jt2, jt3, jt4]); first | omega | (simp (disch := omega) only [jst_eq, jst_ne, jst_ni, jst_o, jI_i, jcpy_out, w32_id, jdiv_nn, jshr_k, jand_255] <;> first | done | omega | assumption)) | (intros; simp (disch := omega) only [jst_eq, jst_ne, jst_ni, jst_o, jI_i, jcpy_out, w32_id, jdiv_nn, *] <;> first | done | omega) | (intros; simp (disch := omega) only [jst_eq, jst_ne, jst_ni, jst_o, jI_i, jcpy_out, w32_id, jdiv_nn] at * <;> first | done | omega | assumption) | (intros; first | rfl | (exfalso; omega) | ((repeat' apply And.intro) <;> first | assumption | rfl | omega | trivial))) -- o5 init.1
    · (rw [h1.2.2]; exact ⟨h1.1, h1.2.1⟩) -- o6 init.2
theorem vX11_mul (a0 : Int) (a2 : Int) : OK (gX11_mul a0 a2) (fun r => r = mulL a0 a2) := by
  unfold gX11_mul
  refine OK_jb (vX11_mul_l9 (x := a0) _ _ _ _ (by exact ⟨rfl, rfl, rfl⟩)) (fun o1 r1 => ?_)
  try dsimp only [Sum.elim_inl, Sum.elim_inr, jt2, jt3, jt4, jt5, jt6, jt7, jt8] at r1
  have v1 := r1
  clear r1
  try simp (disch := omega) only [jst_eq, jst_ne, jst_ni, jI_i, jcmp_lt, jcmp_gt, w32_id, jcpy_out, Sum.elim_inl, Sum.elim_inr, jt2, jt3, jt4, jt5, jt6, jt7, jt8] at v1
  refine OK_some ?_
  try dsimp only [Sum.elim_inl, Sum.elim_inr, jt2, jt3, jt4, jt5, jt6, jt7, jt8]
  (first | assumption | omega | ((try dsimp only [jt2, jt3, jt4]); first | omega | (simp (disch := omega) only [jst_eq, jst_ne, jst_ni, jst_o, jI_i, jcpy_out, w32_id, jdiv_nn, jshr_k, jand_255] <;> first | done | omega | assumption)) | (intros; simp (disch := omega) only [jst_eq, jst_ne, jst_ni, jst_o, jI_i, jcpy_out, w32_id, jdiv_nn, *] <;> first | done | omega) | (intros; simp (disch := omega) only [jst_eq, jst_ne, jst_ni, jst_o, jI_i, jcpy_out, w32_id, jdiv_nn] at * <;> first | done | omega | assumption) | (intros; first | rfl | (exfalso; omega) | ((repeat' apply And.intro) <;> first | assumption | rfl | omega | trivial))) -- o2 e1
theorem vX11_act (a1 : Int) {h : AH} {c : Nat} (hc : a1 = c ∧ c < 18) : OK (gX11_act a1 h) (fun h' => (h' 431 3 = AL c (h 431 3) (h 431 4)) ∧ (h' 431 4 = BL c (h 431 3) (h 431 4)) ∧ (∀ a s, ¬ (a = 431 ∧ (s = 3 ∨ s = 4)) → h' a s = h a s)) := by
  unfold gX11_act
  refine OK_jlx (fun x1 ex1 => ?_)
  try simp (disch := omega) only [jst_eq, jst_ne, jst_ni, jI_i, jcmp_lt, jcmp_gt, w32_id, jcpy_out, Sum.elim_inl, Sum.elim_inr, jt2, jt3, jt4, jt5, jt6, jt7, jt8] at ex1
  refine OK_if (fun c1 => ?_) (fun c1 => ?_)
  · skip
    try simp (disch := omega) only [jst_eq, jst_ne, jst_ni, jI_i, jcmp_lt, jcmp_gt, w32_id, jcpy_out, Sum.elim_inl, Sum.elim_inr, jt2, jt3, jt4, jt5, jt6, jt7, jt8] at c1
    refine OK_jb (vX11_mul _ _) (fun v4 r1 => ?_)
    try dsimp only [Sum.elim_inl, Sum.elim_inr, jt2, jt3, jt4, jt5, jt6, jt7, jt8] at r1
    have v1 := r1
    clear r1
    try simp (disch := omega) only [jst_eq, jst_ne, jst_ni, jI_i, jcmp_lt, jcmp_gt, w32_id, jcpy_out, Sum.elim_inl, Sum.elim_inr, jt2, jt3, jt4, jt5, jt6, jt7, jt8] at v1
    refine OK_jl ?_
    refine OK_some ?_
    try dsimp only [Sum.elim_inl, Sum.elim_inr, jt2, jt3, jt4, jt5, jt6, jt7, jt8]
    try dsimp only [Sum.elim_inl, Sum.elim_inr, jt2, jt3, jt4, jt5, jt6, jt7, jt8]
    refine ⟨?_, ?_, ?_⟩
    · (have hk : c = 17 := (by omega); subst hk; rw [jst_eq, AL_17]; assumption) -- o1 e1.1
    · (have hk : c = 17 := (by omega); subst hk; rw [jst_ni (by decide), BL_17]) -- o2 e1.2
    · (intro a s hn; rw [jst_o (by omega)]) -- o3 e1.3
  · skip
    try simp (disch := omega) only [jst_eq, jst_ne, jst_ni, jI_i, jcmp_lt, jcmp_gt, w32_id, jcpy_out, Sum.elim_inl, Sum.elim_inr, jt2, jt3, jt4, jt5, jt6, jt7, jt8] at c1
    refine OK_if (fun c2 => ?_) (fun c2 => ?_)
    · skip
      try simp (disch := omega) only [jst_eq, jst_ne, jst_ni, jI_i, jcmp_lt, jcmp_gt, w32_id, jcpy_out, Sum.elim_inl, Sum.elim_inr, jt2, jt3, jt4, jt5, jt6, jt7, jt8] at c2
      refine OK_jb (vX11_add _ _) (fun v8 r2 => ?_)
      try dsimp only [Sum.elim_inl, Sum.elim_inr, jt2, jt3, jt4, jt5, jt6, jt7, jt8] at r2
      have v2 := r2
      clear r2
      try simp (disch := omega) only [jst_eq, jst_ne, jst_ni, jI_i, jcmp_lt, jcmp_gt, w32_id, jcpy_out, Sum.elim_inl, Sum.elim_inr, jt2, jt3, jt4, jt5, jt6, jt7, jt8] at v2
      refine OK_jl ?_
      refine OK_some ?_
      try dsimp only [Sum.elim_inl, Sum.elim_inr, jt2, jt3, jt4, jt5, jt6, jt7, jt8]
      try dsimp only [Sum.elim_inl, Sum.elim_inr, jt2, jt3, jt4, jt5, jt6, jt7, jt8]
      refine ⟨?_, ?_, ?_⟩
      · (have hk : c = 0 := (by omega); subst hk; rw [jst_eq, AL_0]; assumption) -- o4 e2.1
      · (have hk : c = 0 := (by omega); subst hk; rw [jst_ni (by decide), BL_0]) -- o5 e2.2
      · (intro a s hn; rw [jst_o (by omega)]) -- o6 e2.3
    · skip
      try simp (disch := omega) only [jst_eq, jst_ne, jst_ni, jI_i, jcmp_lt, jcmp_gt, w32_id, jcpy_out, Sum.elim_inl, Sum.elim_inr, jt2, jt3, jt4, jt5, jt6, jt7, jt8] at c2
      refine OK_if (fun c3 => ?_) (fun c3 => ?_)
      · skip
        try simp (disch := omega) only [jst_eq, jst_ne, jst_ni, jI_i, jcmp_lt, jcmp_gt, w32_id, jcpy_out, Sum.elim_inl, Sum.elim_inr, jt2, jt3, jt4, jt5, jt6, jt7, jt8] at c3
        refine OK_jb (vX11_add _ _) (fun v12 r3 => ?_)
        try dsimp only [Sum.elim_inl, Sum.elim_inr, jt2, jt3, jt4, jt5, jt6, jt7, jt8] at r3
        have v3 := r3
        clear r3
        try simp (disch := omega) only [jst_eq, jst_ne, jst_ni, jI_i, jcmp_lt, jcmp_gt, w32_id, jcpy_out, Sum.elim_inl, Sum.elim_inr, jt2, jt3, jt4, jt5, jt6, jt7, jt8] at v3
        refine OK_jl ?_
        refine OK_some ?_
        try dsimp only [Sum.elim_inl, Sum.elim_inr, jt2, jt3, jt4, jt5, jt6, jt7, jt8]
        try dsimp only [Sum.elim_inl, Sum.elim_inr, jt2, jt3, jt4, jt5, jt6, jt7, jt8]
        refine ⟨?_, ?_, ?_⟩
        · (have hk : c = 1 := (by omega); subst hk; rw [jst_ni (by decide), AL_1]) -- o7 e3.1
        · (have hk : c = 1 := (by omega); subst hk; rw [jst_eq, BL_1]; assumption) -- o8 e3.2
        · (intro a s hn; rw [jst_o (by omega)]) -- o9 e3.3
      · skip
        try simp (disch := omega) only [jst_eq, jst_ne, jst_ni, jI_i, jcmp_lt, jcmp_gt, w32_id, jcpy_out, Sum.elim_inl, Sum.elim_inr, jt2, jt3, jt4, jt5, jt6, jt7, jt8] at c3
        refine OK_if (fun c4 => ?_) (fun c4 => ?_)
        · skip
          try simp (disch := omega) only [jst_eq, jst_ne, jst_ni, jI_i, jcmp_lt, jcmp_gt, w32_id, jcpy_out, Sum.elim_inl, Sum.elim_inr, jt2, jt3, jt4, jt5, jt6, jt7, jt8] at c4
          refine OK_jb (vX11_sub _ _) (fun v16 r4 => ?_)
          try dsimp only [Sum.elim_inl, Sum.elim_inr, jt2, jt3, jt4, jt5, jt6, jt7, jt8] at r4
          have v4 := r4
          clear r4
          try simp (disch := omega) only [jst_eq, jst_ne, jst_ni, jI_i, jcmp_lt, jcmp_gt, w32_id, jcpy_out, Sum.elim_inl, Sum.elim_inr, jt2, jt3, jt4, jt5, jt6, jt7, jt8] at v4
          refine OK_jl ?_
          refine OK_some ?_
          try dsimp only [Sum.elim_inl, Sum.elim_inr, jt2, jt3, jt4, jt5, jt6, jt7, jt8]
          try dsimp only [Sum.elim_inl, Sum.elim_inr, jt2, jt3, jt4, jt5, jt6, jt7, jt8]
          refine ⟨?_, ?_, ?_⟩
          · (have hk : c = 2 := (by omega); subst hk; rw [jst_eq, AL_2]; assumption) -- o10 e4.1
          · (have hk : c = 2 := (by omega); subst hk; rw [jst_ni (by decide), BL_2]) -- o11 e4.2
          · (intro a s hn; rw [jst_o (by omega)]) -- o12 e4.3
        · skip
          try simp (disch := omega) only [jst_eq, jst_ne, jst_ni, jI_i, jcmp_lt, jcmp_gt, w32_id, jcpy_out, Sum.elim_inl, Sum.elim_inr, jt2, jt3, jt4, jt5, jt6, jt7, jt8] at c4
          refine OK_if (fun c5 => ?_) (fun c5 => ?_)
          · skip
            try simp (disch := omega) only [jst_eq, jst_ne, jst_ni, jI_i, jcmp_lt, jcmp_gt, w32_id, jcpy_out, Sum.elim_inl, Sum.elim_inr, jt2, jt3, jt4, jt5, jt6, jt7, jt8] at c5
            refine OK_jb (vX11_sub _ _) (fun v20 r5 => ?_)
            try dsimp only [Sum.elim_inl, Sum.elim_inr, jt2, jt3, jt4, jt5, jt6, jt7, jt8] at r5
            have v5 := r5
            clear r5
            try simp (disch := omega) only [jst_eq, jst_ne, jst_ni, jI_i, jcmp_lt, jcmp_gt, w32_id, jcpy_out, Sum.elim_inl, Sum.elim_inr, jt2, jt3, jt4, jt5, jt6, jt7, jt8] at v5
            refine OK_jl ?_
            refine OK_some ?_
            try dsimp only [Sum.elim_inl, Sum.elim_inr, jt2, jt3, jt4, jt5, jt6, jt7, jt8]
            try dsimp only [Sum.elim_inl, Sum.elim_inr, jt2, jt3, jt4, jt5, jt6, jt7, jt8]
            refine ⟨?_, ?_, ?_⟩
            · (have hk : c = 3 := (by omega); subst hk; rw [jst_ni (by decide), AL_3]) -- o13 e5.1
            · (have hk : c = 3 := (by omega); subst hk; rw [jst_eq, BL_3]; assumption) -- o14 e5.2
            · (intro a s hn; rw [jst_o (by omega)]) -- o15 e5.3
          · skip
            try simp (disch := omega) only [jst_eq, jst_ne, jst_ni, jI_i, jcmp_lt, jcmp_gt, w32_id, jcpy_out, Sum.elim_inl, Sum.elim_inr, jt2, jt3, jt4, jt5, jt6, jt7, jt8] at c5
            refine OK_if (fun c6 => ?_) (fun c6 => ?_)
            · skip
              try simp (disch := omega) only [jst_eq, jst_ne, jst_ni, jI_i, jcmp_lt, jcmp_gt, w32_id, jcpy_out, Sum.elim_inl, Sum.elim_inr, jt2, jt3, jt4, jt5, jt6, jt7, jt8] at c6
              refine OK_jl ?_
              refine OK_some ?_
              try dsimp only [Sum.elim_inl, Sum.elim_inr, jt2, jt3, jt4, jt5, jt6, jt7, jt8]
              try dsimp only [Sum.elim_inl, Sum.elim_inr, jt2, jt3, jt4, jt5, jt6, jt7, jt8]
              refine ⟨?_, ?_, ?_⟩
              · (have hk : c = 4 := (by omega); subst hk; rw [jst_eq, AL_4]) -- o16 e6.1
              · (have hk : c = 4 := (by omega); subst hk; rw [jst_ni (by decide), BL_4]) -- o17 e6.2
              · (intro a s hn; rw [jst_o (by omega)]) -- o18 e6.3
            · skip
              try simp (disch := omega) only [jst_eq, jst_ne, jst_ni, jI_i, jcmp_lt, jcmp_gt, w32_id, jcpy_out, Sum.elim_inl, Sum.elim_inr, jt2, jt3, jt4, jt5, jt6, jt7, jt8] at c6
              refine OK_if (fun c7 => ?_) (fun c7 => ?_)
              · skip
                try simp (disch := omega) only [jst_eq, jst_ne, jst_ni, jI_i, jcmp_lt, jcmp_gt, w32_id, jcpy_out, Sum.elim_inl, Sum.elim_inr, jt2, jt3, jt4, jt5, jt6, jt7, jt8] at c7
                refine OK_jl ?_
                refine OK_some ?_
                try dsimp only [Sum.elim_inl, Sum.elim_inr, jt2, jt3, jt4, jt5, jt6, jt7, jt8]
                try dsimp only [Sum.elim_inl, Sum.elim_inr, jt2, jt3, jt4, jt5, jt6, jt7, jt8]
                refine ⟨?_, ?_, ?_⟩
                · (have hk : c = 5 := (by omega); subst hk; rw [jst_ni (by decide), AL_5]) -- o19 e7.1
                · (have hk : c = 5 := (by omega); subst hk; rw [jst_eq, BL_5]) -- o20 e7.2
                · (intro a s hn; rw [jst_o (by omega)]) -- o21 e7.3
              · skip
                try simp (disch := omega) only [jst_eq, jst_ne, jst_ni, jI_i, jcmp_lt, jcmp_gt, w32_id, jcpy_out, Sum.elim_inl, Sum.elim_inr, jt2, jt3, jt4, jt5, jt6, jt7, jt8] at c7
                refine OK_if (fun c8 => ?_) (fun c8 => ?_)
                · skip
                  try simp (disch := omega) only [jst_eq, jst_ne, jst_ni, jI_i, jcmp_lt, jcmp_gt, w32_id, jcpy_out, Sum.elim_inl, Sum.elim_inr, jt2, jt3, jt4, jt5, jt6, jt7, jt8] at c8
                  refine OK_jl ?_
                  refine OK_some ?_
                  try dsimp only [Sum.elim_inl, Sum.elim_inr, jt2, jt3, jt4, jt5, jt6, jt7, jt8]
                  try dsimp only [Sum.elim_inl, Sum.elim_inr, jt2, jt3, jt4, jt5, jt6, jt7, jt8]
                  refine ⟨?_, ?_, ?_⟩
                  · (have hk : c = 6 := (by omega); subst hk; rw [jst_eq, AL_6]) -- o22 e8.1
                  · (have hk : c = 6 := (by omega); subst hk; rw [jst_ni (by decide), BL_6]) -- o23 e8.2
                  · (intro a s hn; rw [jst_o (by omega)]) -- o24 e8.3
                · skip
                  try simp (disch := omega) only [jst_eq, jst_ne, jst_ni, jI_i, jcmp_lt, jcmp_gt, w32_id, jcpy_out, Sum.elim_inl, Sum.elim_inr, jt2, jt3, jt4, jt5, jt6, jt7, jt8] at c8
                  refine OK_if (fun c9 => ?_) (fun c9 => ?_)
                  · skip
                    try simp (disch := omega) only [jst_eq, jst_ne, jst_ni, jI_i, jcmp_lt, jcmp_gt, w32_id, jcpy_out, Sum.elim_inl, Sum.elim_inr, jt2, jt3, jt4, jt5, jt6, jt7, jt8] at c9
                    refine OK_jl ?_
                    refine OK_some ?_
                    try dsimp only [Sum.elim_inl, Sum.elim_inr, jt2, jt3, jt4, jt5, jt6, jt7, jt8]
                    try dsimp only [Sum.elim_inl, Sum.elim_inr, jt2, jt3, jt4, jt5, jt6, jt7, jt8]
                    refine ⟨?_, ?_, ?_⟩
                    · (have hk : c = 7 := (by omega); subst hk; rw [jst_ni (by decide), AL_7]) -- o25 e9.1
                    · (have hk : c = 7 := (by omega); subst hk; rw [jst_eq, BL_7]) -- o26 e9.2
                    · (intro a s hn; rw [jst_o (by omega)]) -- o27 e9.3
                  · skip
                    try simp (disch := omega) only [jst_eq, jst_ne, jst_ni, jI_i, jcmp_lt, jcmp_gt, w32_id, jcpy_out, Sum.elim_inl, Sum.elim_inr, jt2, jt3, jt4, jt5, jt6, jt7, jt8] at c9
                    refine OK_if (fun c10 => ?_) (fun c10 => ?_)
                    · skip
                      try simp (disch := omega) only [jst_eq, jst_ne, jst_ni, jI_i, jcmp_lt, jcmp_gt, w32_id, jcpy_out, Sum.elim_inl, Sum.elim_inr, jt2, jt3, jt4, jt5, jt6, jt7, jt8] at c10
                      refine OK_jl ?_
                      refine OK_some ?_
                      try dsimp only [Sum.elim_inl, Sum.elim_inr, jt2, jt3, jt4, jt5, jt6, jt7, jt8]
                      try dsimp only [Sum.elim_inl, Sum.elim_inr, jt2, jt3, jt4, jt5, jt6, jt7, jt8]
                      refine ⟨?_, ?_, ?_⟩
                      · (have hk : c = 8 := (by omega); subst hk; rw [jst_eq, AL_8]) -- o28 e10.1
                      · (have hk : c = 8 := (by omega); subst hk; rw [jst_ni (by decide), BL_8]) -- o29 e10.2
                      · (intro a s hn; rw [jst_o (by omega)]) -- o30 e10.3
                    · skip
                      try simp (disch := omega) only [jst_eq, jst_ne, jst_ni, jI_i, jcmp_lt, jcmp_gt, w32_id, jcpy_out, Sum.elim_inl, Sum.elim_inr, jt2, jt3, jt4, jt5, jt6, jt7, jt8] at c10
                      refine OK_if (fun c11 => ?_) (fun c11 => ?_)
                      · skip
                        try simp (disch := omega) only [jst_eq, jst_ne, jst_ni, jI_i, jcmp_lt, jcmp_gt, w32_id, jcpy_out, Sum.elim_inl, Sum.elim_inr, jt2, jt3, jt4, jt5, jt6, jt7, jt8] at c11
                        refine OK_jl ?_
                        refine OK_some ?_
                        try dsimp only [Sum.elim_inl, Sum.elim_inr, jt2, jt3, jt4, jt5, jt6, jt7, jt8]
                        try dsimp only [Sum.elim_inl, Sum.elim_inr, jt2, jt3, jt4, jt5, jt6, jt7, jt8]
                        refine ⟨?_, ?_, ?_⟩
                        · (have hk : c = 9 := (by omega); subst hk; rw [jst_ni (by decide), AL_9]) -- o31 e11.1
                        · (have hk : c = 9 := (by omega); subst hk; rw [jst_eq, BL_9]) -- o32 e11.2
                        · (intro a s hn; rw [jst_o (by omega)]) -- o33 e11.3
                      · skip
                        try simp (disch := omega) only [jst_eq, jst_ne, jst_ni, jI_i, jcmp_lt, jcmp_gt, w32_id, jcpy_out, Sum.elim_inl, Sum.elim_inr, jt2, jt3, jt4, jt5, jt6, jt7, jt8] at c11
                        refine OK_if (fun c12 => ?_) (fun c12 => ?_)
                        · skip
                          try simp (disch := omega) only [jst_eq, jst_ne, jst_ni, jI_i, jcmp_lt, jcmp_gt, w32_id, jcpy_out, Sum.elim_inl, Sum.elim_inr, jt2, jt3, jt4, jt5, jt6, jt7, jt8] at c12
                          refine OK_jl ?_
                          refine OK_some ?_
                          try dsimp only [Sum.elim_inl, Sum.elim_inr, jt2, jt3, jt4, jt5, jt6, jt7, jt8]
                          try dsimp only [Sum.elim_inl, Sum.elim_inr, jt2, jt3, jt4, jt5, jt6, jt7, jt8]
                          refine ⟨?_, ?_, ?_⟩
                          · (have hk : c = 10 := (by omega); subst hk; rw [jst_eq, AL_10]) -- o34 e12.1
                          · (have hk : c = 10 := (by omega); subst hk; rw [jst_ni (by decide), BL_10]) -- o35 e12.2
                          · (intro a s hn; rw [jst_o (by omega)]) -- o36 e12.3
                        · skip
                          try simp (disch := omega) only [jst_eq, jst_ne, jst_ni, jI_i, jcmp_lt, jcmp_gt, w32_id, jcpy_out, Sum.elim_inl, Sum.elim_inr, jt2, jt3, jt4, jt5, jt6, jt7, jt8] at c12
                          refine OK_if (fun c13 => ?_) (fun c13 => ?_)
                          · skip
                            try simp (disch := omega) only [jst_eq, jst_ne, jst_ni, jI_i, jcmp_lt, jcmp_gt, w32_id, jcpy_out, Sum.elim_inl, Sum.elim_inr, jt2, jt3, jt4, jt5, jt6, jt7, jt8] at c13
                            refine OK_jb (vX11_add _ _) (fun v38 r6 => ?_)
                            try dsimp only [Sum.elim_inl, Sum.elim_inr, jt2, jt3, jt4, jt5, jt6, jt7, jt8] at r6
                            have v6 := r6
                            clear r6
                            try simp (disch := omega) only [jst_eq, jst_ne, jst_ni, jI_i, jcmp_lt, jcmp_gt, w32_id, jcpy_out, Sum.elim_inl, Sum.elim_inr, jt2, jt3, jt4, jt5, jt6, jt7, jt8] at v6
                            refine OK_jl ?_
                            refine OK_some ?_
                            try dsimp only [Sum.elim_inl, Sum.elim_inr, jt2, jt3, jt4, jt5, jt6, jt7, jt8]
                            try dsimp only [Sum.elim_inl, Sum.elim_inr, jt2, jt3, jt4, jt5, jt6, jt7, jt8]
                            refine ⟨?_, ?_, ?_⟩
                            · (have hk : c = 11 := (by omega); subst hk; rw [jst_eq, AL_11]; assumption) -- o37 e13.1
                            · (have hk : c = 11 := (by omega); subst hk; rw [jst_ni (by decide), BL_11]) -- o38 e13.2
                            · (intro a s hn; rw [jst_o (by omega)]) -- o39 e13.3
                          · skip
                            try simp (disch := omega) only [jst_eq, jst_ne, jst_ni, jI_i, jcmp_lt, jcmp_gt, w32_id, jcpy_out, Sum.elim_inl, Sum.elim_inr, jt2, jt3, jt4, jt5, jt6, jt7, jt8] at c13
                            refine OK_if (fun c14 => ?_) (fun c14 => ?_)
                            · skip
                              try simp (disch := omega) only [jst_eq, jst_ne, jst_ni, jI_i, jcmp_lt, jcmp_gt, w32_id, jcpy_out, Sum.elim_inl, Sum.elim_inr, jt2, jt3, jt4, jt5, jt6, jt7, jt8] at c14
                              refine OK_jb (vX11_add _ _) (fun v42 r7 => ?_)
                              try dsimp only [Sum.elim_inl, Sum.elim_inr, jt2, jt3, jt4, jt5, jt6, jt7, jt8] at r7
                              have v7 := r7
                              clear r7
                              try simp (disch := omega) only [jst_eq, jst_ne, jst_ni, jI_i, jcmp_lt, jcmp_gt, w32_id, jcpy_out, Sum.elim_inl, Sum.elim_inr, jt2, jt3, jt4, jt5, jt6, jt7, jt8] at v7
                              refine OK_jl ?_
                              refine OK_some ?_
                              try dsimp only [Sum.elim_inl, Sum.elim_inr, jt2, jt3, jt4, jt5, jt6, jt7, jt8]
                              try dsimp only [Sum.elim_inl, Sum.elim_inr, jt2, jt3, jt4, jt5, jt6, jt7, jt8]
                              refine ⟨?_, ?_, ?_⟩
                              · (have hk : c = 12 := (by omega); subst hk; rw [jst_ni (by decide), AL_12]) -- o40 e14.1
                              · (have hk : c = 12 := (by omega); subst hk; rw [jst_eq, BL_12]; assumption) -- o41 e14.2
                              · (intro a s hn; rw [jst_o (by omega)]) -- o42 e14.3
                            · skip
                              try simp (disch := omega) only [jst_eq, jst_ne, jst_ni, jI_i, jcmp_lt, jcmp_gt, w32_id, jcpy_out, Sum.elim_inl, Sum.elim_inr, jt2, jt3, jt4, jt5, jt6, jt7, jt8] at c14
                              refine OK_if (fun c15 => ?_) (fun c15 => ?_)
                              · skip
                                try simp (disch := omega) only [jst_eq, jst_ne, jst_ni, jI_i, jcmp_lt, jcmp_gt, w32_id, jcpy_out, Sum.elim_inl, Sum.elim_inr, jt2, jt3, jt4, jt5, jt6, jt7, jt8] at c15
                                refine OK_jb (vX11_add _ _) (fun v46 r8 => ?_)
                                try dsimp only [Sum.elim_inl, Sum.elim_inr, jt2, jt3, jt4, jt5, jt6, jt7, jt8] at r8
                                have v8 := r8
                                clear r8
                                try simp (disch := omega) only [jst_eq, jst_ne, jst_ni, jI_i, jcmp_lt, jcmp_gt, w32_id, jcpy_out, Sum.elim_inl, Sum.elim_inr, jt2, jt3, jt4, jt5, jt6, jt7, jt8] at v8
                                refine OK_jl ?_
                                refine OK_some ?_
                                try dsimp only [Sum.elim_inl, Sum.elim_inr, jt2, jt3, jt4, jt5, jt6, jt7, jt8]
                                try dsimp only [Sum.elim_inl, Sum.elim_inr, jt2, jt3, jt4, jt5, jt6, jt7, jt8]
                                refine ⟨?_, ?_, ?_⟩
                                · (have hk : c = 13 := (by omega); subst hk; rw [jst_eq, AL_13]; assumption) -- o43 e15.1
                                · (have hk : c = 13 := (by omega); subst hk; rw [jst_ni (by decide), BL_13]) -- o44 e15.2
                                · (intro a s hn; rw [jst_o (by omega)]) -- o45 e15.3
                              · skip
                                try simp (disch := omega) only [jst_eq, jst_ne, jst_ni, jI_i, jcmp_lt, jcmp_gt, w32_id, jcpy_out, Sum.elim_inl, Sum.elim_inr, jt2, jt3, jt4, jt5, jt6, jt7, jt8] at c15
                                refine OK_if (fun c16 => ?_) (fun c16 => ?_)
                                · skip
                                  try simp (disch := omega) only [jst_eq, jst_ne, jst_ni, jI_i, jcmp_lt, jcmp_gt, w32_id, jcpy_out, Sum.elim_inl, Sum.elim_inr, jt2, jt3, jt4, jt5, jt6, jt7, jt8] at c16
                                  refine OK_jl ?_
                                  refine OK_some ?_
                                  try dsimp only [Sum.elim_inl, Sum.elim_inr, jt2, jt3, jt4, jt5, jt6, jt7, jt8]
                                  try dsimp only [Sum.elim_inl, Sum.elim_inr, jt2, jt3, jt4, jt5, jt6, jt7, jt8]
                                  refine ⟨?_, ?_, ?_⟩
                                  · (have hk : c = 14 := (by omega); subst hk; rw [jst_eq, AL_14]) -- o46 e16.1
                                  · (have hk : c = 14 := (by omega); subst hk; rw [jst_ni (by decide), BL_14]) -- o47 e16.2
                                  · (intro a s hn; rw [jst_o (by omega)]) -- o48 e16.3
                                · skip
                                  try simp (disch := omega) only [jst_eq, jst_ne, jst_ni, jI_i, jcmp_lt, jcmp_gt, w32_id, jcpy_out, Sum.elim_inl, Sum.elim_inr, jt2, jt3, jt4, jt5, jt6, jt7, jt8] at c16
                                  refine OK_if (fun c17 => ?_) (fun c17 => ?_)
                                  · skip
                                    try simp (disch := omega) only [jst_eq, jst_ne, jst_ni, jI_i, jcmp_lt, jcmp_gt, w32_id, jcpy_out, Sum.elim_inl, Sum.elim_inr, jt2, jt3, jt4, jt5, jt6, jt7, jt8] at c17
                                    refine OK_jl ?_
                                    refine OK_jl ?_
                                    refine OK_some ?_
                                    try dsimp only [Sum.elim_inl, Sum.elim_inr, jt2, jt3, jt4, jt5, jt6, jt7, jt8]
                                    try dsimp only [Sum.elim_inl, Sum.elim_inr, jt2, jt3, jt4, jt5, jt6, jt7, jt8]
                                    refine ⟨?_, ?_, ?_⟩
                                    · (have hk : c = 15 := (by omega); subst hk; rw [jst_ni (by decide), jst_eq, AL_15]) -- o49 e17.1
                                    · (have hk : c = 15 := (by omega); subst hk; rw [jst_eq, BL_15]; exact ex1) -- o50 e17.2
                                    · (intro a s hn; rw [jst_o (by omega), jst_o (by omega)]) -- o51 e17.3
                                  · skip
                                    try simp (disch := omega) only [jst_eq, jst_ne, jst_ni, jI_i, jcmp_lt, jcmp_gt, w32_id, jcpy_out, Sum.elim_inl, Sum.elim_inr, jt2, jt3, jt4, jt5, jt6, jt7, jt8] at c17
                                    refine OK_jb (vX11_sub _ _) (fun v55 r9 => ?_)
                                    try dsimp only [Sum.elim_inl, Sum.elim_inr, jt2, jt3, jt4, jt5, jt6, jt7, jt8] at r9
                                    have v9 := r9
                                    clear r9
                                    try simp (disch := omega) only [jst_eq, jst_ne, jst_ni, jI_i, jcmp_lt, jcmp_gt, w32_id, jcpy_out, Sum.elim_inl, Sum.elim_inr, jt2, jt3, jt4, jt5, jt6, jt7, jt8] at v9
                                    refine OK_jl ?_
                                    refine OK_some ?_
                                    try dsimp only [Sum.elim_inl, Sum.elim_inr, jt2, jt3, jt4, jt5, jt6, jt7, jt8]
                                    try dsimp only [Sum.elim_inl, Sum.elim_inr, jt2, jt3, jt4, jt5, jt6, jt7, jt8]
                                    refine ⟨?_, ?_, ?_⟩
                                    · (have hk : c = 16 := (by omega); subst hk; rw [jst_eq, AL_16]; assumption) -- o52 e18.1
                                    · (have hk : c = 16 := (by omega); subst hk; rw [jst_ni (by decide), BL_16]) -- o53 e18.2
                                    · (intro a s hn; rw [jst_o (by omega)]) -- o54 e18.3

