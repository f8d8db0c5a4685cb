/-! texts: numbers, words -/
theorem jdivL_nn {x y : Int} (h0 : 0 ≤ x) (h1 : x < 9223372036854775808) (h2 : 0 < y) (h3 : y < 9223372036854775808) : jdivL x y = x / y := by
  unfold jdivL
  rw [Int64.toInt_div, i64_toInt, i64_toInt, w64_id (by omega) h1, w64_id (by omega) h3, Int.tdiv_eq_ediv_of_nonneg h0]
  have a : 0 ≤ x / y := Int.ediv_nonneg h0 (by omega)
  have b : x / y ≤ x := Int.ediv_le_self _ h0
  exact bm64 (by omega) (by omega)
theorem jremL_nn {x y : Int} (h0 : 0 ≤ x) (h1 : x < 9223372036854775808) (h2 : 0 < y) (h3 : y < 9223372036854775808) : jremL x y = x % y := by
  unfold jremL
  have e : (Int64.ofInt x / Int64.ofInt y).toInt = x / y := jdivL_nn h0 h1 h2 h3
  have a : 0 ≤ x / y := Int.ediv_nonneg h0 (by omega)
  have m : 0 ≤ x % y := Int.emod_nonneg _ (by omega)
  have m2 : x % y < y := Int.emod_lt_of_pos _ h2
  have d : y * (x / y) + x % y = x := Int.mul_ediv_add_emod x y
  have c : x / y * y = x - x % y := by rw [Int.mul_comm]; omega
  rw [Int64.toInt_sub, Int64.toInt_mul, e, i64_toInt, i64_toInt, w64_id (by omega) h1, w64_id (by omega) h3, c, bm64 (x := x - x % y) (by omega) (by omega), bm64 (by omega) (by omega)]
  omega
theorem apB_1 {c s A v : Int} {h h' : AH} (x : apB c s A [v] h h') : h' c s = h c s + 1 := x.1
theorem apB_k {c s A : Int} {l : List Int} {h h' : AH} (n : c ≠ A) (h0 : 0 ≤ h c s) (x : apB c s A l h h') : h' A (-1) = h A (-1) := x.2.2 _ _ (by omega) (by omega)
theorem vX6_number (a0 : Int) (a1 : Int) {h : AH} (n : 0 ≤ h a0 1 ∧ h a0 1 + 2 ≤ h (a0 + 1) (-1) ∧ h (a0 + 1) (-1) ≤ 100000) (v : 0 ≤ a1 ∧ a1 ≤ 15) : OK (gX6_number a0 a1 h) (fun h' => apB a0 1 (a0 + 1) (dig a1) h h') := by
  have d1 : jdiv a1 10 = a1 / 10 := jdiv_nn (by omega) (by omega) (by decide) (by decide)
  have d2 : jrem a1 10 = a1 % 10 := jrem_nn (by omega) (by omega) (by decide) (by decide)
  unfold gX6_number
  refine OK_if (fun c1 => ?_) (fun c1 => ?_)
  · skip
    try simp (disch := omega) only [jst_eq, jst_ne, jst_ni, jI_i, jcmp_lt, jcmp_gt, w32_id, jcpy_out, Sum.elim_inl, Sum.elim_inr, jt2, jt3, jt4, jt5, jt6, jt7, jt8] at c1
    unfold gX6_number_j17
    refine OK_jb (vX6_put _ _ (by (first | assumption | omega | ((try dsimp only [jt2, jt3, jt4]); first | omega | (simp (disch := omega) only [jst_eq, jst_ne, jst_ni, jst_o, jI_i, jcpy_out, w32_id, jdiv_nn, jshr_k, jand_255] <;> first | done | omega | assumption)) | (intros; simp (disch := omega) only [jst_eq, jst_ne, jst_ni, jst_o, jI_i, jcpy_out, w32_id, jdiv_nn, *] <;> first | done | omega) | (intros; simp (disch := omega) only [jst_eq, jst_ne, jst_ni, jst_o, jI_i, jcpy_out, w32_id, jdiv_nn] at * <;> first | done | omega | assumption) | (intros; first | rfl | (exfalso; omega) | ((repeat' apply And.intro) <;> first | assumption | rfl | omega | trivial)))) (by (first | assumption | omega | ((try dsimp only [jt2, jt3, jt4]); first | omega | (simp (disch := omega) only [jst_eq, jst_ne, jst_ni, jst_o, jI_i, jcpy_out, w32_id, jdiv_nn, jshr_k, jand_255] <;> first | done | omega | assumption)) | (intros; simp (disch := omega) only [jst_eq, jst_ne, jst_ni, jst_o, jI_i, jcpy_out, w32_id, jdiv_nn, *] <;> first | done | omega) | (intros; simp (disch := omega) only [jst_eq, jst_ne, jst_ni, jst_o, jI_i, jcpy_out, w32_id, jdiv_nn] at * <;> first | done | omega | assumption) | (intros; first | rfl | (exfalso; omega) | ((repeat' apply And.intro) <;> first | assumption | rfl | omega | trivial))))) (fun h5 r1 => ?_)
    try dsimp only [Sum.elim_inl, Sum.elim_inr, jt2, jt3, jt4, jt5, jt6, jt7, jt8] at r1
    have ab1 := r1
    clear r1
    try simp (disch := omega) only [jst_eq, jst_ne, jst_ni, jI_i, jcmp_lt, jcmp_gt, w32_id, jcpy_out, Sum.elim_inl, Sum.elim_inr, jt2, jt3, jt4, jt5, jt6, jt7, jt8] at ab1
    refine OK_some ?_
    try dsimp only [Sum.elim_inl, Sum.elim_inr, jt2, jt3, jt4, jt5, jt6, jt7, jt8]
    (unfold dig; rw [if_pos (by omega)]; rw [show 48 + jrem a1 10 = 48 + a1 by omega] at ab1; exact ab1) -- o3 e1
  · skip
    try simp (disch := omega) only [jst_eq, jst_ne, jst_ni, jI_i, jcmp_lt, jcmp_gt, w32_id, jcpy_out, Sum.elim_inl, Sum.elim_inr, jt2, jt3, jt4, jt5, jt6, jt7, jt8] at c1
    refine OK_jb (vX6_put _ _ (by (first | assumption | omega | ((try dsimp only [jt2, jt3, jt4]); first | omega | (simp (disch := omega) only [jst_eq, jst_ne, jst_ni, jst_o, jI_i, jcpy_out, w32_id, jdiv_nn, jshr_k, jand_255] <;> first | done | omega | assumption)) | (intros; simp (disch := omega) only [jst_eq, jst_ne, jst_ni, jst_o, jI_i, jcpy_out, w32_id, jdiv_nn, *] <;> first | done | omega) | (intros; simp (disch := omega) only [jst_eq, jst_ne, jst_ni, jst_o, jI_i, jcpy_out, w32_id, jdiv_nn] at * <;> first | done | omega | assumption) | (intros; first | rfl | (exfalso; omega) | ((repeat' apply And.intro) <;> first | assumption | rfl | omega | trivial)))) (by (first | assumption | omega | ((try dsimp only [jt2, jt3, jt4]); first | omega | (simp (disch := omega) only [jst_eq, jst_ne, jst_ni, jst_o, jI_i, jcpy_out, w32_id, jdiv_nn, jshr_k, jand_255] <;> first | done | omega | assumption)) | (intros; simp (disch := omega) only [jst_eq, jst_ne, jst_ni, jst_o, jI_i, jcpy_out, w32_id, jdiv_nn, *] <;> first | done | omega) | (intros; simp (disch := omega) only [jst_eq, jst_ne, jst_ni, jst_o, jI_i, jcpy_out, w32_id, jdiv_nn] at * <;> first | done | omega | assumption) | (intros; first | rfl | (exfalso; omega) | ((repeat' apply And.intro) <;> first | assumption | rfl | omega | trivial))))) (fun h3 r2 => ?_)
    try dsimp only [Sum.elim_inl, Sum.elim_inr, jt2, jt3, jt4, jt5, jt6, jt7, jt8] at r2
    have ab2 := r2
    clear r2
    try simp (disch := omega) only [jst_eq, jst_ne, jst_ni, jI_i, jcmp_lt, jcmp_gt, w32_id, jcpy_out, Sum.elim_inl, Sum.elim_inr, jt2, jt3, jt4, jt5, jt6, jt7, jt8] at ab2
    have q3 := apB_1 ab2
    have k3 := apB_k (by omega) n.1 ab2
    unfold gX6_number_j17
    refine OK_jb (vX6_put _ _ (by (first | assumption | omega | ((try dsimp only [jt2, jt3, jt4]); first | omega | (simp (disch := omega) only [jst_eq, jst_ne, jst_ni, jst_o, jI_i, jcpy_out, w32_id, jdiv_nn, jshr_k, jand_255] <;> first | done | omega | assumption)) | (intros; simp (disch := omega) only [jst_eq, jst_ne, jst_ni, jst_o, jI_i, jcpy_out, w32_id, jdiv_nn, *] <;> first | done | omega) | (intros; simp (disch := omega) only [jst_eq, jst_ne, jst_ni, jst_o, jI_i, jcpy_out, w32_id, jdiv_nn] at * <;> first | done | omega | assumption) | (intros; first | rfl | (exfalso; omega) | ((repeat' apply And.intro) <;> first | assumption | rfl | omega | trivial)))) (by (first | assumption | omega | ((try dsimp only [jt2, jt3, jt4]); first | omega | (simp (disch := omega) only [jst_eq, jst_ne, jst_ni, jst_o, jI_i, jcpy_out, w32_id, jdiv_nn, jshr_k, jand_255] <;> first | done | omega | assumption)) | (intros; simp (disch := omega) only [jst_eq, jst_ne, jst_ni, jst_o, jI_i, jcpy_out, w32_id, jdiv_nn, *] <;> first | done | omega) | (intros; simp (disch := omega) only [jst_eq, jst_ne, jst_ni, jst_o, jI_i, jcpy_out, w32_id, jdiv_nn] at * <;> first | done | omega | assumption) | (intros; first | rfl | (exfalso; omega) | ((repeat' apply And.intro) <;> first | assumption | rfl | omega | trivial))))) (fun h5 r3 => ?_)
    try dsimp only [Sum.elim_inl, Sum.elim_inr, jt2, jt3, jt4, jt5, jt6, jt7, jt8] at r3
    have ab3 := r3
    clear r3
    try simp (disch := omega) only [jst_eq, jst_ne, jst_ni, jI_i, jcmp_lt, jcmp_gt, w32_id, jcpy_out, Sum.elim_inl, Sum.elim_inr, jt2, jt3, jt4, jt5, jt6, jt7, jt8] at ab3
    refine OK_some ?_
    try dsimp only [Sum.elim_inl, Sum.elim_inr, jt2, jt3, jt4, jt5, jt6, jt7, jt8]
    (unfold dig; rw [if_neg (by omega)]; rw [show 48 + jdiv a1 10 = 49 by omega] at ab2; rw [show 48 + jrem a1 10 = 38 + a1 by omega] at ab3; exact apB_app (by omega) ab2 ab3) -- o8 e2
/-- digits from the top -/
def tdg : Nat → Int → List Int
  | 0, _ => []
  | k + 1, w => (96 + w / pow27 k % 27) :: tdg k w
theorem tdg_s : ∀ (k : Nat) (w : Int), 0 ≤ w → tdg (k + 1) w = tdg k (w / 27) ++ [96 + w % 27]
  | 0, w, _ => by
    show [96 + w / 1 % 27] = [96 + w % 27]
    rw [Int.ediv_one]
  | k + 1, w, h => by
    show (96 + w / pow27 (k + 1) % 27) :: tdg (k + 1) w = ((96 + w / 27 / pow27 k % 27) :: tdg k (w / 27)) ++ [96 + w % 27]
    rw [tdg_s k w h, Int.ediv_ediv_of_nonneg (show (0 : Int) ≤ 27 by decide), show pow27 (k + 1) = 27 * pow27 k from Int.mul_comm _ _]
    rfl
theorem lts_t : ∀ (k : Nat) (w : Int), pow27 k ≤ w → w < pow27 (k + 1) → lts (k + 1) w = tdg (k + 1) w
  | 0, w, h0, h1 => by
    have e0 : pow27 0 = 1 := rfl
    have e1 : pow27 1 = 27 := rfl
    show (if w ≤ 0 then [] else lts 0 (w / 27) ++ [96 + w % 27]) = [96 + w / 1 % 27]
    rw [if_neg (by omega), Int.ediv_one]; rfl
  | k + 1, w, h0, h1 => by
    have p := pow27_p (k + 1)
    have e1 : pow27 (k + 1) = pow27 k * 27 := rfl
    have e2 : pow27 (k + 1 + 1) = pow27 (k + 1) * 27 := rfl
    rw [tdg_s (k + 1) w (by omega)]
    show (if w ≤ 0 then [] else lts (k + 1) (w / 27) ++ [96 + w % 27]) = _
    rw [if_neg (by omega), lts_t k (w / 27) (by omega) (by omega)]
theorem pow27_9 {k : Nat} (h : k ≤ 9) : pow27 k ≤ 7625597484987 := by
  rcases (show k = 0 ∨ k = 1 ∨ k = 2 ∨ k = 3 ∨ k = 4 ∨ k = 5 ∨ k = 6 ∨ k = 7 ∨ k = 8 ∨ k = 9 by omega) with rfl | rfl | rfl | rfl | rfl | rfl | rfl | rfl | rfl | rfl <;> decide
theorem vX14_letter (a1 : Int) {h : AH} (n : 0 ≤ h 454 19 ∧ h 454 19 < 4000) : OK (gX14_letter a1 h) (fun h' => apB 454 19 471 [a1] h h') := by
  unfold gX14_letter
  refine OK_jg (by (first | assumption | omega | ((try dsimp only [jt2, jt3, jt4]); first | omega | (simp (disch := omega) only [jst_eq, jst_ne, jst_ni, jst_o, jI_i, jcpy_out, w32_id, jdiv_nn, jshr_k, jand_255] <;> first | done | omega | assumption)) | (intros; simp (disch := omega) only [jst_eq, jst_ne, jst_ni, jst_o, jI_i, jcpy_out, w32_id, jdiv_nn, *] <;> first | done | omega) | (intros; simp (disch := omega) only [jst_eq, jst_ne, jst_ni, jst_o, jI_i, jcpy_out, w32_id, jdiv_nn] at * <;> first | done | omega | assumption) | (intros; first | rfl | (exfalso; omega) | ((repeat' apply And.intro) <;> first | assumption | rfl | omega | trivial)))) ?_ -- o1
  refine OK_jl ?_
  refine OK_jl ?_
  refine OK_some ?_
  try dsimp only [Sum.elim_inl, Sum.elim_inr, jt2, jt3, jt4, jt5, jt6, jt7, jt8]
  (refine apB_one ?_ ?_ (fun a x n1 n2 => ?_); { (try simp (disch := omega) only [jst_eq, jst_ne, jst_ni, jI_i, jcmp_lt, jcmp_gt, w32_id, jcpy_out, Sum.elim_inl, Sum.elim_inr, jt2, jt3, jt4, jt5, jt6, jt7, jt8]) }; { (try simp (disch := omega) only [jst_eq, jst_ne, jst_ni, jI_i, jcmp_lt, jcmp_gt, w32_id, jcpy_out, Sum.elim_inl, Sum.elim_inr, jt2, jt3, jt4, jt5, jt6, jt7, jt8]) }; { rw [jst_o (by omega), jst_o (by omega)] }) -- o2 e1
theorem vX14_say_l2 (i1 : Int) (a30 : Int) {h : AH} (w : 0 ≤ i1 ∧ i1 < 282429536481) (z : a30 = 1) : OK (gX14_say_l2 i1 a30 h) (fun r => ∃ k : Nat, r = pow27 k ∧ k ≤ 8 ∧ (k = 0 ∨ pow27 k ≤ i1) ∧ i1 < pow27 (k + 1)) := by
  unfold gX14_say_l2
  refine OK_jit (I := (fun (a3 : Int) => ∃ k : Nat, a3 = pow27 k ∧ k ≤ 8 ∧ (k = 0 ∨ pow27 k ≤ i1))) (m := (fun (a3 : Int) => (7625597484987 - a3).toNat)) ?_ ?_
  · intro a3 hs
    try dsimp only at hs
    have q0 := hs; clear hs
    unfold gX14_say_b2
    obtain ⟨k, k1, k2, k3⟩ := q0
    have p9 := pow27_9 (k := k) (by omega)
    have p0 := pow27_p k
    have pe : pow27 (k + 1) = pow27 k * 27 := rfl
    have p10 := pow27_9 (k := k + 1) (by omega)
    have iw : w64 (a3 * 27) = pow27 (k + 1) := by { rw [k1, pe]; exact w64_id (by omega) (by omega) }
    have p8 : pow27 9 = 7625597484987 := by decide
    have p88 : pow27 8 = 282429536481 := by decide
    refine OK_if (fun c1 => ?_) (fun c1 => ?_)
    · skip
      try simp (disch := omega) only [jst_eq, jst_ne, jst_ni, jI_i, jcmp_lt, jcmp_gt, w32_id, jcpy_out, Sum.elim_inl, Sum.elim_inr, jt2, jt3, jt4, jt5, jt6, jt7, jt8] at c1
      have g := c1
      refine OK_ir ?_
      (refine ⟨k, k1, k2, k3, ?_⟩; omega) -- o1 e1
    · skip
      try simp (disch := omega) only [jst_eq, jst_ne, jst_ni, jI_i, jcmp_lt, jcmp_gt, w32_id, jcpy_out, Sum.elim_inl, Sum.elim_inr, jt2, jt3, jt4, jt5, jt6, jt7, jt8] at c1
      have g : ¬ i1 < w64 (a3 * 27) := c1
      refine OK_jlx (fun x6 ex6 => ?_)
      try simp (disch := omega) only [jst_eq, jst_ne, jst_ni, jI_i, jcmp_lt, jcmp_gt, w32_id, jcpy_out, Sum.elim_inl, Sum.elim_inr, jt2, jt3, jt4, jt5, jt6, jt7, jt8] at ex6
      refine OK_il ?_ ?_
      · (show ∃ k : Nat, x6 = pow27 k ∧ k ≤ 8 ∧ (k = 0 ∨ pow27 k ≤ i1); have k7 : k ≤ 7 := (by by_cases y : k = 8; { subst y; omega }; { omega }); exact ⟨k + 1, by omega, by omega, Or.inr (by omega)⟩) -- o2 e2i
      · (show (7625597484987 - x6).toNat < (7625597484987 - a3).toNat; omega) -- o3 e2m
  · exact ⟨0, z, by decide, Or.inl rfl⟩ -- o4 init

