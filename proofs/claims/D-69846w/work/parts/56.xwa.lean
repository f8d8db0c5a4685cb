/-! x: acts worked out -/
theorem vX4_valuesOf (a0 : Int) : OK (gX4_valuesOf a0) (fun v => v = bsK a0) := by
  unfold gX4_valuesOf
  refine OK_if (fun c1 => ?_) (fun c1 => ?_)
  · skip
    try simp (disch := omega) only [jst_eq, jst_ne, jst_ni, jI_i, jcmp_lt, jcmp_gt, w32_id, jcpy_out, Sum.elim_inl, Sum.elim_inr, jt2, jt3, jt4, jt5, jt6, jt7, jt8] at c1
    refine OK_some ?_
    try dsimp only [Sum.elim_inl, Sum.elim_inr, jt2, jt3, jt4, jt5, jt6, jt7, jt8]
    (unfold bsK; rw [if_pos c1]) -- o1 e1
  · skip
    try simp (disch := omega) only [jst_eq, jst_ne, jst_ni, jI_i, jcmp_lt, jcmp_gt, w32_id, jcpy_out, Sum.elim_inl, Sum.elim_inr, jt2, jt3, jt4, jt5, jt6, jt7, jt8] at c1
    refine OK_some ?_
    try dsimp only [Sum.elim_inl, Sum.elim_inr, jt2, jt3, jt4, jt5, jt6, jt7, jt8]
    (unfold bsK; rw [if_neg c1]) -- o2 e2
def ptf (kf vf : Int → Int) : Nat → Int
  | 0 => 0
  | k + 1 => ptf kf vf k * bsK (kf k) + vf k
def p16 : Nat → Int
  | 0 => 1
  | k + 1 => p16 k * 16
theorem bsK_r (k : Int) : 2 ≤ bsK k ∧ bsK k ≤ 16 := by unfold bsK; by_cases q : k = 0; · rw [if_pos q]; omega
                                                       · rw [if_neg q]; omega
theorem ptf_r {kf vf : Int → Int} : ∀ m : Nat, (∀ k : Int, 0 ≤ k → k < m → 0 ≤ vf k ∧ vf k < bsK (kf k)) → 0 ≤ ptf kf vf m ∧ ptf kf vf m < p16 m
  | 0, _ => by show (0 : Int) ≤ 0 ∧ (0 : Int) < 1; omega
  | m + 1, h => by
    have ih := ptf_r m (fun k k0 k1 => h k k0 (by omega))
    have g := h m (by omega) (by omega)
    have b := bsK_r (kf m)
    show 0 ≤ ptf kf vf m * bsK (kf m) + vf m ∧ ptf kf vf m * bsK (kf m) + vf m < p16 m * 16
    have a := Int.mul_nonneg ih.1 (show 0 ≤ bsK (kf m) by omega)
    have c : (ptf kf vf m + 1) * bsK (kf m) ≤ p16 m * 16 := Int.mul_le_mul (by omega) b.2 (by omega) (by omega)
    rw [Int.add_mul, Int.one_mul] at c
    omega
theorem p16_3 {m : Nat} (h : m ≤ 3) : p16 m ≤ 4096 := by
  rcases (show m = 0 ∨ m = 1 ∨ m = 2 ∨ m = 3 by omega) with rfl | rfl | rfl | rfl <;> decide
theorem vX4_pointOf_l5 (i0 : Int) (i1 : Int) (i2 : Int) (a30 : Int) (a40 : Int) {h : AH} {n : Int} {kf vf : Int → Int} (x : isX4 i0 ∧ h i0 1 = n ∧ 0 ≤ n ∧ n ≤ 3 ∧ h i1 (-2) = 101 ∧ 0 ≤ i2 ∧ i2 + n ≤ h i1 (-1) ∧ i2 ≤ 100000) (cc : ∀ k, 0 ≤ k → k < n → h (i0 + 1) k = kf k ∧ h i1 (i2 + k) = vf k ∧ 0 ≤ vf k ∧ vf k < bsK (kf k)) (z : a30 = 0 ∧ a40 = 0) : OK (gX4_pointOf_l5 i0 i1 i2 a30 a40 h) (fun v => v = ptf kf vf n.toNat) := by
  unfold gX4_pointOf_l5
  refine OK_jit (I := (fun (s : Int × Int) => jt2 s fun a3 a4 => (0 ≤ a4 ∧ a4 ≤ n) ∧ (a3 = ptf kf vf a4.toNat))) (m := (fun (s : Int × Int) => jt2 s fun a3 a4 => (n - a4).toNat)) ?_ ?_
  · intro s hs
    obtain ⟨a3, a4⟩ := s
    dsimp only [Sum.elim_inl, Sum.elim_inr, jt2, jt3, jt4, jt5, jt6, jt7, jt8] at hs
    obtain ⟨q0, q1⟩ := hs
    unfold gX4_pointOf_b5
    refine OK_jt2 ?_
    obtain ⟨x1, x2, x3, x4, x5, x6, x7, x8⟩ := x
    have pr := ptf_r (kf := kf) (vf := vf) a4.toNat (fun k k0 k1 => (cc k k0 (by omega)).2.2)
    have p3 := p16_3 (m := a4.toNat) (by omega)
    refine OK_if (fun c1 => ?_) (fun c1 => ?_)
    · skip
      try simp (disch := omega) only [jst_eq, jst_ne, jst_ni, jI_i, jcmp_lt, jcmp_gt, w32_id, jcpy_out, Sum.elim_inl, Sum.elim_inr, jt2, jt3, jt4, jt5, jt6, jt7, jt8] at c1
      refine OK_ir ?_
      (rw [q1, show a4 = n by omega]) -- o1 e1
    · skip
      try simp (disch := omega) only [jst_eq, jst_ne, jst_ni, jI_i, jcmp_lt, jcmp_gt, w32_id, jcpy_out, Sum.elim_inl, Sum.elim_inr, jt2, jt3, jt4, jt5, jt6, jt7, jt8] at c1
      have ck := cc a4 (by omega) (by omega)
      have bk := bsK_r (kf a4)
      have mm : 0 ≤ ptf kf vf a4.toNat * bsK (kf a4) ∧ ptf kf vf a4.toNat * bsK (kf a4) ≤ 65536 := ⟨Int.mul_nonneg pr.1 (by omega), by { have := Int.mul_le_mul (show ptf kf vf a4.toNat ≤ 4096 by omega) bk.2 (by omega) (show (0 : Int) ≤ 4096 by decide); omega }⟩
      have st : ptf kf vf (a4 + 1).toNat = ptf kf vf a4.toNat * bsK (kf a4) + vf a4 := by { rw [show (a4 + 1).toNat = a4.toNat + 1 by omega]; show _ * bsK (kf ((a4.toNat : Nat) : Int)) + vf ((a4.toNat : Nat) : Int) = _; rw [show ((a4.toNat : Nat) : Int) = a4 by omega] }
      refine OK_jg (by (first | assumption | omega | ((try dsimp only [jt2, jt3, jt4]); first | omega | (simp (disch := omega) only [jst_eq, jst_ne, jst_ni, jst_o, jI_i, jcpy_out, w32_id, jdiv_nn, jshr_k, jand_255] <;> first | done | omega | assumption)) | (intros; simp (disch := omega) only [jst_eq, jst_ne, jst_ni, jst_o, jI_i, jcpy_out, w32_id, jdiv_nn, *] <;> first | done | omega) | (intros; simp (disch := omega) only [jst_eq, jst_ne, jst_ni, jst_o, jI_i, jcpy_out, w32_id, jdiv_nn] at * <;> first | done | omega | assumption) | (intros; first | rfl | (exfalso; omega) | ((repeat' apply And.intro) <;> first | assumption | rfl | omega | trivial)))) ?_ -- o2
      refine OK_jb (vX4_valuesOf _) (fun v5 r1 => ?_)
      try dsimp only [Sum.elim_inl, Sum.elim_inr, jt2, jt3, jt4, jt5, jt6, jt7, jt8] at r1
      have bv1 := r1
      clear r1
      try simp (disch := omega) only [jst_eq, jst_ne, jst_ni, jI_i, jcmp_lt, jcmp_gt, w32_id, jcpy_out, Sum.elim_inl, Sum.elim_inr, jt2, jt3, jt4, jt5, jt6, jt7, jt8] at bv1
      have bv' : v5 = bsK (kf a4) := by { rw [bv1, ck.1] }
      refine OK_jg (by (first | assumption | omega | ((try dsimp only [jt2, jt3, jt4]); first | omega | (simp (disch := omega) only [jst_eq, jst_ne, jst_ni, jst_o, jI_i, jcpy_out, w32_id, jdiv_nn, jshr_k, jand_255] <;> first | done | omega | assumption)) | (intros; simp (disch := omega) only [jst_eq, jst_ne, jst_ni, jst_o, jI_i, jcpy_out, w32_id, jdiv_nn, *] <;> first | done | omega) | (intros; simp (disch := omega) only [jst_eq, jst_ne, jst_ni, jst_o, jI_i, jcpy_out, w32_id, jdiv_nn] at * <;> first | done | omega | assumption) | (intros; first | rfl | (exfalso; omega) | ((repeat' apply And.intro) <;> first | assumption | rfl | omega | trivial)))) ?_ -- o3
      refine OK_jlx (fun x6 ex6 => ?_)
      try simp (disch := omega) only [jst_eq, jst_ne, jst_ni, jI_i, jcmp_lt, jcmp_gt, w32_id, jcpy_out, Sum.elim_inl, Sum.elim_inr, jt2, jt3, jt4, jt5, jt6, jt7, jt8] at ex6
      refine OK_jlx (fun x7 ex7 => ?_)
      try simp (disch := omega) only [jst_eq, jst_ne, jst_ni, jI_i, jcmp_lt, jcmp_gt, w32_id, jcpy_out, Sum.elim_inl, Sum.elim_inr, jt2, jt3, jt4, jt5, jt6, jt7, jt8] at ex7
      refine OK_il ?_ ?_
      · try dsimp only [Sum.elim_inl, Sum.elim_inr, jt2, jt3, jt4, jt5, jt6, jt7, jt8]
        refine ⟨?_, ?_⟩
        · (first | assumption | omega | ((try dsimp only [jt2, jt3, jt4]); first | omega | (simp (disch := omega) only [jst_eq, jst_ne, jst_ni, jst_o, jI_i, jcpy_out, w32_id, jdiv_nn, jshr_k, jand_255] <;> first | done | omega | assumption)) | (intros; simp (disch := omega) only [jst_eq, jst_ne, jst_ni, jst_o, jI_i, jcpy_out, w32_id, jdiv_nn, *] <;> first | done | omega) | (intros; simp (disch := omega) only [jst_eq, jst_ne, jst_ni, jst_o, jI_i, jcpy_out, w32_id, jdiv_nn] at * <;> first | done | omega | assumption) | (intros; first | rfl | (exfalso; omega) | ((repeat' apply And.intro) <;> first | assumption | rfl | omega | trivial))) -- o4 e2i.1
        · (rw [ex7, st, ex6, bv', q1, ck.2.1, w32_id (x := _ * _) (by omega) (by omega), w32_id (by omega) (by omega)]) -- o5 e2i.2
      · (first | assumption | omega | ((try dsimp only [jt2, jt3, jt4]); first | omega | (simp (disch := omega) only [jst_eq, jst_ne, jst_ni, jst_o, jI_i, jcpy_out, w32_id, jdiv_nn, jshr_k, jand_255] <;> first | done | omega | assumption)) | (intros; simp (disch := omega) only [jst_eq, jst_ne, jst_ni, jst_o, jI_i, jcpy_out, w32_id, jdiv_nn, *] <;> first | done | omega) | (intros; simp (disch := omega) only [jst_eq, jst_ne, jst_ni, jst_o, jI_i, jcpy_out, w32_id, jdiv_nn] at * <;> first | done | omega | assumption) | (intros; first | rfl | (exfalso; omega) | ((repeat' apply And.intro) <;> first | assumption | rfl | omega | trivial))) -- o6 e2m
  · try dsimp only [Sum.elim_inl, Sum.elim_inr, jt2, jt3, jt4, jt5, jt6, jt7, jt8]
    refine ⟨?_, ?_⟩
    · (first | assumption | omega | ((try dsimp only [jt2, jt3, jt4]); first | omega | (simp (disch := omega) only [jst_eq, jst_ne, jst_ni, jst_o, jI_i, jcpy_out, w32_id, jdiv_nn, jshr_k, jand_255] <;> first | done | omega | assumption)) | (intros; simp (disch := omega) only [jst_eq, jst_ne, jst_ni, jst_o, jI_i, jcpy_out, w32_id, jdiv_nn, *] <;> first | done | omega) | (intros; simp (disch := omega) only [jst_eq, jst_ne, jst_ni, jst_o, jI_i, jcpy_out, w32_id, jdiv_nn] at * <;> first | done | omega | assumption) | (intros; first | rfl | (exfalso; omega) | ((repeat' apply And.intro) <;> first | assumption | rfl | omega | trivial))) -- o7 init.1
    · (rw [z.1, z.2]; rfl) -- o8 init.2
theorem vX4_pointOf (a0 : Int) (a1 : Int) (a2 : Int) {h : AH} {n : Int} {kf vf : Int → Int} (x : isX4 a0 ∧ h a0 1 = n ∧ 0 ≤ n ∧ n ≤ 3 ∧ h a1 (-2) = 101 ∧ 0 ≤ a2 ∧ a2 + n ≤ h a1 (-1) ∧ a2 ≤ 100000) (cc : ∀ k, 0 ≤ k → k < n → h (a0 + 1) k = kf k ∧ h a1 (a2 + k) = vf k ∧ 0 ≤ vf k ∧ vf k < bsK (kf k)) : OK (gX4_pointOf a0 a1 a2 h) (fun v => v = ptf kf vf n.toNat) := by
  unfold gX4_pointOf
  refine OK_jb (vX4_pointOf_l5 (n := n) (kf := kf) (vf := vf) _ _ _ _ _ (by (first | assumption | omega | ((try dsimp only [jt2, jt3, jt4]); first | omega | (simp (disch := omega) only [jst_eq, jst_ne, jst_ni, jst_o, jI_i, jcpy_out, w32_id, jdiv_nn, jshr_k, jand_255] <;> first | done | omega | assumption)) | (intros; simp (disch := omega) only [jst_eq, jst_ne, jst_ni, jst_o, jI_i, jcpy_out, w32_id, jdiv_nn, *] <;> first | done | omega) | (intros; simp (disch := omega) only [jst_eq, jst_ne, jst_ni, jst_o, jI_i, jcpy_out, w32_id, jdiv_nn] at * <;> first | done | omega | assumption) | (intros; first | rfl | (exfalso; omega) | ((repeat' apply And.intro) <;> first | assumption | rfl | omega | trivial)))) (by (first | assumption | omega | ((try dsimp only [jt2, jt3, jt4]); first | omega | (simp (disch := omega) only [jst_eq, jst_ne, jst_ni, jst_o, jI_i, jcpy_out, w32_id, jdiv_nn, jshr_k, jand_255] <;> first | done | omega | assumption)) | (intros; simp (disch := omega) only [jst_eq, jst_ne, jst_ni, jst_o, jI_i, jcpy_out, w32_id, jdiv_nn, *] <;> first | done | omega) | (intros; simp (disch := omega) only [jst_eq, jst_ne, jst_ni, jst_o, jI_i, jcpy_out, w32_id, jdiv_nn] at * <;> first | done | omega | assumption) | (intros; first | rfl | (exfalso; omega) | ((repeat' apply And.intro) <;> first | assumption | rfl | omega | trivial)))) (by (first | assumption | omega | ((try dsimp only [jt2, jt3, jt4]); first | omega | (simp (disch := omega) only [jst_eq, jst_ne, jst_ni, jst_o, jI_i, jcpy_out, w32_id, jdiv_nn, jshr_k, jand_255] <;> first | done | omega | assumption)) | (intros; simp (disch := omega) only [jst_eq, jst_ne, jst_ni, jst_o, jI_i, jcpy_out, w32_id, jdiv_nn, *] <;> first | done | omega) | (intros; simp (disch := omega) only [jst_eq, jst_ne, jst_ni, jst_o, jI_i, jcpy_out, w32_id, jdiv_nn] at * <;> first | done | omega | assumption) | (intros; first | rfl | (exfalso; omega) | ((repeat' apply And.intro) <;> first | assumption | rfl | omega | trivial))))) (fun o1 r1 => ?_)
  try dsimp only [Sum.elim_inl, Sum.elim_inr, jt2, jt3, jt4, jt5, jt6, jt7, jt8] at r1
  have pv1 := r1
  clear r1
  try simp (disch := omega) only [jst_eq, jst_ne, jst_ni, jI_i, jcmp_lt, jcmp_gt, w32_id, jcpy_out, Sum.elim_inl, Sum.elim_inr, jt2, jt3, jt4, jt5, jt6, jt7, jt8] at pv1
  refine OK_some ?_
  try dsimp only [Sum.elim_inl, Sum.elim_inr, jt2, jt3, jt4, jt5, jt6, jt7, jt8]
  (first | assumption | omega | ((try dsimp only [jt2, jt3, jt4]); first | omega | (simp (disch := omega) only [jst_eq, jst_ne, jst_ni, jst_o, jI_i, jcpy_out, w32_id, jdiv_nn, jshr_k, jand_255] <;> first | done | omega | assumption)) | (intros; simp (disch := omega) only [jst_eq, jst_ne, jst_ni, jst_o, jI_i, jcpy_out, w32_id, jdiv_nn, *] <;> first | done | omega) | (intros; simp (disch := omega) only [jst_eq, jst_ne, jst_ni, jst_o, jI_i, jcpy_out, w32_id, jdiv_nn] at * <;> first | done | omega | assumption) | (intros; first | rfl | (exfalso; omega) | ((repeat' apply And.intro) <;> first | assumption | rfl | omega | trivial))) -- o4 e1

