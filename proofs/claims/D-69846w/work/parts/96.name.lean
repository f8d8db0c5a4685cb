/-! x: a name out of a text, as a string of its own -/
theorem jor_nn {x y : Int} (hx : 0 ≤ x ∧ x < 2147483648) (hy : 0 ≤ y ∧ y < 2147483648) : 0 ≤ jor x y ∧ jor x y < 2147483648 := by
  have e := jor_nat (x := x) (y := y) (a := x.toNat) (b := y.toNat) (by omega) (by omega)
  have l : x.toNat ||| y.toNat < 2 ^ 31 := Nat.or_lt_two_pow (by omega) (by omega)
  have l2 : ((x.toNat ||| y.toNat : Nat) : Int) < 2147483648 := by
    have z : (2 ^ 31 : Nat) = 2147483648 := by decide
    rw [z] at l
    exact Int.ofNat_lt.mpr l
  have l0 : (0 : Int) ≤ ((x.toNat ||| y.toNat : Nat) : Int) := Int.natCast_nonneg _
  rw [e]
  generalize ((x.toNat ||| y.toNat : Nat) : Int) = z at *
  unfold w32
  omega
/-- what is changed by a new cell -/
def nwS (h h' : AH) (n : Int) : Prop := h' 0 0 = h 0 0 + 1 ∧ h' 0 1 = h 0 1 + 1 ∧ h' 0 2 = h 0 2 + n
theorem nwS_j {h : AH} (k n : Int) (z : 1078 ≤ h 0 0) : nwS h (jnew h k n) n ∧ jnew h k n (h 0 0) (-2) = k ∧ jnew h k n (h 0 0) (-1) = n ∧ ∀ a s, a ≠ 0 → a ≠ h 0 0 → jnew h k n a s = h a s := by
  refine ⟨⟨?_, ?_, ?_⟩, ?_, ?_, fun a s y1 y2 => jnew_ne y2 y1⟩
  · rw [jnew_0 (by omega), if_pos rfl]
  · rw [jnew_0 (by omega), if_neg (by omega), if_pos rfl]
  · rw [jnew_0 (by omega), if_neg (by omega), if_neg (by omega), if_pos rfl]
  · rw [jnew_at, if_pos rfl]
  · rw [jnew_at, if_neg (by omega), if_pos rfl]
theorem vJ4_checkFromIndexSize (a0 : Int) (a1 : Int) (a2 : Int) (a3 : Int) (x : 0 ≤ a0 ∧ 0 ≤ a1 ∧ a0 + a1 ≤ a2 ∧ a2 ≤ 1000000) : OK (fJ4_checkFromIndexSize a0 a1 a2 a3) (fun v => v = a0) := by
  have J := jor_nn (x := jor a2 a0) (y := a1) (jor_nn (by omega) (by omega)) (by omega)
  unfold fJ4_checkFromIndexSize
  refine OK_if (fun c1 => ?_) (fun c1 => ?_)
  · skip
    try simp (disch := omega) only [jst_eq, jst_ne, jst_ni, jI_i, jcmp_lt, jcmp_gt, w32_id, jcpy_out, Sum.elim_inl, Sum.elim_inr, jt2, jt3, jt4, jt5, jt6, jt7, jt8] at c1
    exfalso
    omega
  · skip
    try simp (disch := omega) only [jst_eq, jst_ne, jst_ni, jI_i, jcmp_lt, jcmp_gt, w32_id, jcpy_out, Sum.elim_inl, Sum.elim_inr, jt2, jt3, jt4, jt5, jt6, jt7, jt8] at c1
    refine OK_if (fun c2 => ?_) (fun c2 => ?_)
    · skip
      try simp (disch := omega) only [jst_eq, jst_ne, jst_ni, jI_i, jcmp_lt, jcmp_gt, w32_id, jcpy_out, Sum.elim_inl, Sum.elim_inr, jt2, jt3, jt4, jt5, jt6, jt7, jt8] at c2
      refine OK_some ?_
      try dsimp only [Sum.elim_inl, Sum.elim_inr, jt2, jt3, jt4, jt5, jt6, jt7, jt8]
      all_goals rfl -- o1 e1
    · skip
      try simp (disch := omega) only [jst_eq, jst_ne, jst_ni, jI_i, jcmp_lt, jcmp_gt, w32_id, jcpy_out, Sum.elim_inl, Sum.elim_inr, jt2, jt3, jt4, jt5, jt6, jt7, jt8] at c2
      exfalso
      omega
theorem vJ0_checkBoundsOffCount (a0 : Int) (a1 : Int) (a2 : Int) {h : AH} (x : 0 ≤ a0 ∧ 0 ≤ a1 ∧ a0 + a1 ≤ a2 ∧ a2 ≤ 1000000) : OK (fJ0_checkBoundsOffCount a0 a1 a2 h) (fun v => v = a0) := by
  unfold fJ0_checkBoundsOffCount
  refine OK_jb (vJ4_checkFromIndexSize _ _ _ _ (by (first | assumption | omega | ((try dsimp only [jt2, jt3, jt4]); first | omega | (simp (disch := omega) only [jst_eq, jst_ne, jst_ni, jst_o, jI_i, jcpy_out, w32_id, jdiv_nn, jshr_k, jand_255] <;> first | done | omega | assumption)) | (intros; simp (disch := omega) only [jst_eq, jst_ne, jst_ni, jst_o, jI_i, jcpy_out, w32_id, jdiv_nn, *] <;> first | done | omega) | (intros; simp (disch := omega) only [jst_eq, jst_ne, jst_ni, jst_o, jI_i, jcpy_out, w32_id, jdiv_nn] at * <;> first | done | omega | assumption) | (intros; first | rfl | (exfalso; omega) | ((repeat' apply And.intro) <;> first | assumption | rfl | omega | trivial))))) (fun v2 r1 => ?_)
  try dsimp only [Sum.elim_inl, Sum.elim_inr, jt2, jt3, jt4, jt5, jt6, jt7, jt8] at r1
  have v1 := r1
  clear r1
  try simp (disch := omega) only [jst_eq, jst_ne, jst_ni, jI_i, jcmp_lt, jcmp_gt, w32_id, jcpy_out, Sum.elim_inl, Sum.elim_inr, jt2, jt3, jt4, jt5, jt6, jt7, jt8] at v1
  refine OK_some ?_
  try dsimp only [Sum.elim_inl, Sum.elim_inr, jt2, jt3, jt4, jt5, jt6, jt7, jt8]
  (first | assumption | omega | ((try dsimp only [jt2, jt3, jt4]); first | omega | (simp (disch := omega) only [jst_eq, jst_ne, jst_ni, jst_o, jI_i, jcpy_out, w32_id, jdiv_nn, jshr_k, jand_255] <;> first | done | omega | assumption)) | (intros; simp (disch := omega) only [jst_eq, jst_ne, jst_ni, jst_o, jI_i, jcpy_out, w32_id, jdiv_nn, *] <;> first | done | omega) | (intros; simp (disch := omega) only [jst_eq, jst_ne, jst_ni, jst_o, jI_i, jcpy_out, w32_id, jdiv_nn] at * <;> first | done | omega | assumption) | (intros; first | rfl | (exfalso; omega) | ((repeat' apply And.intro) <;> first | assumption | rfl | omega | trivial))) -- o2 e1
theorem vJ6_checkLength (a0 : Int) (a1 : Int) {h : AH} (x : a0 ≤ a1) : OK (fJ6_checkLength a0 a1 h) (fun h' => h' = h) := by
  unfold fJ6_checkLength
  refine OK_if (fun c1 => ?_) (fun c1 => ?_)
  · skip
    try simp (disch := omega) only [jst_eq, jst_ne, jst_ni, jI_i, jcmp_lt, jcmp_gt, w32_id, jcpy_out, Sum.elim_inl, Sum.elim_inr, jt2, jt3, jt4, jt5, jt6, jt7, jt8] at c1
    refine OK_some ?_
    try dsimp only [Sum.elim_inl, Sum.elim_inr, jt2, jt3, jt4, jt5, jt6, jt7, jt8]
    all_goals rfl -- o1 e1
  · skip
    try simp (disch := omega) only [jst_eq, jst_ne, jst_ni, jI_i, jcmp_lt, jcmp_gt, w32_id, jcpy_out, Sum.elim_inl, Sum.elim_inr, jt2, jt3, jt4, jt5, jt6, jt7, jt8] at c1
    exfalso
    (first | assumption | omega | ((try dsimp only [jt2, jt3, jt4]); first | omega | (simp (disch := omega) only [jst_eq, jst_ne, jst_ni, jst_o, jI_i, jcpy_out, w32_id, jdiv_nn, jshr_k, jand_255] <;> first | done | omega | assumption)) | (intros; simp (disch := omega) only [jst_eq, jst_ne, jst_ni, jst_o, jI_i, jcpy_out, w32_id, jdiv_nn, *] <;> first | done | omega) | (intros; simp (disch := omega) only [jst_eq, jst_ne, jst_ni, jst_o, jI_i, jcpy_out, w32_id, jdiv_nn] at * <;> first | done | omega | assumption) | (intros; first | rfl | (exfalso; omega) | ((repeat' apply And.intro) <;> first | assumption | rfl | omega | trivial))) -- o2 none
/-- a part of a byte array in a new one -/
def subA (h h' : AH) (a from_ n : Int) : Prop := nwS h h' n ∧ h' (h 0 0) (-2) = 103 ∧ h' (h 0 0) (-1) = n ∧ (∀ k, 0 ≤ k → k < n → h' (h 0 0) k = h a (from_ + k)) ∧ ∀ b s, b ≠ 0 → b ≠ h 0 0 → h' b s = h b s
theorem subA_i {h : AH} {a f n : Int} (z : 1078 ≤ h 0 0) (a0 : 0 < a ∧ a < h 0 0) : subA h (jcpy (jnew h 103 n) a f (h 0 0) 0 n) a f n := by
  obtain ⟨⟨n1, n2, n3⟩, n4, n5, n6⟩ := nwS_j (h := h) 103 n z
  refine ⟨⟨?_, ?_, ?_⟩, ?_, ?_, fun k k0 k1 => ?_, fun b s b0 b1 => ?_⟩
  · rw [jcpy_out (by omega)]; exact n1
  · rw [jcpy_out (by omega)]; exact n2
  · rw [jcpy_out (by omega)]; exact n3
  · rw [jcpy_out (by omega)]; exact n4
  · rw [jcpy_out (by omega)]; exact n5
  · rw [jcpy_in k0 (by omega), n6 _ _ (by omega) (by omega), show f + (k - 0) = f + k by omega]
  · rw [jcpy_out (by omega)]; exact n6 b s b0 b1
theorem jcpG_i {h : AH} {a f n m : Int} (z : 1078 ≤ h 0 0) (a0 : 0 < a ∧ a < h 0 0) (k : h a (-2) = 103) (f0 : 0 ≤ f) (n0 : 0 ≤ m) (fm : f + m ≤ h a (-1)) (mn : m ≤ n) : jcpG (jnew h 103 n) 103 a f (h 0 0) 0 m := by
  obtain ⟨_, n4, n5, n6⟩ := nwS_j (h := h) 103 n z
  refine ⟨by rw [n6 _ _ (by omega) (by omega)]; exact k, n4, Or.inr rfl, by omega, f0, Int.le_refl _, n0, by rw [n6 _ _ (by omega) (by omega)]; exact fm, by rw [n5]; omega⟩
theorem vJ6_copyOfRangeByte (a0 : Int) (a1 : Int) (a2 : Int) {h : AH} (z : 1078 ≤ h 0 0 ∧ h 0 1 + 1 ≤ 575367 ∧ h 0 2 + (a2 - a1) ≤ 7362325) (ar : 0 < a0 ∧ a0 < h 0 0 ∧ h a0 (-2) = 103 ∧ h a0 (-1) ≤ 1000000) (rg : 0 ≤ a1 ∧ a1 ≤ a2 ∧ a2 ≤ h a0 (-1)) : OK (fJ6_copyOfRangeByte a0 a1 a2 h) (fun r => jt2 r fun v h' => (v = h 0 0) ∧ (subA h h' a0 a1 (a2 - a1))) := by
  unfold fJ6_copyOfRangeByte
  refine OK_jb (vJ6_checkLength _ _ (by (first | ((rw [L4.2]; omega)) | ((rw [ex5, L4.1, w32_id (by omega) (by omega), show min (h a0 (-1) - a1) x3 = x3 by omega]; exact jcpG_i z.1 ⟨ar.1, ar.2.1⟩ ar.2.2.1 rg.1 (by omega) (by omega) (Int.le_refl _))) | (first | assumption | omega | ((try dsimp only [jt2, jt3, jt4]); first | omega | (simp (disch := omega) only [jst_eq, jst_ne, jst_ni, jst_o, jI_i, jcpy_out, w32_id, jdiv_nn, jshr_k, jand_255] <;> first | done | omega | assumption)) | (intros; simp (disch := omega) only [jst_eq, jst_ne, jst_ni, jst_o, jI_i, jcpy_out, w32_id, jdiv_nn, *] <;> first | done | omega) | (intros; simp (disch := omega) only [jst_eq, jst_ne, jst_ni, jst_o, jI_i, jcpy_out, w32_id, jdiv_nn] at * <;> first | done | omega | assumption) | (intros; first | rfl | (exfalso; omega) | ((repeat' apply And.intro) <;> first | assumption | rfl | omega | trivial)))))) (fun h2 r1 => ?_)
  try dsimp only [Sum.elim_inl, Sum.elim_inr, jt2, jt3, jt4, jt5, jt6, jt7, jt8] at r1
  have e1 := r1
  clear r1
  try simp (disch := omega) only [jst_eq, jst_ne, jst_ni, jI_i, jcmp_lt, jcmp_gt, w32_id, jcpy_out, Sum.elim_inl, Sum.elim_inr, jt2, jt3, jt4, jt5, jt6, jt7, jt8] at e1
  rw [e1]
  have W := w32_id (x := a2 - a1) (by omega) (by omega)
  rw [W]
  refine OK_jlx (fun x3 ex3 => ?_)
  try simp (disch := omega) only [jst_eq, jst_ne, jst_ni, jI_i, jcmp_lt, jcmp_gt, w32_id, jcpy_out, Sum.elim_inl, Sum.elim_inr, jt2, jt3, jt4, jt5, jt6, jt7, jt8] at ex3
  have N3 := nwS_j (h := h) 103 x3 z.1
  refine OK_jg (by (first | ((rw [L4.2]; omega)) | ((rw [ex5, L4.1, w32_id (by omega) (by omega), show min (h a0 (-1) - a1) x3 = x3 by omega]; exact jcpG_i z.1 ⟨ar.1, ar.2.1⟩ ar.2.2.1 rg.1 (by omega) (by omega) (Int.le_refl _))) | (first | assumption | omega | ((try dsimp only [jt2, jt3, jt4]); first | omega | (simp (disch := omega) only [jst_eq, jst_ne, jst_ni, jst_o, jI_i, jcpy_out, w32_id, jdiv_nn, jshr_k, jand_255] <;> first | done | omega | assumption)) | (intros; simp (disch := omega) only [jst_eq, jst_ne, jst_ni, jst_o, jI_i, jcpy_out, w32_id, jdiv_nn, *] <;> first | done | omega) | (intros; simp (disch := omega) only [jst_eq, jst_ne, jst_ni, jst_o, jI_i, jcpy_out, w32_id, jdiv_nn] at * <;> first | done | omega | assumption) | (intros; first | rfl | (exfalso; omega) | ((repeat' apply And.intro) <;> first | assumption | rfl | omega | trivial))))) ?_ -- o2
  refine OK_jl ?_
  have L4 : jnew h 103 x3 a0 (-1) = h a0 (-1) ∧ jnew h 103 x3 a0 (-2) = h a0 (-2) := ⟨N3.2.2.2 _ _ (by omega) (by omega), N3.2.2.2 _ _ (by omega) (by omega)⟩
  refine OK_jlx (fun x5 ex5 => ?_)
  try simp (disch := omega) only [jst_eq, jst_ne, jst_ni, jI_i, jcmp_lt, jcmp_gt, w32_id, jcpy_out, Sum.elim_inl, Sum.elim_inr, jt2, jt3, jt4, jt5, jt6, jt7, jt8] at ex5
  refine OK_jg (by (first | ((rw [L4.2]; omega)) | ((rw [ex5, L4.1, w32_id (by omega) (by omega), show min (h a0 (-1) - a1) x3 = x3 by omega]; exact jcpG_i z.1 ⟨ar.1, ar.2.1⟩ ar.2.2.1 rg.1 (by omega) (by omega) (Int.le_refl _))) | (first | assumption | omega | ((try dsimp only [jt2, jt3, jt4]); first | omega | (simp (disch := omega) only [jst_eq, jst_ne, jst_ni, jst_o, jI_i, jcpy_out, w32_id, jdiv_nn, jshr_k, jand_255] <;> first | done | omega | assumption)) | (intros; simp (disch := omega) only [jst_eq, jst_ne, jst_ni, jst_o, jI_i, jcpy_out, w32_id, jdiv_nn, *] <;> first | done | omega) | (intros; simp (disch := omega) only [jst_eq, jst_ne, jst_ni, jst_o, jI_i, jcpy_out, w32_id, jdiv_nn] at * <;> first | done | omega | assumption) | (intros; first | rfl | (exfalso; omega) | ((repeat' apply And.intro) <;> first | assumption | rfl | omega | trivial))))) ?_ -- o3
  refine OK_jg (by (first | ((rw [L4.2]; omega)) | ((rw [ex5, L4.1, w32_id (by omega) (by omega), show min (h a0 (-1) - a1) x3 = x3 by omega]; exact jcpG_i z.1 ⟨ar.1, ar.2.1⟩ ar.2.2.1 rg.1 (by omega) (by omega) (Int.le_refl _))) | (first | assumption | omega | ((try dsimp only [jt2, jt3, jt4]); first | omega | (simp (disch := omega) only [jst_eq, jst_ne, jst_ni, jst_o, jI_i, jcpy_out, w32_id, jdiv_nn, jshr_k, jand_255] <;> first | done | omega | assumption)) | (intros; simp (disch := omega) only [jst_eq, jst_ne, jst_ni, jst_o, jI_i, jcpy_out, w32_id, jdiv_nn, *] <;> first | done | omega) | (intros; simp (disch := omega) only [jst_eq, jst_ne, jst_ni, jst_o, jI_i, jcpy_out, w32_id, jdiv_nn] at * <;> first | done | omega | assumption) | (intros; first | rfl | (exfalso; omega) | ((repeat' apply And.intro) <;> first | assumption | rfl | omega | trivial))))) ?_ -- o4
  refine OK_jl ?_
  refine OK_some ?_
  try dsimp only [Sum.elim_inl, Sum.elim_inr, jt2, jt3, jt4, jt5, jt6, jt7, jt8]
  try dsimp only [Sum.elim_inl, Sum.elim_inr, jt2, jt3, jt4, jt5, jt6, jt7, jt8]
  refine ⟨?_, ?_⟩
  · exact ex5 -- o5 e1.1
  · (rw [ex5, L4.1, w32_id (by omega) (by omega), show min (h a0 (-1) - a1) x3 = x3 by omega]; rw [show a2 - a1 = x3 by omega]; exact subA_i z.1 ⟨ar.1, ar.2.1⟩) -- o6 e1.2
theorem vJ6_copyOfRange_j10 (a0 : Int) (a1 : Int) (a2 : Int) {h : AH} (z : 1078 ≤ h 0 0 ∧ h 0 1 + 1 ≤ 575367 ∧ h 0 2 + (a2 - a1) ≤ 7362325) (ar : 0 < a0 ∧ a0 < h 0 0 ∧ h a0 (-2) = 103 ∧ h a0 (-1) ≤ 1000000) (rg : 0 ≤ a1 ∧ a1 ≤ a2 ∧ a2 ≤ h a0 (-1)) : OK (fJ6_copyOfRange_j10 a0 a1 a2 h) (fun r => jt2 r fun v h' => (v = h 0 0) ∧ (subA h h' a0 a1 (a2 - a1))) := by
  unfold fJ6_copyOfRange_j10
  refine OK_jb2 (vJ6_copyOfRangeByte _ _ _ (by (first | assumption | omega | ((try dsimp only [jt2, jt3, jt4]); first | omega | (simp (disch := omega) only [jst_eq, jst_ne, jst_ni, jst_o, jI_i, jcpy_out, w32_id, jdiv_nn, jshr_k, jand_255] <;> first | done | omega | assumption)) | (intros; simp (disch := omega) only [jst_eq, jst_ne, jst_ni, jst_o, jI_i, jcpy_out, w32_id, jdiv_nn, *] <;> first | done | omega) | (intros; simp (disch := omega) only [jst_eq, jst_ne, jst_ni, jst_o, jI_i, jcpy_out, w32_id, jdiv_nn] at * <;> first | done | omega | assumption) | (intros; first | rfl | (exfalso; omega) | ((repeat' apply And.intro) <;> first | assumption | rfl | omega | trivial)))) (by (first | assumption | omega | ((try dsimp only [jt2, jt3, jt4]); first | omega | (simp (disch := omega) only [jst_eq, jst_ne, jst_ni, jst_o, jI_i, jcpy_out, w32_id, jdiv_nn, jshr_k, jand_255] <;> first | done | omega | assumption)) | (intros; simp (disch := omega) only [jst_eq, jst_ne, jst_ni, jst_o, jI_i, jcpy_out, w32_id, jdiv_nn, *] <;> first | done | omega) | (intros; simp (disch := omega) only [jst_eq, jst_ne, jst_ni, jst_o, jI_i, jcpy_out, w32_id, jdiv_nn] at * <;> first | done | omega | assumption) | (intros; first | rfl | (exfalso; omega) | ((repeat' apply And.intro) <;> first | assumption | rfl | omega | trivial)))) (by (first | assumption | omega | ((try dsimp only [jt2, jt3, jt4]); first | omega | (simp (disch := omega) only [jst_eq, jst_ne, jst_ni, jst_o, jI_i, jcpy_out, w32_id, jdiv_nn, jshr_k, jand_255] <;> first | done | omega | assumption)) | (intros; simp (disch := omega) only [jst_eq, jst_ne, jst_ni, jst_o, jI_i, jcpy_out, w32_id, jdiv_nn, *] <;> first | done | omega) | (intros; simp (disch := omega) only [jst_eq, jst_ne, jst_ni, jst_o, jI_i, jcpy_out, w32_id, jdiv_nn] at * <;> first | done | omega | assumption) | (intros; first | rfl | (exfalso; omega) | ((repeat' apply And.intro) <;> first | assumption | rfl | omega | trivial))))) (fun v4 h5 r1 => ?_)
  try dsimp only [Sum.elim_inl, Sum.elim_inr, jt2, jt3, jt4, jt5, jt6, jt7, jt8] at r1
  obtain ⟨v1, sb1⟩ := r1
  try simp (disch := omega) only [jst_eq, jst_ne, jst_ni, jI_i, jcmp_lt, jcmp_gt, w32_id, jcpy_out, Sum.elim_inl, Sum.elim_inr, jt2, jt3, jt4, jt5, jt6, jt7, jt8] at v1
  try simp (disch := omega) only [jst_eq, jst_ne, jst_ni, jI_i, jcmp_lt, jcmp_gt, w32_id, jcpy_out, Sum.elim_inl, Sum.elim_inr, jt2, jt3, jt4, jt5, jt6, jt7, jt8] at sb1
  refine OK_some ?_
  try dsimp only [Sum.elim_inl, Sum.elim_inr, jt2, jt3, jt4, jt5, jt6, jt7, jt8]
  try dsimp only [Sum.elim_inl, Sum.elim_inr, jt2, jt3, jt4, jt5, jt6, jt7, jt8]
  refine ⟨?_, ?_⟩
  · (first | assumption | omega | ((try dsimp only [jt2, jt3, jt4]); first | omega | (simp (disch := omega) only [jst_eq, jst_ne, jst_ni, jst_o, jI_i, jcpy_out, w32_id, jdiv_nn, jshr_k, jand_255] <;> first | done | omega | assumption)) | (intros; simp (disch := omega) only [jst_eq, jst_ne, jst_ni, jst_o, jI_i, jcpy_out, w32_id, jdiv_nn, *] <;> first | done | omega) | (intros; simp (disch := omega) only [jst_eq, jst_ne, jst_ni, jst_o, jI_i, jcpy_out, w32_id, jdiv_nn] at * <;> first | done | omega | assumption) | (intros; first | rfl | (exfalso; omega) | ((repeat' apply And.intro) <;> first | assumption | rfl | omega | trivial))) -- o4 e1.1
  · (first | assumption | omega | ((try dsimp only [jt2, jt3, jt4]); first | omega | (simp (disch := omega) only [jst_eq, jst_ne, jst_ni, jst_o, jI_i, jcpy_out, w32_id, jdiv_nn, jshr_k, jand_255] <;> first | done | omega | assumption)) | (intros; simp (disch := omega) only [jst_eq, jst_ne, jst_ni, jst_o, jI_i, jcpy_out, w32_id, jdiv_nn, *] <;> first | done | omega) | (intros; simp (disch := omega) only [jst_eq, jst_ne, jst_ni, jst_o, jI_i, jcpy_out, w32_id, jdiv_nn] at * <;> first | done | omega | assumption) | (intros; first | rfl | (exfalso; omega) | ((repeat' apply And.intro) <;> first | assumption | rfl | omega | trivial))) -- o5 e1.2
theorem vJ6_copyOfRange (a0 : Int) (a1 : Int) (a2 : Int) {h : AH} (z : 1078 ≤ h 0 0 ∧ h 0 1 + 1 ≤ 575367 ∧ h 0 2 + (a2 - a1) ≤ 7362325) (ar : 0 < a0 ∧ a0 < h 0 0 ∧ h a0 (-2) = 103 ∧ h a0 (-1) ≤ 1000000) (rg : 0 ≤ a1 ∧ a1 ≤ a2 ∧ a2 ≤ h a0 (-1) ∧ ¬ (a1 = 0 ∧ a2 = h a0 (-1))) : OK (fJ6_copyOfRange a0 a1 a2 h) (fun r => jt2 r fun v h' => (v = h 0 0) ∧ (subA h h' a0 a1 (a2 - a1))) := by
  unfold fJ6_copyOfRange
  refine OK_if (fun c1 => ?_) (fun c1 => ?_)
  · skip
    try simp (disch := omega) only [jst_eq, jst_ne, jst_ni, jI_i, jcmp_lt, jcmp_gt, w32_id, jcpy_out, Sum.elim_inl, Sum.elim_inr, jt2, jt3, jt4, jt5, jt6, jt7, jt8] at c1
    refine OK_jg (by (first | assumption | omega | ((try dsimp only [jt2, jt3, jt4]); first | omega | (simp (disch := omega) only [jst_eq, jst_ne, jst_ni, jst_o, jI_i, jcpy_out, w32_id, jdiv_nn, jshr_k, jand_255] <;> first | done | omega | assumption)) | (intros; simp (disch := omega) only [jst_eq, jst_ne, jst_ni, jst_o, jI_i, jcpy_out, w32_id, jdiv_nn, *] <;> first | done | omega) | (intros; simp (disch := omega) only [jst_eq, jst_ne, jst_ni, jst_o, jI_i, jcpy_out, w32_id, jdiv_nn] at * <;> first | done | omega | assumption) | (intros; first | rfl | (exfalso; omega) | ((repeat' apply And.intro) <;> first | assumption | rfl | omega | trivial)))) ?_ -- o1
    refine OK_if (fun c2 => ?_) (fun c2 => ?_)
    · skip
      try simp (disch := omega) only [jst_eq, jst_ne, jst_ni, jI_i, jcmp_lt, jcmp_gt, w32_id, jcpy_out, Sum.elim_inl, Sum.elim_inr, jt2, jt3, jt4, jt5, jt6, jt7, jt8] at c2
      exfalso
      (exact rg.2.2.2 ⟨c1, c2⟩)
    · skip
      try simp (disch := omega) only [jst_eq, jst_ne, jst_ni, jI_i, jcmp_lt, jcmp_gt, w32_id, jcpy_out, Sum.elim_inl, Sum.elim_inr, jt2, jt3, jt4, jt5, jt6, jt7, jt8] at c2
      refine OK_mono (vJ6_copyOfRange_j10 _ _ _ (by (first | assumption | omega | ((try dsimp only [jt2, jt3, jt4]); first | omega | (simp (disch := omega) only [jst_eq, jst_ne, jst_ni, jst_o, jI_i, jcpy_out, w32_id, jdiv_nn, jshr_k, jand_255] <;> first | done | omega | assumption)) | (intros; simp (disch := omega) only [jst_eq, jst_ne, jst_ni, jst_o, jI_i, jcpy_out, w32_id, jdiv_nn, *] <;> first | done | omega) | (intros; simp (disch := omega) only [jst_eq, jst_ne, jst_ni, jst_o, jI_i, jcpy_out, w32_id, jdiv_nn] at * <;> first | done | omega | assumption) | (intros; first | rfl | (exfalso; omega) | ((repeat' apply And.intro) <;> first | assumption | rfl | omega | trivial)))) (by (first | assumption | omega | ((try dsimp only [jt2, jt3, jt4]); first | omega | (simp (disch := omega) only [jst_eq, jst_ne, jst_ni, jst_o, jI_i, jcpy_out, w32_id, jdiv_nn, jshr_k, jand_255] <;> first | done | omega | assumption)) | (intros; simp (disch := omega) only [jst_eq, jst_ne, jst_ni, jst_o, jI_i, jcpy_out, w32_id, jdiv_nn, *] <;> first | done | omega) | (intros; simp (disch := omega) only [jst_eq, jst_ne, jst_ni, jst_o, jI_i, jcpy_out, w32_id, jdiv_nn] at * <;> first | done | omega | assumption) | (intros; first | rfl | (exfalso; omega) | ((repeat' apply And.intro) <;> first | assumption | rfl | omega | trivial)))) (by (first | assumption | omega | ((try dsimp only [jt2, jt3, jt4]); first | omega | (simp (disch := omega) only [jst_eq, jst_ne, jst_ni, jst_o, jI_i, jcpy_out, w32_id, jdiv_nn, jshr_k, jand_255] <;> first | done | omega | assumption)) | (intros; simp (disch := omega) only [jst_eq, jst_ne, jst_ni, jst_o, jI_i, jcpy_out, w32_id, jdiv_nn, *] <;> first | done | omega) | (intros; simp (disch := omega) only [jst_eq, jst_ne, jst_ni, jst_o, jI_i, jcpy_out, w32_id, jdiv_nn] at * <;> first | done | omega | assumption) | (intros; first | rfl | (exfalso; omega) | ((repeat' apply And.intro) <;> first | assumption | rfl | omega | trivial))))) (fun r r1 => ?_)
      obtain ⟨y1, y2⟩ := r
      try dsimp only [Sum.elim_inl, Sum.elim_inr, jt2, jt3, jt4, jt5, jt6, jt7, jt8] at r1
      obtain ⟨v1, sb1⟩ := r1
      try simp (disch := omega) only [jst_eq, jst_ne, jst_ni, jI_i, jcmp_lt, jcmp_gt, w32_id, jcpy_out, Sum.elim_inl, Sum.elim_inr, jt2, jt3, jt4, jt5, jt6, jt7, jt8] at v1
      try simp (disch := omega) only [jst_eq, jst_ne, jst_ni, jI_i, jcmp_lt, jcmp_gt, w32_id, jcpy_out, Sum.elim_inl, Sum.elim_inr, jt2, jt3, jt4, jt5, jt6, jt7, jt8] at sb1
      try dsimp only [Sum.elim_inl, Sum.elim_inr, jt2, jt3, jt4, jt5, jt6, jt7, jt8]
      try dsimp only [Sum.elim_inl, Sum.elim_inr, jt2, jt3, jt4, jt5, jt6, jt7, jt8]
      refine ⟨?_, ?_⟩
      · (first | assumption | omega | ((try dsimp only [jt2, jt3, jt4]); first | omega | (simp (disch := omega) only [jst_eq, jst_ne, jst_ni, jst_o, jI_i, jcpy_out, w32_id, jdiv_nn, jshr_k, jand_255] <;> first | done | omega | assumption)) | (intros; simp (disch := omega) only [jst_eq, jst_ne, jst_ni, jst_o, jI_i, jcpy_out, w32_id, jdiv_nn, *] <;> first | done | omega) | (intros; simp (disch := omega) only [jst_eq, jst_ne, jst_ni, jst_o, jI_i, jcpy_out, w32_id, jdiv_nn] at * <;> first | done | omega | assumption) | (intros; first | rfl | (exfalso; omega) | ((repeat' apply And.intro) <;> first | assumption | rfl | omega | trivial))) -- o5 e1.1
      · (first | assumption | omega | ((try dsimp only [jt2, jt3, jt4]); first | omega | (simp (disch := omega) only [jst_eq, jst_ne, jst_ni, jst_o, jI_i, jcpy_out, w32_id, jdiv_nn, jshr_k, jand_255] <;> first | done | omega | assumption)) | (intros; simp (disch := omega) only [jst_eq, jst_ne, jst_ni, jst_o, jI_i, jcpy_out, w32_id, jdiv_nn, *] <;> first | done | omega) | (intros; simp (disch := omega) only [jst_eq, jst_ne, jst_ni, jst_o, jI_i, jcpy_out, w32_id, jdiv_nn] at * <;> first | done | omega | assumption) | (intros; first | rfl | (exfalso; omega) | ((repeat' apply And.intro) <;> first | assumption | rfl | omega | trivial))) -- o6 e1.2
  · skip
    try simp (disch := omega) only [jst_eq, jst_ne, jst_ni, jI_i, jcmp_lt, jcmp_gt, w32_id, jcpy_out, Sum.elim_inl, Sum.elim_inr, jt2, jt3, jt4, jt5, jt6, jt7, jt8] at c1
    refine OK_mono (vJ6_copyOfRange_j10 _ _ _ (by (first | assumption | omega | ((try dsimp only [jt2, jt3, jt4]); first | omega | (simp (disch := omega) only [jst_eq, jst_ne, jst_ni, jst_o, jI_i, jcpy_out, w32_id, jdiv_nn, jshr_k, jand_255] <;> first | done | omega | assumption)) | (intros; simp (disch := omega) only [jst_eq, jst_ne, jst_ni, jst_o, jI_i, jcpy_out, w32_id, jdiv_nn, *] <;> first | done | omega) | (intros; simp (disch := omega) only [jst_eq, jst_ne, jst_ni, jst_o, jI_i, jcpy_out, w32_id, jdiv_nn] at * <;> first | done | omega | assumption) | (intros; first | rfl | (exfalso; omega) | ((repeat' apply And.intro) <;> first | assumption | rfl | omega | trivial)))) (by (first | assumption | omega | ((try dsimp only [jt2, jt3, jt4]); first | omega | (simp (disch := omega) only [jst_eq, jst_ne, jst_ni, jst_o, jI_i, jcpy_out, w32_id, jdiv_nn, jshr_k, jand_255] <;> first | done | omega | assumption)) | (intros; simp (disch := omega) only [jst_eq, jst_ne, jst_ni, jst_o, jI_i, jcpy_out, w32_id, jdiv_nn, *] <;> first | done | omega) | (intros; simp (disch := omega) only [jst_eq, jst_ne, jst_ni, jst_o, jI_i, jcpy_out, w32_id, jdiv_nn] at * <;> first | done | omega | assumption) | (intros; first | rfl | (exfalso; omega) | ((repeat' apply And.intro) <;> first | assumption | rfl | omega | trivial)))) (by (first | assumption | omega | ((try dsimp only [jt2, jt3, jt4]); first | omega | (simp (disch := omega) only [jst_eq, jst_ne, jst_ni, jst_o, jI_i, jcpy_out, w32_id, jdiv_nn, jshr_k, jand_255] <;> first | done | omega | assumption)) | (intros; simp (disch := omega) only [jst_eq, jst_ne, jst_ni, jst_o, jI_i, jcpy_out, w32_id, jdiv_nn, *] <;> first | done | omega) | (intros; simp (disch := omega) only [jst_eq, jst_ne, jst_ni, jst_o, jI_i, jcpy_out, w32_id, jdiv_nn] at * <;> first | done | omega | assumption) | (intros; first | rfl | (exfalso; omega) | ((repeat' apply And.intro) <;> first | assumption | rfl | omega | trivial))))) (fun r r2 => ?_)
    obtain ⟨y3, y4⟩ := r
    try dsimp only [Sum.elim_inl, Sum.elim_inr, jt2, jt3, jt4, jt5, jt6, jt7, jt8] at r2
    obtain ⟨v2, sb2⟩ := r2
    try simp (disch := omega) only [jst_eq, jst_ne, jst_ni, jI_i, jcmp_lt, jcmp_gt, w32_id, jcpy_out, Sum.elim_inl, Sum.elim_inr, jt2, jt3, jt4, jt5, jt6, jt7, jt8] at v2
    try simp (disch := omega) only [jst_eq, jst_ne, jst_ni, jI_i, jcmp_lt, jcmp_gt, w32_id, jcpy_out, Sum.elim_inl, Sum.elim_inr, jt2, jt3, jt4, jt5, jt6, jt7, jt8] at sb2
    try dsimp only [Sum.elim_inl, Sum.elim_inr, jt2, jt3, jt4, jt5, jt6, jt7, jt8]
    try dsimp only [Sum.elim_inl, Sum.elim_inr, jt2, jt3, jt4, jt5, jt6, jt7, jt8]
    refine ⟨?_, ?_⟩
    · (first | assumption | omega | ((try dsimp only [jt2, jt3, jt4]); first | omega | (simp (disch := omega) only [jst_eq, jst_ne, jst_ni, jst_o, jI_i, jcpy_out, w32_id, jdiv_nn, jshr_k, jand_255] <;> first | done | omega | assumption)) | (intros; simp (disch := omega) only [jst_eq, jst_ne, jst_ni, jst_o, jI_i, jcpy_out, w32_id, jdiv_nn, *] <;> first | done | omega) | (intros; simp (disch := omega) only [jst_eq, jst_ne, jst_ni, jst_o, jI_i, jcpy_out, w32_id, jdiv_nn] at * <;> first | done | omega | assumption) | (intros; first | rfl | (exfalso; omega) | ((repeat' apply And.intro) <;> first | assumption | rfl | omega | trivial))) -- o10 e2.1
    · (first | assumption | omega | ((try dsimp only [jt2, jt3, jt4]); first | omega | (simp (disch := omega) only [jst_eq, jst_ne, jst_ni, jst_o, jI_i, jcpy_out, w32_id, jdiv_nn, jshr_k, jand_255] <;> first | done | omega | assumption)) | (intros; simp (disch := omega) only [jst_eq, jst_ne, jst_ni, jst_o, jI_i, jcpy_out, w32_id, jdiv_nn, *] <;> first | done | omega) | (intros; simp (disch := omega) only [jst_eq, jst_ne, jst_ni, jst_o, jI_i, jcpy_out, w32_id, jdiv_nn] at * <;> first | done | omega | assumption) | (intros; first | rfl | (exfalso; omega) | ((repeat' apply And.intro) <;> first | assumption | rfl | omega | trivial))) -- o11 e2.2
/-- a string made of a part of a byte array -/
def subS (h h' : AH) (a b from_ n : Int) : Prop := nwS h h' n ∧ h' a 0 = h 0 0 ∧ h' a 1 = 0 ∧ h' (h 0 0) (-2) = 103 ∧ h' (h 0 0) (-1) = n ∧ (∀ k, 0 ≤ k → k < n → h' (h 0 0) k = h b (from_ + k)) ∧ ∀ c s, c ≠ 0 → c ≠ h 0 0 → ¬ (c = a ∧ (s = 0 ∨ s = 1)) → h' c s = h c s
theorem vJ0_init_4 (a0 : Int) (a1 : Int) (a2 : Int) (a3 : Int) (a4 : Int) {h : AH} (z : 1078 ≤ h 0 0 ∧ h 0 1 + 1 ≤ 575367 ∧ h 0 2 + a4 ≤ 7362325) (ar : 0 < a1 ∧ a1 < h 0 0 ∧ h a1 (-2) = 103 ∧ h a1 (-1) ≤ 1000000) (rg : 0 ≤ a3 ∧ 0 < a4 ∧ a3 + a4 ≤ h a1 (-1) ∧ ¬ (a3 = 0 ∧ a4 = h a1 (-1))) (st : a2 = 0 ∧ 200 ≤ a0 ∧ a0 < h 0 0 ∧ h a0 (-2) = 1) : OK (fJ0_init_4 a0 a1 a2 a3 a4 h) (fun h' => subS h h' a0 a1 a3 a4) := by
  unfold fJ0_init_4
  refine OK_jg (by (first | ((refine ⟨by rw [A10]; exact st.2.2.2, st.2.1⟩)) | ((refine ⟨by rw [jst_o (by omega), A10]; exact st.2.2.2, st.2.1, by unfold jBy; omega⟩)) | (first | assumption | omega | ((try dsimp only [jt2, jt3, jt4]); first | omega | (simp (disch := omega) only [jst_eq, jst_ne, jst_ni, jst_o, jI_i, jcpy_out, w32_id, jdiv_nn, jshr_k, jand_255] <;> first | done | omega | assumption)) | (intros; simp (disch := omega) only [jst_eq, jst_ne, jst_ni, jst_o, jI_i, jcpy_out, w32_id, jdiv_nn, *] <;> first | done | omega) | (intros; simp (disch := omega) only [jst_eq, jst_ne, jst_ni, jst_o, jI_i, jcpy_out, w32_id, jdiv_nn] at * <;> first | done | omega | assumption) | (intros; first | rfl | (exfalso; omega) | ((repeat' apply And.intro) <;> first | assumption | rfl | omega | trivial))))) ?_ -- o1
  refine OK_jg (by (first | ((refine ⟨by rw [A10]; exact st.2.2.2, st.2.1⟩)) | ((refine ⟨by rw [jst_o (by omega), A10]; exact st.2.2.2, st.2.1, by unfold jBy; omega⟩)) | (first | assumption | omega | ((try dsimp only [jt2, jt3, jt4]); first | omega | (simp (disch := omega) only [jst_eq, jst_ne, jst_ni, jst_o, jI_i, jcpy_out, w32_id, jdiv_nn, jshr_k, jand_255] <;> first | done | omega | assumption)) | (intros; simp (disch := omega) only [jst_eq, jst_ne, jst_ni, jst_o, jI_i, jcpy_out, w32_id, jdiv_nn, *] <;> first | done | omega) | (intros; simp (disch := omega) only [jst_eq, jst_ne, jst_ni, jst_o, jI_i, jcpy_out, w32_id, jdiv_nn] at * <;> first | done | omega | assumption) | (intros; first | rfl | (exfalso; omega) | ((repeat' apply And.intro) <;> first | assumption | rfl | omega | trivial))))) ?_ -- o2
  refine OK_jb (vJ0_checkBoundsOffCount _ _ _ (by (first | ((refine ⟨by rw [A10]; exact st.2.2.2, st.2.1⟩)) | ((refine ⟨by rw [jst_o (by omega), A10]; exact st.2.2.2, st.2.1, by unfold jBy; omega⟩)) | (first | assumption | omega | ((try dsimp only [jt2, jt3, jt4]); first | omega | (simp (disch := omega) only [jst_eq, jst_ne, jst_ni, jst_o, jI_i, jcpy_out, w32_id, jdiv_nn, jshr_k, jand_255] <;> first | done | omega | assumption)) | (intros; simp (disch := omega) only [jst_eq, jst_ne, jst_ni, jst_o, jI_i, jcpy_out, w32_id, jdiv_nn, *] <;> first | done | omega) | (intros; simp (disch := omega) only [jst_eq, jst_ne, jst_ni, jst_o, jI_i, jcpy_out, w32_id, jdiv_nn] at * <;> first | done | omega | assumption) | (intros; first | rfl | (exfalso; omega) | ((repeat' apply And.intro) <;> first | assumption | rfl | omega | trivial)))))) (fun v2 r1 => ?_)
  try dsimp only [Sum.elim_inl, Sum.elim_inr, jt2, jt3, jt4, jt5, jt6, jt7, jt8] at r1
  have v1 := r1
  clear r1
  try simp (disch := omega) only [jst_eq, jst_ne, jst_ni, jI_i, jcmp_lt, jcmp_gt, w32_id, jcpy_out, Sum.elim_inl, Sum.elim_inr, jt2, jt3, jt4, jt5, jt6, jt7, jt8] at v1
  have W : w32 (a3 + a4) = a3 + a4 := w32_id (by omega) (by omega)
  rw [W]
  refine OK_if (fun c1 => ?_) (fun c1 => ?_)
  · skip
    try simp (disch := omega) only [jst_eq, jst_ne, jst_ni, jI_i, jcmp_lt, jcmp_gt, w32_id, jcpy_out, Sum.elim_inl, Sum.elim_inr, jt2, jt3, jt4, jt5, jt6, jt7, jt8] at c1
    exfalso
    omega
  · skip
    try simp (disch := omega) only [jst_eq, jst_ne, jst_ni, jI_i, jcmp_lt, jcmp_gt, w32_id, jcpy_out, Sum.elim_inl, Sum.elim_inr, jt2, jt3, jt4, jt5, jt6, jt7, jt8] at c1
    refine OK_if (fun c2 => ?_) (fun c2 => ?_)
    · skip
      try simp (disch := omega) only [jst_eq, jst_ne, jst_ni, jI_i, jcmp_lt, jcmp_gt, w32_id, jcpy_out, Sum.elim_inl, Sum.elim_inr, jt2, jt3, jt4, jt5, jt6, jt7, jt8] at c2
      exfalso
      (exact absurd c2 (by decide))
    · skip
      try simp (disch := omega) only [jst_eq, jst_ne, jst_ni, jI_i, jcmp_lt, jcmp_gt, w32_id, jcpy_out, Sum.elim_inl, Sum.elim_inr, jt2, jt3, jt4, jt5, jt6, jt7, jt8] at c2
      refine OK_if (fun c3 => ?_) (fun c3 => ?_)
      · skip
        try simp (disch := omega) only [jst_eq, jst_ne, jst_ni, jI_i, jcmp_lt, jcmp_gt, w32_id, jcpy_out, Sum.elim_inl, Sum.elim_inr, jt2, jt3, jt4, jt5, jt6, jt7, jt8] at c3
        refine OK_jb2 (vJ6_copyOfRange _ _ _ (by (first | ((refine ⟨by rw [A10]; exact st.2.2.2, st.2.1⟩)) | ((refine ⟨by rw [jst_o (by omega), A10]; exact st.2.2.2, st.2.1, by unfold jBy; omega⟩)) | (first | assumption | omega | ((try dsimp only [jt2, jt3, jt4]); first | omega | (simp (disch := omega) only [jst_eq, jst_ne, jst_ni, jst_o, jI_i, jcpy_out, w32_id, jdiv_nn, jshr_k, jand_255] <;> first | done | omega | assumption)) | (intros; simp (disch := omega) only [jst_eq, jst_ne, jst_ni, jst_o, jI_i, jcpy_out, w32_id, jdiv_nn, *] <;> first | done | omega) | (intros; simp (disch := omega) only [jst_eq, jst_ne, jst_ni, jst_o, jI_i, jcpy_out, w32_id, jdiv_nn] at * <;> first | done | omega | assumption) | (intros; first | rfl | (exfalso; omega) | ((repeat' apply And.intro) <;> first | assumption | rfl | omega | trivial))))) (by (first | ((refine ⟨by rw [A10]; exact st.2.2.2, st.2.1⟩)) | ((refine ⟨by rw [jst_o (by omega), A10]; exact st.2.2.2, st.2.1, by unfold jBy; omega⟩)) | (first | assumption | omega | ((try dsimp only [jt2, jt3, jt4]); first | omega | (simp (disch := omega) only [jst_eq, jst_ne, jst_ni, jst_o, jI_i, jcpy_out, w32_id, jdiv_nn, jshr_k, jand_255] <;> first | done | omega | assumption)) | (intros; simp (disch := omega) only [jst_eq, jst_ne, jst_ni, jst_o, jI_i, jcpy_out, w32_id, jdiv_nn, *] <;> first | done | omega) | (intros; simp (disch := omega) only [jst_eq, jst_ne, jst_ni, jst_o, jI_i, jcpy_out, w32_id, jdiv_nn] at * <;> first | done | omega | assumption) | (intros; first | rfl | (exfalso; omega) | ((repeat' apply And.intro) <;> first | assumption | rfl | omega | trivial))))) (by (refine ⟨by omega, by omega, by omega, fun w => rg.2.2.2 ⟨w.1, by omega⟩⟩))) (fun v9 h10 r2 => ?_)
        try dsimp only [Sum.elim_inl, Sum.elim_inr, jt2, jt3, jt4, jt5, jt6, jt7, jt8] at r2
        obtain ⟨v2, sb2⟩ := r2
        try simp (disch := omega) only [jst_eq, jst_ne, jst_ni, jI_i, jcmp_lt, jcmp_gt, w32_id, jcpy_out, Sum.elim_inl, Sum.elim_inr, jt2, jt3, jt4, jt5, jt6, jt7, jt8] at v2
        try simp (disch := omega) only [jst_eq, jst_ne, jst_ni, jI_i, jcmp_lt, jcmp_gt, w32_id, jcpy_out, Sum.elim_inl, Sum.elim_inr, jt2, jt3, jt4, jt5, jt6, jt7, jt8] at sb2
        obtain ⟨⟨s1, s2, s3⟩, s4, s5, s6, s7⟩ := sb2
        have A10 : ∀ s, h10 a0 s = h a0 s := fun s => s7 _ _ (by omega) (by omega)
        refine OK_jg (by (first | ((refine ⟨by rw [A10]; exact st.2.2.2, st.2.1⟩)) | ((refine ⟨by rw [jst_o (by omega), A10]; exact st.2.2.2, st.2.1, by unfold jBy; omega⟩)) | (first | assumption | omega | ((try dsimp only [jt2, jt3, jt4]); first | omega | (simp (disch := omega) only [jst_eq, jst_ne, jst_ni, jst_o, jI_i, jcpy_out, w32_id, jdiv_nn, jshr_k, jand_255] <;> first | done | omega | assumption)) | (intros; simp (disch := omega) only [jst_eq, jst_ne, jst_ni, jst_o, jI_i, jcpy_out, w32_id, jdiv_nn, *] <;> first | done | omega) | (intros; simp (disch := omega) only [jst_eq, jst_ne, jst_ni, jst_o, jI_i, jcpy_out, w32_id, jdiv_nn] at * <;> first | done | omega | assumption) | (intros; first | rfl | (exfalso; omega) | ((repeat' apply And.intro) <;> first | assumption | rfl | omega | trivial))))) ?_ -- o7
        refine OK_jl ?_
        refine OK_jg (by (first | ((refine ⟨by rw [A10]; exact st.2.2.2, st.2.1⟩)) | ((refine ⟨by rw [jst_o (by omega), A10]; exact st.2.2.2, st.2.1, by unfold jBy; omega⟩)) | (first | assumption | omega | ((try dsimp only [jt2, jt3, jt4]); first | omega | (simp (disch := omega) only [jst_eq, jst_ne, jst_ni, jst_o, jI_i, jcpy_out, w32_id, jdiv_nn, jshr_k, jand_255] <;> first | done | omega | assumption)) | (intros; simp (disch := omega) only [jst_eq, jst_ne, jst_ni, jst_o, jI_i, jcpy_out, w32_id, jdiv_nn, *] <;> first | done | omega) | (intros; simp (disch := omega) only [jst_eq, jst_ne, jst_ni, jst_o, jI_i, jcpy_out, w32_id, jdiv_nn] at * <;> first | done | omega | assumption) | (intros; first | rfl | (exfalso; omega) | ((repeat' apply And.intro) <;> first | assumption | rfl | omega | trivial))))) ?_ -- o8
        refine OK_jl ?_
        refine OK_some ?_
        try dsimp only [Sum.elim_inl, Sum.elim_inr, jt2, jt3, jt4, jt5, jt6, jt7, jt8]
        (refine ⟨⟨?_, ?_, ?_⟩, ?_, ?_, ?_, ?_, fun k k0 k1 => ?_, fun c s c0 c1 c2 => ?_⟩; { rw [jst_o (by omega), jst_o (by omega)]; exact s1 }; { rw [jst_o (by omega), jst_o (by omega)]; exact s2 }; { rw [jst_o (by omega), jst_o (by omega)]; omega }; { rw [jst_o (by omega), jst_eq]; exact v2 }; { exact jst_eq }; { rw [jst_o (by omega), jst_o (by omega)]; exact s4 }; { rw [jst_o (by omega), jst_o (by omega)]; omega }; { rw [jst_o (by omega), jst_o (by omega)]; exact s6 k k0 (by omega) }; { rw [jst_o (by omega), jst_o (by omega)]; exact s7 c s c0 c1 }) -- o9 e1
      · skip
        try simp (disch := omega) only [jst_eq, jst_ne, jst_ni, jI_i, jcmp_lt, jcmp_gt, w32_id, jcpy_out, Sum.elim_inl, Sum.elim_inr, jt2, jt3, jt4, jt5, jt6, jt7, jt8] at c3
        exfalso
        (apply c3; rw [st.1]; rfl)
/-- a new name -/
def nwN (h h' : AH) (v w : Int) : Prop := v = h 0 0 ∧ nmS h' v w ∧ (h' v 0 = h 0 0 + 1) ∧ h' 0 0 = h 0 0 + 2 ∧ h' 0 1 = h 0 1 + 2 ∧ (h 0 2 ≤ h' 0 2 ∧ h' 0 2 ≤ h 0 2 + 12) ∧ ∀ a s, a ≠ 0 → a < h 0 0 → h' a s = h a s
theorem vX13_ownName {h : AH} {B : Int → Int} {n A q : Int} (hB : ∀ i, 0 ≤ i → i < n → 0 ≤ B i ∧ B i < 256) (t : TX B n A h) (tA : A = 439 ∨ A = 440) (o1 : tO B n q = 1) (tk : h 441 21 = tS B n q ∧ h 441 22 = tE B n q ∧ 0 < tS B n q) (z : 1078 ≤ h 0 0 ∧ h 0 1 + 2 ≤ 575367 ∧ h 0 2 + 12 ≤ 7362325) (lA : h A (-1) ≤ 1000000) : OK (gX13_ownName h) (fun r => jt2 r fun v h' => nwN h h' v (tV B n q)) := by
  obtain ⟨t1, t2, t3, t4, tz, ty, t5, t6, t7⟩ := t
  have K1 := tok_1 o1
  unfold gX13_ownName
  refine OK_jg (by (first | assumption | omega | ((try dsimp only [jt2, jt3, jt4]); first | omega | (simp (disch := omega) only [jst_eq, jst_ne, jst_ni, jst_o, jI_i, jcpy_out, w32_id, jdiv_nn, jshr_k, jand_255] <;> first | done | omega | assumption)) | (intros; simp (disch := omega) only [jst_eq, jst_ne, jst_ni, jst_o, jI_i, jcpy_out, w32_id, jdiv_nn, *] <;> first | done | omega) | (intros; simp (disch := omega) only [jst_eq, jst_ne, jst_ni, jst_o, jI_i, jcpy_out, w32_id, jdiv_nn] at * <;> first | done | omega | assumption) | (intros; first | rfl | (exfalso; omega) | ((repeat' apply And.intro) <;> first | assumption | rfl | omega | trivial)))) ?_ -- o1
  refine OK_jl ?_
  have N1 := nwS_j (h := h) 1 4 z.1
  generalize jnew h 1 4 = g1 at *
  obtain ⟨⟨n1, n2, n3⟩, n4, n5, n6⟩ := N1
  rw [n6 441 0 (by omega) (by omega), n6 441 21 (by omega) (by omega), n6 441 22 (by omega) (by omega), tk.1, tk.2.1, t1, w32_id (by omega) (by omega)]
  refine OK_jg (by (first | assumption | omega | ((try dsimp only [jt2, jt3, jt4]); first | omega | (simp (disch := omega) only [jst_eq, jst_ne, jst_ni, jst_o, jI_i, jcpy_out, w32_id, jdiv_nn, jshr_k, jand_255] <;> first | done | omega | assumption)) | (intros; simp (disch := omega) only [jst_eq, jst_ne, jst_ni, jst_o, jI_i, jcpy_out, w32_id, jdiv_nn, *] <;> first | done | omega) | (intros; simp (disch := omega) only [jst_eq, jst_ne, jst_ni, jst_o, jI_i, jcpy_out, w32_id, jdiv_nn] at * <;> first | done | omega | assumption) | (intros; first | rfl | (exfalso; omega) | ((repeat' apply And.intro) <;> first | assumption | rfl | omega | trivial)))) ?_ -- o2
  refine OK_jb (vJ0_init_4 _ _ _ _ _ (by omega) (by (rw [n6 A (-2) (by omega) (by omega), n6 A (-1) (by omega) (by omega)]; omega)) (by (rw [n6 A (-1) (by omega) (by omega)]; omega)) (by omega)) (fun h3 r1 => ?_)
  try dsimp only [Sum.elim_inl, Sum.elim_inr, jt2, jt3, jt4, jt5, jt6, jt7, jt8] at r1
  have sb1 := r1
  clear r1
  try simp (disch := omega) only [jst_eq, jst_ne, jst_ni, jI_i, jcmp_lt, jcmp_gt, w32_id, jcpy_out, Sum.elim_inl, Sum.elim_inr, jt2, jt3, jt4, jt5, jt6, jt7, jt8] at sb1
  refine OK_some ?_
  try dsimp only [Sum.elim_inl, Sum.elim_inr, jt2, jt3, jt4, jt5, jt6, jt7, jt8]
  (have TR := t7; obtain ⟨⟨s1, s2, s3⟩, s4, s5, s6, s7, s8, s9⟩ := sb1; have e9 : h 0 0 ≠ g1 0 0 := (by omega); have E : ∀ k, 0 ≤ k → k < tE B n q - tS B n q → h3 (g1 0 0) k = B (tS B n q + k) ∧ 97 ≤ B (tS B n q + k) ∧ B (tS B n q + k) ≤ 122 := fun k k0 k1 => (by have a := s8 k k0 k1; rw [n6 A _ (by omega) (by omega)] at a; have b := t7 (tS B n q + k) (by omega) (by omega); have c := K1.2.2.2.1 (tS B n q + k) (by omega) (by omega); omega); refine ⟨rfl, ⟨fun k => B (tS B n q + k), tE B n q - tS B n q, ⟨by rw [s9 _ _ (by omega) e9 (by omega)]; exact n4, s5, by rw [s4]; exact s6, by rw [s4]; exact s7, by omega, by omega, fun k k0 k1 => by rw [s4]; have := E k k0 k1; exact ⟨this.1, (by show 0 ≤ B (tS B n q + k); omega), (by show B (tS B n q + k) < 128; omega)⟩⟩, by omega, fun i i0 i1 => (E i i0 (by omega)).2, ?_⟩, by rw [s4]; omega, by omega, by omega, by omega, fun a s a0 a1 => by rw [s9 a s a0 (by omega) (by omega)]; exact n6 a s a0 (by omega)⟩; rw [K1.2.2.2.2]; exact cod_eq (fun i _ _ => by (show B (tS B n q + i) = B (tS B n q + (0 + i)); rw [Int.zero_add]))) -- o7 e1

