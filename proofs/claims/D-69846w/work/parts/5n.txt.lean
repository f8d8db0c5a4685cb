/-! texts: words, values -/
theorem tdg_len : ∀ (k : Nat) (w : Int), (tdg k w).length = k
  | 0, _ => rfl
  | k + 1, w => by show (tdg k w).length + 1 = k + 1; rw [tdg_len k w]
theorem vX14_say_l21 (i1 : Int) (a30 : Int) {h0 : AH} {K : Nat} (w : 0 ≤ i1 ∧ i1 < 282429536481) (k : a30 = pow27 K ∧ K ≤ 8) (n : 0 ≤ h0 454 19 ∧ h0 454 19 + 9 ≤ 4000) : OK (gX14_say_l21 i1 a30 h0) (fun h' => apB 454 19 471 (if i1 ≤ 0 then [] else tdg (K + 1) i1) h0 h') := by
  unfold gX14_say_l21
  refine OK_jit (I := (fun (s : Int × AH) => jt2 s fun a3 h => ∃ (m : Nat) (l : List Int), m ≤ K + 1 ∧ (m = 0 → a3 = 0) ∧ (m ≠ 0 → a3 = pow27 (m - 1)) ∧ l ++ tdg m i1 = tdg (K + 1) i1 ∧ apB 454 19 471 l h0 h ∧ (i1 ≤ 0 → l = []))) (m := (fun (s : Int × AH) => jt2 s fun a3 h => a3.toNat)) ?_ ?_
  · intro s hs
    obtain ⟨a3, h⟩ := s
    dsimp only [Sum.elim_inl, Sum.elim_inr, jt2, jt3, jt4, jt5, jt6, jt7, jt8] at hs
    have q0 := hs; clear hs
    unfold gX14_say_b21
    refine OK_jt2 ?_
    obtain ⟨m, l, m1, m2, m3, m4, m5, m6⟩ := q0
    have ll : l.length + m = K + 1 := by { have e := congrArg List.length m4; rw [List.length_append, tdg_len, tdg_len] at e; exact e }
    have c19 := m5.1
    refine OK_if (fun c1 => ?_) (fun c1 => ?_)
    · skip
      try simp (disch := omega) only [jst_eq, jst_ne, jst_ni, jI_i, jcmp_lt, jcmp_gt, w32_id, jcpy_out, Sum.elim_inl, Sum.elim_inr, jt2, jt3, jt4, jt5, jt6, jt7, jt8] at c1
      have g : a3 ≤ 0 := by first | exact c1 | exact jcmp_le.mp c1
      have mz : m = 0 := Classical.byContradiction fun y => by { have := m3 y; have := pow27_p (m - 1); omega }
      refine OK_ir ?_
      (subst mz; by_cases y : i1 ≤ 0; { rw [if_pos y]; rw [m6 y] at m5; exact m5 }; { rw [if_neg y, ← m4]; show apB _ _ _ (l ++ []) _ _; rw [List.append_nil]; exact m5 }) -- o1 e1
    · skip
      try simp (disch := omega) only [jst_eq, jst_ne, jst_ni, jI_i, jcmp_lt, jcmp_gt, w32_id, jcpy_out, Sum.elim_inl, Sum.elim_inr, jt2, jt3, jt4, jt5, jt6, jt7, jt8] at c1
      have g : 0 < a3 := by first | (exact Int.not_le.mp c1) | (exact Int.not_le.mp (fun y => c1 (jcmp_le.mpr y)))
      have mz : m ≠ 0 := fun y => by { have := m2 y; omega }
      obtain ⟨j, rfl⟩ : ∃ j, m = j + 1 := ⟨m - 1, by omega⟩
      have a3e : a3 = pow27 j := m3 (by omega)
      have p9 := pow27_9 (k := j) (by omega)
      have p0 := pow27_p j
      refine OK_if (fun c2 => ?_) (fun c2 => ?_)
      · skip
        try simp (disch := omega) only [jst_eq, jst_ne, jst_ni, jI_i, jcmp_lt, jcmp_gt, w32_id, jcpy_out, Sum.elim_inl, Sum.elim_inr, jt2, jt3, jt4, jt5, jt6, jt7, jt8] at c2
        have i0 : i1 ≤ 0 := by first | exact c2 | exact jcmp_le.mp c2
        refine OK_ir ?_
        (rw [if_pos i0]; rw [m6 i0] at m5; exact m5) -- o2 e2
      · skip
        try simp (disch := omega) only [jst_eq, jst_ne, jst_ni, jI_i, jcmp_lt, jcmp_gt, w32_id, jcpy_out, Sum.elim_inl, Sum.elim_inr, jt2, jt3, jt4, jt5, jt6, jt7, jt8] at c2
        have i0 : 0 < i1 := by first | (exact Int.not_le.mp c2) | (exact Int.not_le.mp (fun y => c2 (jcmp_le.mpr y)))
        have dq : jdivL i1 a3 = i1 / pow27 j := by { rw [a3e]; exact jdivL_nn (by omega) (by omega) (by omega) (by omega) }
        have d0 : 0 ≤ i1 / pow27 j := Int.ediv_nonneg (by omega) (by omega)
        have d1 : i1 / pow27 j ≤ i1 := Int.ediv_le_self _ (by omega)
        have rq : jremL (jdivL i1 a3) 27 = i1 / pow27 j % 27 := by { rw [dq]; exact jremL_nn (by omega) (by omega) (by decide) (by decide) }
        have vq : w32 (w32 (w32 (jremL (jdivL i1 a3) 27) + 97) - 1) = 96 + i1 / pow27 j % 27 := by { rw [rq, w32_id (x := _ % 27) (by omega) (by omega), w32_id (x := _ + 97) (by omega) (by omega), w32_id (by omega) (by omega)]; omega }
        have nq : jdivL a3 27 = pow27 j / 27 := by { rw [a3e]; exact jdivL_nn (by omega) (by omega) (by decide) (by decide) }
        refine OK_jg (by (first | assumption | omega | ((try dsimp only [jt2, jt3, jt4]); first | omega | (simp (disch := omega) only [jst_eq, jst_ne, jst_ni, jst_o, jI_i, jcpy_out, w32_id, jdiv_nn, jshr_k, jand_255] <;> first | done | omega | assumption)) | (intros; simp (disch := omega) only [jst_eq, jst_ne, jst_ni, jst_o, jI_i, jcpy_out, w32_id, jdiv_nn, *] <;> first | done | omega) | (intros; simp (disch := omega) only [jst_eq, jst_ne, jst_ni, jst_o, jI_i, jcpy_out, w32_id, jdiv_nn] at * <;> first | done | omega | assumption) | (intros; first | rfl | (exfalso; omega) | ((repeat' apply And.intro) <;> first | assumption | rfl | omega | trivial)))) ?_ -- o3
        refine OK_jb (vX14_letter _ (by (first | assumption | omega | ((try dsimp only [jt2, jt3, jt4]); first | omega | (simp (disch := omega) only [jst_eq, jst_ne, jst_ni, jst_o, jI_i, jcpy_out, w32_id, jdiv_nn, jshr_k, jand_255] <;> first | done | omega | assumption)) | (intros; simp (disch := omega) only [jst_eq, jst_ne, jst_ni, jst_o, jI_i, jcpy_out, w32_id, jdiv_nn, *] <;> first | done | omega) | (intros; simp (disch := omega) only [jst_eq, jst_ne, jst_ni, jst_o, jI_i, jcpy_out, w32_id, jdiv_nn] at * <;> first | done | omega | assumption) | (intros; first | rfl | (exfalso; omega) | ((repeat' apply And.intro) <;> first | assumption | rfl | omega | trivial))))) (fun h10 r1 => ?_)
        try dsimp only [Sum.elim_inl, Sum.elim_inr, jt2, jt3, jt4, jt5, jt6, jt7, jt8] at r1
        have ab1 := r1
        clear r1
        try simp (disch := omega) only [jst_eq, jst_ne, jst_ni, jI_i, jcmp_lt, jcmp_gt, w32_id, jcpy_out, Sum.elim_inl, Sum.elim_inr, jt2, jt3, jt4, jt5, jt6, jt7, jt8] at ab1
        have AB : apB 454 19 471 [96 + i1 / pow27 j % 27] h h10 := by { rw [show 96 + i1 / pow27 j % 27 = jremL (jdivL i1 a3) 27 + 97 - 1 by omega]; exact ab1 }
        refine OK_jlx (fun x11 ex11 => ?_)
        try simp (disch := omega) only [jst_eq, jst_ne, jst_ni, jI_i, jcmp_lt, jcmp_gt, w32_id, jcpy_out, Sum.elim_inl, Sum.elim_inr, jt2, jt3, jt4, jt5, jt6, jt7, jt8] at ex11
        refine OK_il ?_ ?_
        · (show ∃ (m : Nat) (l : List Int), m ≤ K + 1 ∧ (m = 0 → x11 = 0) ∧ (m ≠ 0 → x11 = pow27 (m - 1)) ∧ l ++ tdg m i1 = tdg (K + 1) i1 ∧ apB 454 19 471 l h0 h10 ∧ (i1 ≤ 0 → l = []); refine ⟨j, l ++ [96 + i1 / pow27 j % 27], by omega, fun y => ?_, fun y => ?_, ?_, apB_app (by decide) m5 AB, fun y => by omega⟩; { subst y; rw [ex11, nq]; rfl }; { obtain ⟨i, rfl⟩ : ∃ i, j = i + 1 := ⟨j - 1, by omega⟩; rw [ex11, nq]; show pow27 i * 27 / 27 = pow27 i; omega }; { rw [List.append_assoc]; exact m4 }) -- o5 e3i
        · (show x11.toNat < a3.toNat; rw [ex11, nq, a3e]; omega) -- o6 e3m
  · exact ⟨K + 1, [], Nat.le_refl _, fun y => by omega, fun _ => k.1, rfl, apB_nil, fun _ => rfl⟩ -- o7 init
theorem vX14_say (a1 : Int) {h : AH} (w : 0 ≤ a1 ∧ a1 < 282429536481) (n : 0 ≤ h 454 19 ∧ h 454 19 + 9 ≤ 4000) : OK (gX14_say a1 h) (fun h' => apB 454 19 471 (lts 9 a1) h h') := by
  unfold gX14_say
  refine OK_jb (vX14_say_l2 _ _ (by (first | assumption | omega | ((try dsimp only [jt2, jt3, jt4]); first | omega | (simp (disch := omega) only [jst_eq, jst_ne, jst_ni, jst_o, jI_i, jcpy_out, w32_id, jdiv_nn, jshr_k, jand_255] <;> first | done | omega | assumption)) | (intros; simp (disch := omega) only [jst_eq, jst_ne, jst_ni, jst_o, jI_i, jcpy_out, w32_id, jdiv_nn, *] <;> first | done | omega) | (intros; simp (disch := omega) only [jst_eq, jst_ne, jst_ni, jst_o, jI_i, jcpy_out, w32_id, jdiv_nn] at * <;> first | done | omega | assumption) | (intros; first | rfl | (exfalso; omega) | ((repeat' apply And.intro) <;> first | assumption | rfl | omega | trivial)))) (by (first | assumption | omega | ((try dsimp only [jt2, jt3, jt4]); first | omega | (simp (disch := omega) only [jst_eq, jst_ne, jst_ni, jst_o, jI_i, jcpy_out, w32_id, jdiv_nn, jshr_k, jand_255] <;> first | done | omega | assumption)) | (intros; simp (disch := omega) only [jst_eq, jst_ne, jst_ni, jst_o, jI_i, jcpy_out, w32_id, jdiv_nn, *] <;> first | done | omega) | (intros; simp (disch := omega) only [jst_eq, jst_ne, jst_ni, jst_o, jI_i, jcpy_out, w32_id, jdiv_nn] at * <;> first | done | omega | assumption) | (intros; first | rfl | (exfalso; omega) | ((repeat' apply And.intro) <;> first | assumption | rfl | omega | trivial))))) (fun o1 r1 => ?_)
  try dsimp only [Sum.elim_inl, Sum.elim_inr, jt2, jt3, jt4, jt5, jt6, jt7, jt8] at r1
  have rr1 := r1
  clear r1
  try simp (disch := omega) only [jst_eq, jst_ne, jst_ni, jI_i, jcmp_lt, jcmp_gt, w32_id, jcpy_out, Sum.elim_inl, Sum.elim_inr, jt2, jt3, jt4, jt5, jt6, jt7, jt8] at rr1
  obtain ⟨K, k1, k2, k3, k4⟩ := rr1
  refine OK_jb (vX14_say_l21 (K := K) _ _ (by (first | assumption | omega | ((try dsimp only [jt2, jt3, jt4]); first | omega | (simp (disch := omega) only [jst_eq, jst_ne, jst_ni, jst_o, jI_i, jcpy_out, w32_id, jdiv_nn, jshr_k, jand_255] <;> first | done | omega | assumption)) | (intros; simp (disch := omega) only [jst_eq, jst_ne, jst_ni, jst_o, jI_i, jcpy_out, w32_id, jdiv_nn, *] <;> first | done | omega) | (intros; simp (disch := omega) only [jst_eq, jst_ne, jst_ni, jst_o, jI_i, jcpy_out, w32_id, jdiv_nn] at * <;> first | done | omega | assumption) | (intros; first | rfl | (exfalso; omega) | ((repeat' apply And.intro) <;> first | assumption | rfl | omega | trivial)))) (by (first | assumption | omega | ((try dsimp only [jt2, jt3, jt4]); first | omega | (simp (disch := omega) only [jst_eq, jst_ne, jst_ni, jst_o, jI_i, jcpy_out, w32_id, jdiv_nn, jshr_k, jand_255] <;> first | done | omega | assumption)) | (intros; simp (disch := omega) only [jst_eq, jst_ne, jst_ni, jst_o, jI_i, jcpy_out, w32_id, jdiv_nn, *] <;> first | done | omega) | (intros; simp (disch := omega) only [jst_eq, jst_ne, jst_ni, jst_o, jI_i, jcpy_out, w32_id, jdiv_nn] at * <;> first | done | omega | assumption) | (intros; first | rfl | (exfalso; omega) | ((repeat' apply And.intro) <;> first | assumption | rfl | omega | trivial)))) (by (first | assumption | omega | ((try dsimp only [jt2, jt3, jt4]); first | omega | (simp (disch := omega) only [jst_eq, jst_ne, jst_ni, jst_o, jI_i, jcpy_out, w32_id, jdiv_nn, jshr_k, jand_255] <;> first | done | omega | assumption)) | (intros; simp (disch := omega) only [jst_eq, jst_ne, jst_ni, jst_o, jI_i, jcpy_out, w32_id, jdiv_nn, *] <;> first | done | omega) | (intros; simp (disch := omega) only [jst_eq, jst_ne, jst_ni, jst_o, jI_i, jcpy_out, w32_id, jdiv_nn] at * <;> first | done | omega | assumption) | (intros; first | rfl | (exfalso; omega) | ((repeat' apply And.intro) <;> first | assumption | rfl | omega | trivial))))) (fun o3 r2 => ?_)
  try dsimp only [Sum.elim_inl, Sum.elim_inr, jt2, jt3, jt4, jt5, jt6, jt7, jt8] at r2
  have ab2 := r2
  clear r2
  try simp (disch := omega) only [jst_eq, jst_ne, jst_ni, jI_i, jcmp_lt, jcmp_gt, w32_id, jcpy_out, Sum.elim_inl, Sum.elim_inr, jt2, jt3, jt4, jt5, jt6, jt7, jt8] at ab2
  refine OK_some ?_
  try dsimp only [Sum.elim_inl, Sum.elim_inr, jt2, jt3, jt4, jt5, jt6, jt7, jt8]
  (by_cases y : a1 ≤ 0; { rw [if_pos y] at ab2; rw [lts_0 y]; exact ab2 }; { rw [if_neg y] at ab2; have kk : pow27 K ≤ a1 := (by rcases k3 with z | z; { subst z; have e : pow27 0 = 1 := rfl; omega }; { exact z }); rw [lts_s (n := K + 1) k4 9 (by omega), lts_t K a1 kk k4]; exact ab2 }) -- o6 e1
def CLX (F : Int → Int → AH → Option AH) (k : Nat) : Prop := ∀ (a w : Int) (h : AH) (n : Nat), n ≤ k → n ≤ 6 → 0 ≤ w → w < pow27 n → (0 ≤ h a 1 ∧ h a 1 + n ≤ h (a + 1) (-1) ∧ h (a + 1) (-1) ≤ 100000) → OK (F a w h) (fun h' => apB a 1 (a + 1) (lts n w) h h')
theorem vX6_letters_ {F : Int → Int → AH → Option (AH)} (a0 : Int) (a1 : Int) {h : AH} {k n : Nat} (hF : CLX F k) (n1 : n ≤ k + 1 ∧ n ≤ 6) (w : 0 ≤ a1 ∧ a1 < pow27 n) (c : 0 ≤ h a0 1 ∧ h a0 1 + n ≤ h (a0 + 1) (-1) ∧ h (a0 + 1) (-1) ≤ 100000) : OK (gX6_letters_ F a0 a1 h) (fun h' => apB a0 1 (a0 + 1) (lts n a1) h h') := by
  have p9 := pow27_le (n := n) n1.2
  unfold gX6_letters_
  refine OK_if (fun c1 => ?_) (fun c1 => ?_)
  · skip
    try simp (disch := omega) only [jst_eq, jst_ne, jst_ni, jI_i, jcmp_lt, jcmp_gt, w32_id, jcpy_out, Sum.elim_inl, Sum.elim_inr, jt2, jt3, jt4, jt5, jt6, jt7, jt8] at c1
    refine OK_some ?_
    try dsimp only [Sum.elim_inl, Sum.elim_inr, jt2, jt3, jt4, jt5, jt6, jt7, jt8]
    (rw [lts_0 (by omega)]; exact apB_nil) -- o1 e1
  · skip
    try simp (disch := omega) only [jst_eq, jst_ne, jst_ni, jI_i, jcmp_lt, jcmp_gt, w32_id, jcpy_out, Sum.elim_inl, Sum.elim_inr, jt2, jt3, jt4, jt5, jt6, jt7, jt8] at c1
    obtain ⟨m, rfl⟩ : ∃ m, n = m + 1 := ⟨n - 1, by { cases n with | zero => { have : pow27 0 = 1 := rfl; omega } | succ n => { omega } }⟩
    have pe : pow27 (m + 1) = pow27 m * 27 := rfl
    have dq : jdiv a1 27 = a1 / 27 := jdiv_nn (by omega) (by omega) (by decide) (by decide)
    have rq : jrem a1 27 = a1 % 27 := jrem_nn (by omega) (by omega) (by decide) (by decide)
    refine OK_jb (hF _ _ _ m (by (first | assumption | omega | ((try dsimp only [jt2, jt3, jt4]); first | omega | (simp (disch := omega) only [jst_eq, jst_ne, jst_ni, jst_o, jI_i, jcpy_out, w32_id, jdiv_nn, jshr_k, jand_255] <;> first | done | omega | assumption)) | (intros; simp (disch := omega) only [jst_eq, jst_ne, jst_ni, jst_o, jI_i, jcpy_out, w32_id, jdiv_nn, *] <;> first | done | omega) | (intros; simp (disch := omega) only [jst_eq, jst_ne, jst_ni, jst_o, jI_i, jcpy_out, w32_id, jdiv_nn] at * <;> first | done | omega | assumption) | (intros; first | rfl | (exfalso; omega) | ((repeat' apply And.intro) <;> first | assumption | rfl | omega | trivial)))) (by (first | assumption | omega | ((try dsimp only [jt2, jt3, jt4]); first | omega | (simp (disch := omega) only [jst_eq, jst_ne, jst_ni, jst_o, jI_i, jcpy_out, w32_id, jdiv_nn, jshr_k, jand_255] <;> first | done | omega | assumption)) | (intros; simp (disch := omega) only [jst_eq, jst_ne, jst_ni, jst_o, jI_i, jcpy_out, w32_id, jdiv_nn, *] <;> first | done | omega) | (intros; simp (disch := omega) only [jst_eq, jst_ne, jst_ni, jst_o, jI_i, jcpy_out, w32_id, jdiv_nn] at * <;> first | done | omega | assumption) | (intros; first | rfl | (exfalso; omega) | ((repeat' apply And.intro) <;> first | assumption | rfl | omega | trivial)))) (by omega) (by omega) (by (first | assumption | omega | ((try dsimp only [jt2, jt3, jt4]); first | omega | (simp (disch := omega) only [jst_eq, jst_ne, jst_ni, jst_o, jI_i, jcpy_out, w32_id, jdiv_nn, jshr_k, jand_255] <;> first | done | omega | assumption)) | (intros; simp (disch := omega) only [jst_eq, jst_ne, jst_ni, jst_o, jI_i, jcpy_out, w32_id, jdiv_nn, *] <;> first | done | omega) | (intros; simp (disch := omega) only [jst_eq, jst_ne, jst_ni, jst_o, jI_i, jcpy_out, w32_id, jdiv_nn] at * <;> first | done | omega | assumption) | (intros; first | rfl | (exfalso; omega) | ((repeat' apply And.intro) <;> first | assumption | rfl | omega | trivial))))) (fun h3 r1 => ?_)
    try dsimp only [Sum.elim_inl, Sum.elim_inr, jt2, jt3, jt4, jt5, jt6, jt7, jt8] at r1
    have ab1 := r1
    clear r1
    try simp (disch := omega) only [jst_eq, jst_ne, jst_ni, jI_i, jcmp_lt, jcmp_gt, w32_id, jcpy_out, Sum.elim_inl, Sum.elim_inr, jt2, jt3, jt4, jt5, jt6, jt7, jt8] at ab1
    rw [dq] at ab1
    have L := lts_len m (a1 / 27)
    have q3 := ab1.1
    have k3 := apB_k (by omega) c.1 ab1
    refine OK_jb (vX6_put _ _ (by (first | assumption | omega | ((try dsimp only [jt2, jt3, jt4]); first | omega | (simp (disch := omega) only [jst_eq, jst_ne, jst_ni, jst_o, jI_i, jcpy_out, w32_id, jdiv_nn, jshr_k, jand_255] <;> first | done | omega | assumption)) | (intros; simp (disch := omega) only [jst_eq, jst_ne, jst_ni, jst_o, jI_i, jcpy_out, w32_id, jdiv_nn, *] <;> first | done | omega) | (intros; simp (disch := omega) only [jst_eq, jst_ne, jst_ni, jst_o, jI_i, jcpy_out, w32_id, jdiv_nn] at * <;> first | done | omega | assumption) | (intros; first | rfl | (exfalso; omega) | ((repeat' apply And.intro) <;> first | assumption | rfl | omega | trivial)))) (by (first | assumption | omega | ((try dsimp only [jt2, jt3, jt4]); first | omega | (simp (disch := omega) only [jst_eq, jst_ne, jst_ni, jst_o, jI_i, jcpy_out, w32_id, jdiv_nn, jshr_k, jand_255] <;> first | done | omega | assumption)) | (intros; simp (disch := omega) only [jst_eq, jst_ne, jst_ni, jst_o, jI_i, jcpy_out, w32_id, jdiv_nn, *] <;> first | done | omega) | (intros; simp (disch := omega) only [jst_eq, jst_ne, jst_ni, jst_o, jI_i, jcpy_out, w32_id, jdiv_nn] at * <;> first | done | omega | assumption) | (intros; first | rfl | (exfalso; omega) | ((repeat' apply And.intro) <;> first | assumption | rfl | omega | trivial))))) (fun h5 r2 => ?_)
    try dsimp only [Sum.elim_inl, Sum.elim_inr, jt2, jt3, jt4, jt5, jt6, jt7, jt8] at r2
    have ab2 := r2
    clear r2
    try simp (disch := omega) only [jst_eq, jst_ne, jst_ni, jI_i, jcmp_lt, jcmp_gt, w32_id, jcpy_out, Sum.elim_inl, Sum.elim_inr, jt2, jt3, jt4, jt5, jt6, jt7, jt8] at ab2
    refine OK_some ?_
    try dsimp only [Sum.elim_inl, Sum.elim_inr, jt2, jt3, jt4, jt5, jt6, jt7, jt8]
    (rw [show lts (m + 1) a1 = lts m (a1 / 27) ++ [96 + a1 % 27] from if_neg (by omega)]; refine apB_app (by omega) ab1 ?_; rw [show 96 + a1 % 27 = 97 + jrem a1 27 - 1 by omega]; exact ab2) -- o9 e2
theorem CLX_D : ∀ D : Nat, CLX (gX6_lettersD (D + 1)) D
  | 0 => fun a w h n n0 n6 w0 w1 c => by
    have e : n = 0 := by omega
    subst e
    have : pow27 0 = 1 := rfl
    have wz : w = 0 := by omega
    subst wz
    exact ⟨h, rfl, apB_nil⟩
  | D + 1 => fun a w h n n0 n6 w0 w1 c => vX6_letters_ a w (CLX_D D) ⟨n0, n6⟩ ⟨w0, w1⟩ c
theorem pow27_69 {w : Int} (h : w < 387420489) : lts 9 w = lts 6 w := lts_s (n := 6) (by have : pow27 6 = 387420489 := (by decide); omega) 9 (by decide)
theorem vX6_letters (a0 a1 : Int) {h : AH} (w : 0 ≤ a1 ∧ a1 < 387420489) (c : 0 ≤ h a0 1 ∧ h a0 1 + 6 ≤ h (a0 + 1) (-1) ∧ h (a0 + 1) (-1) ≤ 100000) : OK (gX6_letters a0 a1 h) (fun h' => apB a0 1 (a0 + 1) (lts 9 a1) h h') := by
  rw [pow27_69 w.2]
  exact CLX_D 39 a0 a1 h 6 (by decide) (by decide) w.1 (by have : pow27 6 = 387420489 := (by decide); omega) c
theorem nml_lts {c : Int → Int} {m : Int} (l : lets c 0 m) (h0 : 0 ≤ m) (h8 : m ≤ 8) : nml c m.toNat = lts 9 (cod c 0 m.toNat) := by
  have l' : lets c 0 ((m.toNat : Nat) : Int) := fun i i0 i1 => l i i0 (by omega)
  have r := cod_r (B := c) (s := 0) (k := m.toNat) (fun i i0 i1 => l i i0 (by omega))
  have p : ((27 ^ m.toNat : Nat) : Int) = pow27 m.toNat := by
    generalize m.toNat = k
    induction k with
    | zero => rfl
    | succ k ih => rw [Nat.pow_succ, Int.natCast_mul, ih]; rfl
  rw [lts_s (n := m.toNat) (by omega) 9 (by omega), lts_cod m.toNat l']
  unfold nml
  congr 1
  funext i
  rw [Int.zero_add]
/-- what a value is told by -/
def txV (k v : Int) : List Int := if k = 0 then dig v else if k = 1 then lts 9 (if v = 1 then 407354 else 3217595) else [34] ++ lts 9 v ++ [34]
theorem vX1_tellValue_j30 (t0 : Int) (t1 : Int) {h : AH} {w : Int} (nm : nmS h t1 w) (aw : t1 ≠ t0 ∧ t1 ≠ t0 + 1 ∧ h t1 0 ≠ t0 ∧ h t1 0 ≠ t0 + 1) (n : 0 ≤ h t0 1 ∧ h t0 1 + 8 ≤ h (t0 + 1) (-1) ∧ h (t0 + 1) (-1) ≤ 100000) : OK (gX1_tellValue_j30 t0 t1 h) (fun h' => apB t0 1 (t0 + 1) (lts 9 w) h h') := by
  obtain ⟨c, m, s, m8, l, ew⟩ := nm
  have s0 := s.2.2.2.2.1
  unfold gX1_tellValue_j30
  refine OK_jb (vX6_put_2 (c := c) (m := m) _ _ (by (first | assumption | omega | ((try dsimp only [jt2, jt3, jt4]); first | omega | (simp (disch := omega) only [jst_eq, jst_ne, jst_ni, jst_o, jI_i, jcpy_out, w32_id, jdiv_nn, jshr_k, jand_255] <;> first | done | omega | assumption)) | (intros; simp (disch := omega) only [jst_eq, jst_ne, jst_ni, jst_o, jI_i, jcpy_out, w32_id, jdiv_nn, *] <;> first | done | omega) | (intros; simp (disch := omega) only [jst_eq, jst_ne, jst_ni, jst_o, jI_i, jcpy_out, w32_id, jdiv_nn] at * <;> first | done | omega | assumption) | (intros; first | rfl | (exfalso; omega) | ((repeat' apply And.intro) <;> first | assumption | rfl | omega | trivial)))) (by (first | assumption | omega | ((try dsimp only [jt2, jt3, jt4]); first | omega | (simp (disch := omega) only [jst_eq, jst_ne, jst_ni, jst_o, jI_i, jcpy_out, w32_id, jdiv_nn, jshr_k, jand_255] <;> first | done | omega | assumption)) | (intros; simp (disch := omega) only [jst_eq, jst_ne, jst_ni, jst_o, jI_i, jcpy_out, w32_id, jdiv_nn, *] <;> first | done | omega) | (intros; simp (disch := omega) only [jst_eq, jst_ne, jst_ni, jst_o, jI_i, jcpy_out, w32_id, jdiv_nn] at * <;> first | done | omega | assumption) | (intros; first | rfl | (exfalso; omega) | ((repeat' apply And.intro) <;> first | assumption | rfl | omega | trivial)))) (by (first | assumption | omega | ((try dsimp only [jt2, jt3, jt4]); first | omega | (simp (disch := omega) only [jst_eq, jst_ne, jst_ni, jst_o, jI_i, jcpy_out, w32_id, jdiv_nn, jshr_k, jand_255] <;> first | done | omega | assumption)) | (intros; simp (disch := omega) only [jst_eq, jst_ne, jst_ni, jst_o, jI_i, jcpy_out, w32_id, jdiv_nn, *] <;> first | done | omega) | (intros; simp (disch := omega) only [jst_eq, jst_ne, jst_ni, jst_o, jI_i, jcpy_out, w32_id, jdiv_nn] at * <;> first | done | omega | assumption) | (intros; first | rfl | (exfalso; omega) | ((repeat' apply And.intro) <;> first | assumption | rfl | omega | trivial))))) (fun h13 r1 => ?_)
  try dsimp only [Sum.elim_inl, Sum.elim_inr, jt2, jt3, jt4, jt5, jt6, jt7, jt8] at r1
  have ab1 := r1
  clear r1
  try simp (disch := omega) only [jst_eq, jst_ne, jst_ni, jI_i, jcmp_lt, jcmp_gt, w32_id, jcpy_out, Sum.elim_inl, Sum.elim_inr, jt2, jt3, jt4, jt5, jt6, jt7, jt8] at ab1
  refine OK_some ?_
  try dsimp only [Sum.elim_inl, Sum.elim_inr, jt2, jt3, jt4, jt5, jt6, jt7, jt8]
  (rw [ew, ← nml_lts l s0 m8]; exact ab1) -- o4 e1
theorem Od_0 {h : AH} (o : Od h) : h 22 0 = 23 ∧ h 24 0 = 25 := by
  obtain ⟨S, f⟩ := o
  exact ⟨(f 22 0 (by decide) (by decide)).trans rfl, (f 24 0 (by decide) (by decide)).trans rfl⟩
theorem vX1_tellValue (a0 : Int) (a1 : Int) (a2 : Int) {h : AH} (v : vlR a0 a1 ∧ 0 ≤ a0 ∧ a0 ≤ 2) (o : Od h) (t : 258 ≤ a2) (c : 0 ≤ h a2 1 ∧ h a2 1 + 11 ≤ h (a2 + 1) (-1) ∧ h (a2 + 1) (-1) ≤ 100000) : OK (gX1_tellValue a0 a1 a2 h) (fun h' => apB a2 1 (a2 + 1) (txV a0 a1) h h') := by
  have vv := v.1
  unfold vlR at vv
  obtain ⟨v0, v1, v2, v3⟩ := vv
  have o0 := Od_0 o
  unfold gX1_tellValue
  refine OK_if (fun c1 => ?_) (fun c1 => ?_)
  · skip
    try simp (disch := omega) only [jst_eq, jst_ne, jst_ni, jI_i, jcmp_lt, jcmp_gt, w32_id, jcpy_out, Sum.elim_inl, Sum.elim_inr, jt2, jt3, jt4, jt5, jt6, jt7, jt8] at c1
    have r0 := v1 c1
    refine OK_jb (vX6_number _ _ (by (first | assumption | omega | ((try dsimp only [jt2, jt3, jt4]); first | omega | (simp (disch := omega) only [jst_eq, jst_ne, jst_ni, jst_o, jI_i, jcpy_out, w32_id, jdiv_nn, jshr_k, jand_255] <;> first | done | omega | assumption)) | (intros; simp (disch := omega) only [jst_eq, jst_ne, jst_ni, jst_o, jI_i, jcpy_out, w32_id, jdiv_nn, *] <;> first | done | omega) | (intros; simp (disch := omega) only [jst_eq, jst_ne, jst_ni, jst_o, jI_i, jcpy_out, w32_id, jdiv_nn] at * <;> first | done | omega | assumption) | (intros; first | rfl | (exfalso; omega) | ((repeat' apply And.intro) <;> first | assumption | rfl | omega | trivial)))) (by (first | assumption | omega | ((try dsimp only [jt2, jt3, jt4]); first | omega | (simp (disch := omega) only [jst_eq, jst_ne, jst_ni, jst_o, jI_i, jcpy_out, w32_id, jdiv_nn, jshr_k, jand_255] <;> first | done | omega | assumption)) | (intros; simp (disch := omega) only [jst_eq, jst_ne, jst_ni, jst_o, jI_i, jcpy_out, w32_id, jdiv_nn, *] <;> first | done | omega) | (intros; simp (disch := omega) only [jst_eq, jst_ne, jst_ni, jst_o, jI_i, jcpy_out, w32_id, jdiv_nn] at * <;> first | done | omega | assumption) | (intros; first | rfl | (exfalso; omega) | ((repeat' apply And.intro) <;> first | assumption | rfl | omega | trivial))))) (fun h3 r1 => ?_)
    try dsimp only [Sum.elim_inl, Sum.elim_inr, jt2, jt3, jt4, jt5, jt6, jt7, jt8] at r1
    have ab1 := r1
    clear r1
    try simp (disch := omega) only [jst_eq, jst_ne, jst_ni, jI_i, jcmp_lt, jcmp_gt, w32_id, jcpy_out, Sum.elim_inl, Sum.elim_inr, jt2, jt3, jt4, jt5, jt6, jt7, jt8] at ab1
    refine OK_some ?_
    try dsimp only [Sum.elim_inl, Sum.elim_inr, jt2, jt3, jt4, jt5, jt6, jt7, jt8]
    (unfold txV; rw [if_pos c1]; exact ab1) -- o3 e1
  · skip
    try simp (disch := omega) only [jst_eq, jst_ne, jst_ni, jI_i, jcmp_lt, jcmp_gt, w32_id, jcpy_out, Sum.elim_inl, Sum.elim_inr, jt2, jt3, jt4, jt5, jt6, jt7, jt8] at c1
    refine OK_if (fun c2 => ?_) (fun c2 => ?_)
    · skip
      try simp (disch := omega) only [jst_eq, jst_ne, jst_ni, jI_i, jcmp_lt, jcmp_gt, w32_id, jcpy_out, Sum.elim_inl, Sum.elim_inr, jt2, jt3, jt4, jt5, jt6, jt7, jt8] at c2
      refine OK_if (fun c3 => ?_) (fun c3 => ?_)
      · skip
        try simp (disch := omega) only [jst_eq, jst_ne, jst_ni, jI_i, jcmp_lt, jcmp_gt, w32_id, jcpy_out, Sum.elim_inl, Sum.elim_inr, jt2, jt3, jt4, jt5, jt6, jt7, jt8] at c3
        refine OK_mono (vX1_tellValue_j30 (w := if a1 = 1 then 407354 else 3217595) _ _ (by (rw [if_pos c3]; exact nm_true o)) (by (rw [o0.1]; omega)) (by (first | assumption | omega | ((try dsimp only [jt2, jt3, jt4]); first | omega | (simp (disch := omega) only [jst_eq, jst_ne, jst_ni, jst_o, jI_i, jcpy_out, w32_id, jdiv_nn, jshr_k, jand_255] <;> first | done | omega | assumption)) | (intros; simp (disch := omega) only [jst_eq, jst_ne, jst_ni, jst_o, jI_i, jcpy_out, w32_id, jdiv_nn, *] <;> first | done | omega) | (intros; simp (disch := omega) only [jst_eq, jst_ne, jst_ni, jst_o, jI_i, jcpy_out, w32_id, jdiv_nn] at * <;> first | done | omega | assumption) | (intros; first | rfl | (exfalso; omega) | ((repeat' apply And.intro) <;> first | assumption | rfl | omega | trivial))))) (fun r r2 => ?_)
        try dsimp only [Sum.elim_inl, Sum.elim_inr, jt2, jt3, jt4, jt5, jt6, jt7, jt8] at r2
        have ab2 := r2
        clear r2
        try simp (disch := omega) only [jst_eq, jst_ne, jst_ni, jI_i, jcmp_lt, jcmp_gt, w32_id, jcpy_out, Sum.elim_inl, Sum.elim_inr, jt2, jt3, jt4, jt5, jt6, jt7, jt8] at ab2
        try dsimp only [Sum.elim_inl, Sum.elim_inr, jt2, jt3, jt4, jt5, jt6, jt7, jt8]
        (unfold txV; rw [if_neg c1, if_pos c2]; exact ab2) -- o7 e2
      · skip
        try simp (disch := omega) only [jst_eq, jst_ne, jst_ni, jI_i, jcmp_lt, jcmp_gt, w32_id, jcpy_out, Sum.elim_inl, Sum.elim_inr, jt2, jt3, jt4, jt5, jt6, jt7, jt8] at c3
        refine OK_mono (vX1_tellValue_j30 (w := if a1 = 1 then 407354 else 3217595) _ _ (by (rw [if_neg c3]; exact nm_false o)) (by (rw [o0.2]; omega)) (by (first | assumption | omega | ((try dsimp only [jt2, jt3, jt4]); first | omega | (simp (disch := omega) only [jst_eq, jst_ne, jst_ni, jst_o, jI_i, jcpy_out, w32_id, jdiv_nn, jshr_k, jand_255] <;> first | done | omega | assumption)) | (intros; simp (disch := omega) only [jst_eq, jst_ne, jst_ni, jst_o, jI_i, jcpy_out, w32_id, jdiv_nn, *] <;> first | done | omega) | (intros; simp (disch := omega) only [jst_eq, jst_ne, jst_ni, jst_o, jI_i, jcpy_out, w32_id, jdiv_nn] at * <;> first | done | omega | assumption) | (intros; first | rfl | (exfalso; omega) | ((repeat' apply And.intro) <;> first | assumption | rfl | omega | trivial))))) (fun r r3 => ?_)
        try dsimp only [Sum.elim_inl, Sum.elim_inr, jt2, jt3, jt4, jt5, jt6, jt7, jt8] at r3
        have ab3 := r3
        clear r3
        try simp (disch := omega) only [jst_eq, jst_ne, jst_ni, jI_i, jcmp_lt, jcmp_gt, w32_id, jcpy_out, Sum.elim_inl, Sum.elim_inr, jt2, jt3, jt4, jt5, jt6, jt7, jt8] at ab3
        try dsimp only [Sum.elim_inl, Sum.elim_inr, jt2, jt3, jt4, jt5, jt6, jt7, jt8]
        (unfold txV; rw [if_neg c1, if_pos c2]; exact ab3) -- o11 e3
    · skip
      try simp (disch := omega) only [jst_eq, jst_ne, jst_ni, jI_i, jcmp_lt, jcmp_gt, w32_id, jcpy_out, Sum.elim_inl, Sum.elim_inr, jt2, jt3, jt4, jt5, jt6, jt7, jt8] at c2
      have k2 : a0 = 2 := by omega
      have r2 := v3 k2
      refine OK_jb (vX6_put _ _ (by (first | assumption | omega | ((try dsimp only [jt2, jt3, jt4]); first | omega | (simp (disch := omega) only [jst_eq, jst_ne, jst_ni, jst_o, jI_i, jcpy_out, w32_id, jdiv_nn, jshr_k, jand_255] <;> first | done | omega | assumption)) | (intros; simp (disch := omega) only [jst_eq, jst_ne, jst_ni, jst_o, jI_i, jcpy_out, w32_id, jdiv_nn, *] <;> first | done | omega) | (intros; simp (disch := omega) only [jst_eq, jst_ne, jst_ni, jst_o, jI_i, jcpy_out, w32_id, jdiv_nn] at * <;> first | done | omega | assumption) | (intros; first | rfl | (exfalso; omega) | ((repeat' apply And.intro) <;> first | assumption | rfl | omega | trivial)))) (by (first | assumption | omega | ((try dsimp only [jt2, jt3, jt4]); first | omega | (simp (disch := omega) only [jst_eq, jst_ne, jst_ni, jst_o, jI_i, jcpy_out, w32_id, jdiv_nn, jshr_k, jand_255] <;> first | done | omega | assumption)) | (intros; simp (disch := omega) only [jst_eq, jst_ne, jst_ni, jst_o, jI_i, jcpy_out, w32_id, jdiv_nn, *] <;> first | done | omega) | (intros; simp (disch := omega) only [jst_eq, jst_ne, jst_ni, jst_o, jI_i, jcpy_out, w32_id, jdiv_nn] at * <;> first | done | omega | assumption) | (intros; first | rfl | (exfalso; omega) | ((repeat' apply And.intro) <;> first | assumption | rfl | omega | trivial))))) (fun h7 r4 => ?_)
      try dsimp only [Sum.elim_inl, Sum.elim_inr, jt2, jt3, jt4, jt5, jt6, jt7, jt8] at r4
      have ab4 := r4
      clear r4
      try simp (disch := omega) only [jst_eq, jst_ne, jst_ni, jI_i, jcmp_lt, jcmp_gt, w32_id, jcpy_out, Sum.elim_inl, Sum.elim_inr, jt2, jt3, jt4, jt5, jt6, jt7, jt8] at ab4
      have q7 := apB_1 ab4
      have k7 := apB_k (by omega) c.1 ab4
      refine OK_jb (vX6_letters _ _ (by (first | assumption | omega | ((try dsimp only [jt2, jt3, jt4]); first | omega | (simp (disch := omega) only [jst_eq, jst_ne, jst_ni, jst_o, jI_i, jcpy_out, w32_id, jdiv_nn, jshr_k, jand_255] <;> first | done | omega | assumption)) | (intros; simp (disch := omega) only [jst_eq, jst_ne, jst_ni, jst_o, jI_i, jcpy_out, w32_id, jdiv_nn, *] <;> first | done | omega) | (intros; simp (disch := omega) only [jst_eq, jst_ne, jst_ni, jst_o, jI_i, jcpy_out, w32_id, jdiv_nn] at * <;> first | done | omega | assumption) | (intros; first | rfl | (exfalso; omega) | ((repeat' apply And.intro) <;> first | assumption | rfl | omega | trivial)))) (by (first | assumption | omega | ((try dsimp only [jt2, jt3, jt4]); first | omega | (simp (disch := omega) only [jst_eq, jst_ne, jst_ni, jst_o, jI_i, jcpy_out, w32_id, jdiv_nn, jshr_k, jand_255] <;> first | done | omega | assumption)) | (intros; simp (disch := omega) only [jst_eq, jst_ne, jst_ni, jst_o, jI_i, jcpy_out, w32_id, jdiv_nn, *] <;> first | done | omega) | (intros; simp (disch := omega) only [jst_eq, jst_ne, jst_ni, jst_o, jI_i, jcpy_out, w32_id, jdiv_nn] at * <;> first | done | omega | assumption) | (intros; first | rfl | (exfalso; omega) | ((repeat' apply And.intro) <;> first | assumption | rfl | omega | trivial))))) (fun h9 r5 => ?_)
      try dsimp only [Sum.elim_inl, Sum.elim_inr, jt2, jt3, jt4, jt5, jt6, jt7, jt8] at r5
      have ab5 := r5
      clear r5
      try simp (disch := omega) only [jst_eq, jst_ne, jst_ni, jI_i, jcmp_lt, jcmp_gt, w32_id, jcpy_out, Sum.elim_inl, Sum.elim_inr, jt2, jt3, jt4, jt5, jt6, jt7, jt8] at ab5
      have q9 := ab5.1
      have k9 := apB_k (by omega) (by omega) ab5
      have L9 := lts_len 9 a1
      refine OK_jb (vX6_put _ _ (by (first | assumption | omega | ((try dsimp only [jt2, jt3, jt4]); first | omega | (simp (disch := omega) only [jst_eq, jst_ne, jst_ni, jst_o, jI_i, jcpy_out, w32_id, jdiv_nn, jshr_k, jand_255] <;> first | done | omega | assumption)) | (intros; simp (disch := omega) only [jst_eq, jst_ne, jst_ni, jst_o, jI_i, jcpy_out, w32_id, jdiv_nn, *] <;> first | done | omega) | (intros; simp (disch := omega) only [jst_eq, jst_ne, jst_ni, jst_o, jI_i, jcpy_out, w32_id, jdiv_nn] at * <;> first | done | omega | assumption) | (intros; first | rfl | (exfalso; omega) | ((repeat' apply And.intro) <;> first | assumption | rfl | omega | trivial)))) (by (first | assumption | omega | ((try dsimp only [jt2, jt3, jt4]); first | omega | (simp (disch := omega) only [jst_eq, jst_ne, jst_ni, jst_o, jI_i, jcpy_out, w32_id, jdiv_nn, jshr_k, jand_255] <;> first | done | omega | assumption)) | (intros; simp (disch := omega) only [jst_eq, jst_ne, jst_ni, jst_o, jI_i, jcpy_out, w32_id, jdiv_nn, *] <;> first | done | omega) | (intros; simp (disch := omega) only [jst_eq, jst_ne, jst_ni, jst_o, jI_i, jcpy_out, w32_id, jdiv_nn] at * <;> first | done | omega | assumption) | (intros; first | rfl | (exfalso; omega) | ((repeat' apply And.intro) <;> first | assumption | rfl | omega | trivial))))) (fun h11 r6 => ?_)
      try dsimp only [Sum.elim_inl, Sum.elim_inr, jt2, jt3, jt4, jt5, jt6, jt7, jt8] at r6
      have ab6 := r6
      clear r6
      try simp (disch := omega) only [jst_eq, jst_ne, jst_ni, jI_i, jcmp_lt, jcmp_gt, w32_id, jcpy_out, Sum.elim_inl, Sum.elim_inr, jt2, jt3, jt4, jt5, jt6, jt7, jt8] at ab6
      refine OK_some ?_
      try dsimp only [Sum.elim_inl, Sum.elim_inr, jt2, jt3, jt4, jt5, jt6, jt7, jt8]
      (unfold txV; rw [if_neg c1, if_neg c2]; exact apB_app (by omega) (apB_app (by omega) ab4 ab5) ab6) -- o18 e4

