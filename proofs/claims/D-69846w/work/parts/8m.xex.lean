/-! x: rows of examples come and go -/
theorem vX1_exampleMay_l36 (i1 : Int) (i3 : Int) (a40 : Int) (a50 : Int) {h : AH} (hk : h i1 (-2) = 103 ∧ i3 ≤ h i1 (-1) ∧ i3 ≤ 100000) (h4 : (a40 = 0 ∨ a40 = 1) ∧ a50 = 0) : OK (gX1_exampleMay_l36 i1 i3 a40 a50 h) (fun r => (r = 1 ∧ a40 = 1 ∧ wtA (h i1) 0 i3) ∨ (r = 0 ∧ ¬ (a40 = 1 ∧ wtA (h i1) 0 i3))) := by
  unfold gX1_exampleMay_l36
  refine OK_jit (I := (fun (s : Int × Int) => jt2 s fun a4 a5 => (0 ≤ a5) ∧ ((a4 = 1 ∧ a40 = 1 ∧ wtA (h i1) 0 a5) ∨ (a4 = 0 ∧ ¬ (a40 = 1 ∧ wtA (h i1) 0 i3))))) (m := (fun (s : Int × Int) => jt2 s fun a4 a5 => (i3 - a5).toNat)) ?_ ?_
  · intro s hs
    obtain ⟨a4, a5⟩ := s
    dsimp only [Sum.elim_inl, Sum.elim_inr, jt2, jt3, jt4, jt5, jt6, jt7, jt8] at hs
    obtain ⟨q0, q1⟩ := hs
    unfold gX1_exampleMay_b36
    refine OK_jt2 ?_
    have QQ := q1
    refine OK_if (fun c1 => ?_) (fun c1 => ?_)
    · skip
      try simp (disch := omega) only [jst_eq, jst_ne, jst_ni, jI_i, jcmp_lt, jcmp_gt, w32_id, jcpy_out, Sum.elim_inl, Sum.elim_inr, jt2, jt3, jt4, jt5, jt6, jt7, jt8] at c1
      refine OK_ir ?_
      (rcases QQ with q | q; { exact Or.inl ⟨q.1, q.2.1, fun k k0 k1 => q.2.2 k k0 (by omega)⟩ }; { exact Or.inr q }) -- o1 e1
    · skip
      try simp (disch := omega) only [jst_eq, jst_ne, jst_ni, jI_i, jcmp_lt, jcmp_gt, w32_id, jcpy_out, Sum.elim_inl, Sum.elim_inr, jt2, jt3, jt4, jt5, jt6, jt7, jt8] at c1
      have L1 : ¬ (97 ≤ h i1 a5 ∧ h i1 a5 ≤ 122) → ¬ (a40 = 1 ∧ wtA (h i1) 0 i3) := fun y z => by { have w := isL_r (z.2 a5 q0 (by omega)); exact y w }
      refine OK_if (fun c2 => ?_) (fun c2 => ?_)
      · skip
        try simp (disch := omega) only [jst_eq, jst_ne, jst_ni, jI_i, jcmp_lt, jcmp_gt, w32_id, jcpy_out, Sum.elim_inl, Sum.elim_inr, jt2, jt3, jt4, jt5, jt6, jt7, jt8] at c2
        refine OK_ir ?_
        (rcases QQ with q | q; { have := q.1; omega }; { exact Or.inr ⟨by omega, q.2⟩ }) -- o2 e2
      · skip
        try simp (disch := omega) only [jst_eq, jst_ne, jst_ni, jI_i, jcmp_lt, jcmp_gt, w32_id, jcpy_out, Sum.elim_inl, Sum.elim_inr, jt2, jt3, jt4, jt5, jt6, jt7, jt8] at c2
        have Q2 := QQ.resolve_right (fun z => c2 z.1)
        refine OK_jg (by (first | assumption | omega | ((try dsimp only [jt2, jt3, jt4]); first | omega | (simp (disch := omega) only [jst_eq, jst_ne, jst_ni, jst_o, jI_i, jcpy_out, w32_id, jdiv_nn, jshr_k, jand_255] <;> first | done | omega | assumption)) | (intros; simp (disch := omega) only [jst_eq, jst_ne, jst_ni, jst_o, jI_i, jcpy_out, w32_id, jdiv_nn, *] <;> first | done | omega) | (intros; simp (disch := omega) only [jst_eq, jst_ne, jst_ni, jst_o, jI_i, jcpy_out, w32_id, jdiv_nn] at * <;> first | done | omega | assumption) | (intros; first | rfl | (exfalso; omega) | ((repeat' apply And.intro) <;> first | assumption | rfl | omega | trivial)))) ?_ -- o3
        refine OK_if (fun c3 => ?_) (fun c3 => ?_)
        · skip
          try simp (disch := omega) only [jst_eq, jst_ne, jst_ni, jI_i, jcmp_lt, jcmp_gt, w32_id, jcpy_out, Sum.elim_inl, Sum.elim_inr, jt2, jt3, jt4, jt5, jt6, jt7, jt8] at c3
          unfold gX1_exampleMay_j70_36
          refine OK_jlx (fun x13 ex13 => ?_)
          try simp (disch := omega) only [jst_eq, jst_ne, jst_ni, jI_i, jcmp_lt, jcmp_gt, w32_id, jcpy_out, Sum.elim_inl, Sum.elim_inr, jt2, jt3, jt4, jt5, jt6, jt7, jt8] at ex13
          refine OK_il ?_ ?_
          · try dsimp only [Sum.elim_inl, Sum.elim_inr, jt2, jt3, jt4, jt5, jt6, jt7, jt8]
            refine ⟨?_, ?_⟩
            · (first | assumption | omega | ((try dsimp only [jt2, jt3, jt4]); first | omega | (simp (disch := omega) only [jst_eq, jst_ne, jst_ni, jst_o, jI_i, jcpy_out, w32_id, jdiv_nn, jshr_k, jand_255] <;> first | done | omega | assumption)) | (intros; simp (disch := omega) only [jst_eq, jst_ne, jst_ni, jst_o, jI_i, jcpy_out, w32_id, jdiv_nn, *] <;> first | done | omega) | (intros; simp (disch := omega) only [jst_eq, jst_ne, jst_ni, jst_o, jI_i, jcpy_out, w32_id, jdiv_nn] at * <;> first | done | omega | assumption) | (intros; first | rfl | (exfalso; omega) | ((repeat' apply And.intro) <;> first | assumption | rfl | omega | trivial))) -- o4 e3i.1
            · (right; exact ⟨rfl, L1 (by omega)⟩) -- o5 e3i.2
          · (first | assumption | omega | ((try dsimp only [jt2, jt3, jt4]); first | omega | (simp (disch := omega) only [jst_eq, jst_ne, jst_ni, jst_o, jI_i, jcpy_out, w32_id, jdiv_nn, jshr_k, jand_255] <;> first | done | omega | assumption)) | (intros; simp (disch := omega) only [jst_eq, jst_ne, jst_ni, jst_o, jI_i, jcpy_out, w32_id, jdiv_nn, *] <;> first | done | omega) | (intros; simp (disch := omega) only [jst_eq, jst_ne, jst_ni, jst_o, jI_i, jcpy_out, w32_id, jdiv_nn] at * <;> first | done | omega | assumption) | (intros; first | rfl | (exfalso; omega) | ((repeat' apply And.intro) <;> first | assumption | rfl | omega | trivial))) -- o6 e3m
        · skip
          try simp (disch := omega) only [jst_eq, jst_ne, jst_ni, jI_i, jcmp_lt, jcmp_gt, w32_id, jcpy_out, Sum.elim_inl, Sum.elim_inr, jt2, jt3, jt4, jt5, jt6, jt7, jt8] at c3
          refine OK_if (fun c4 => ?_) (fun c4 => ?_)
          · skip
            try simp (disch := omega) only [jst_eq, jst_ne, jst_ni, jI_i, jcmp_lt, jcmp_gt, w32_id, jcpy_out, Sum.elim_inl, Sum.elim_inr, jt2, jt3, jt4, jt5, jt6, jt7, jt8] at c4
            unfold gX1_exampleMay_j70_36
            refine OK_jlx (fun x13 ex13 => ?_)
            try simp (disch := omega) only [jst_eq, jst_ne, jst_ni, jI_i, jcmp_lt, jcmp_gt, w32_id, jcpy_out, Sum.elim_inl, Sum.elim_inr, jt2, jt3, jt4, jt5, jt6, jt7, jt8] at ex13
            refine OK_il ?_ ?_
            · try dsimp only [Sum.elim_inl, Sum.elim_inr, jt2, jt3, jt4, jt5, jt6, jt7, jt8]
              refine ⟨?_, ?_⟩
              · (first | assumption | omega | ((try dsimp only [jt2, jt3, jt4]); first | omega | (simp (disch := omega) only [jst_eq, jst_ne, jst_ni, jst_o, jI_i, jcpy_out, w32_id, jdiv_nn, jshr_k, jand_255] <;> first | done | omega | assumption)) | (intros; simp (disch := omega) only [jst_eq, jst_ne, jst_ni, jst_o, jI_i, jcpy_out, w32_id, jdiv_nn, *] <;> first | done | omega) | (intros; simp (disch := omega) only [jst_eq, jst_ne, jst_ni, jst_o, jI_i, jcpy_out, w32_id, jdiv_nn] at * <;> first | done | omega | assumption) | (intros; first | rfl | (exfalso; omega) | ((repeat' apply And.intro) <;> first | assumption | rfl | omega | trivial))) -- o7 e4i.1
              · (right; exact ⟨rfl, L1 (by omega)⟩) -- o8 e4i.2
            · (first | assumption | omega | ((try dsimp only [jt2, jt3, jt4]); first | omega | (simp (disch := omega) only [jst_eq, jst_ne, jst_ni, jst_o, jI_i, jcpy_out, w32_id, jdiv_nn, jshr_k, jand_255] <;> first | done | omega | assumption)) | (intros; simp (disch := omega) only [jst_eq, jst_ne, jst_ni, jst_o, jI_i, jcpy_out, w32_id, jdiv_nn, *] <;> first | done | omega) | (intros; simp (disch := omega) only [jst_eq, jst_ne, jst_ni, jst_o, jI_i, jcpy_out, w32_id, jdiv_nn] at * <;> first | done | omega | assumption) | (intros; first | rfl | (exfalso; omega) | ((repeat' apply And.intro) <;> first | assumption | rfl | omega | trivial))) -- o9 e4m
          · skip
            try simp (disch := omega) only [jst_eq, jst_ne, jst_ni, jI_i, jcmp_lt, jcmp_gt, w32_id, jcpy_out, Sum.elim_inl, Sum.elim_inr, jt2, jt3, jt4, jt5, jt6, jt7, jt8] at c4
            unfold gX1_exampleMay_j70_36
            refine OK_jlx (fun x13 ex13 => ?_)
            try simp (disch := omega) only [jst_eq, jst_ne, jst_ni, jI_i, jcmp_lt, jcmp_gt, w32_id, jcpy_out, Sum.elim_inl, Sum.elim_inr, jt2, jt3, jt4, jt5, jt6, jt7, jt8] at ex13
            refine OK_il ?_ ?_
            · try dsimp only [Sum.elim_inl, Sum.elim_inr, jt2, jt3, jt4, jt5, jt6, jt7, jt8]
              refine ⟨?_, ?_⟩
              · (first | assumption | omega | ((try dsimp only [jt2, jt3, jt4]); first | omega | (simp (disch := omega) only [jst_eq, jst_ne, jst_ni, jst_o, jI_i, jcpy_out, w32_id, jdiv_nn, jshr_k, jand_255] <;> first | done | omega | assumption)) | (intros; simp (disch := omega) only [jst_eq, jst_ne, jst_ni, jst_o, jI_i, jcpy_out, w32_id, jdiv_nn, *] <;> first | done | omega) | (intros; simp (disch := omega) only [jst_eq, jst_ne, jst_ni, jst_o, jI_i, jcpy_out, w32_id, jdiv_nn] at * <;> first | done | omega | assumption) | (intros; first | rfl | (exfalso; omega) | ((repeat' apply And.intro) <;> first | assumption | rfl | omega | trivial))) -- o10 e5i.1
              · (left; refine ⟨rfl, Q2.2.1, fun k k0 k1 => ?_⟩; by_cases y : k = a5; { rw [y]; exact isL_t (by omega) (by omega) }; { exact Q2.2.2 k k0 (by omega) }) -- o11 e5i.2
            · (first | assumption | omega | ((try dsimp only [jt2, jt3, jt4]); first | omega | (simp (disch := omega) only [jst_eq, jst_ne, jst_ni, jst_o, jI_i, jcpy_out, w32_id, jdiv_nn, jshr_k, jand_255] <;> first | done | omega | assumption)) | (intros; simp (disch := omega) only [jst_eq, jst_ne, jst_ni, jst_o, jI_i, jcpy_out, w32_id, jdiv_nn, *] <;> first | done | omega) | (intros; simp (disch := omega) only [jst_eq, jst_ne, jst_ni, jst_o, jI_i, jcpy_out, w32_id, jdiv_nn] at * <;> first | done | omega | assumption) | (intros; first | rfl | (exfalso; omega) | ((repeat' apply And.intro) <;> first | assumption | rfl | omega | trivial))) -- o12 e5m
  · try dsimp only [Sum.elim_inl, Sum.elim_inr, jt2, jt3, jt4, jt5, jt6, jt7, jt8]
    refine ⟨?_, ?_⟩
    · (first | assumption | omega | ((try dsimp only [jt2, jt3, jt4]); first | omega | (simp (disch := omega) only [jst_eq, jst_ne, jst_ni, jst_o, jI_i, jcpy_out, w32_id, jdiv_nn, jshr_k, jand_255] <;> first | done | omega | assumption)) | (intros; simp (disch := omega) only [jst_eq, jst_ne, jst_ni, jst_o, jI_i, jcpy_out, w32_id, jdiv_nn, *] <;> first | done | omega) | (intros; simp (disch := omega) only [jst_eq, jst_ne, jst_ni, jst_o, jI_i, jcpy_out, w32_id, jdiv_nn] at * <;> first | done | omega | assumption) | (intros; first | rfl | (exfalso; omega) | ((repeat' apply And.intro) <;> first | assumption | rfl | omega | trivial))) -- o13 init.1
    · (rcases h4.1 with z | z; { right; exact ⟨z, fun y => by have := y.1; omega⟩ }; { left; exact ⟨z, z, fun k k0 k1 => by omega⟩ }) -- o14 init.2
theorem vX1_exampleMay_j78 (a4 : Int) {h : AH} : OK (gX1_exampleMay_j78 a4 h) (fun r => (a4 = 0 ∧ r = -1) ∨ (a4 ≠ 0 ∧ h 408 0 = 8 ∧ r = -3) ∨ (a4 ≠ 0 ∧ h 408 0 ≠ 8 ∧ r = 0)) := by
  unfold gX1_exampleMay_j78
  refine OK_if (fun c1 => ?_) (fun c1 => ?_)
  · skip
    try simp (disch := omega) only [jst_eq, jst_ne, jst_ni, jI_i, jcmp_lt, jcmp_gt, w32_id, jcpy_out, Sum.elim_inl, Sum.elim_inr, jt2, jt3, jt4, jt5, jt6, jt7, jt8] at c1
    refine OK_some ?_
    try dsimp only [Sum.elim_inl, Sum.elim_inr, jt2, jt3, jt4, jt5, jt6, jt7, jt8]
    (first | assumption | omega | ((try dsimp only [jt2, jt3, jt4]); first | omega | (simp (disch := omega) only [jst_eq, jst_ne, jst_ni, jst_o, jI_i, jcpy_out, w32_id, jdiv_nn, jshr_k, jand_255] <;> first | done | omega | assumption)) | (intros; simp (disch := omega) only [jst_eq, jst_ne, jst_ni, jst_o, jI_i, jcpy_out, w32_id, jdiv_nn, *] <;> first | done | omega) | (intros; simp (disch := omega) only [jst_eq, jst_ne, jst_ni, jst_o, jI_i, jcpy_out, w32_id, jdiv_nn] at * <;> first | done | omega | assumption) | (intros; first | rfl | (exfalso; omega) | ((repeat' apply And.intro) <;> first | assumption | rfl | omega | trivial))) -- o1 e1
  · skip
    try simp (disch := omega) only [jst_eq, jst_ne, jst_ni, jI_i, jcmp_lt, jcmp_gt, w32_id, jcpy_out, Sum.elim_inl, Sum.elim_inr, jt2, jt3, jt4, jt5, jt6, jt7, jt8] at c1
    refine OK_if (fun c2 => ?_) (fun c2 => ?_)
    · skip
      try simp (disch := omega) only [jst_eq, jst_ne, jst_ni, jI_i, jcmp_lt, jcmp_gt, w32_id, jcpy_out, Sum.elim_inl, Sum.elim_inr, jt2, jt3, jt4, jt5, jt6, jt7, jt8] at c2
      refine OK_some ?_
      try dsimp only [Sum.elim_inl, Sum.elim_inr, jt2, jt3, jt4, jt5, jt6, jt7, jt8]
      (first | assumption | omega | ((try dsimp only [jt2, jt3, jt4]); first | omega | (simp (disch := omega) only [jst_eq, jst_ne, jst_ni, jst_o, jI_i, jcpy_out, w32_id, jdiv_nn, jshr_k, jand_255] <;> first | done | omega | assumption)) | (intros; simp (disch := omega) only [jst_eq, jst_ne, jst_ni, jst_o, jI_i, jcpy_out, w32_id, jdiv_nn, *] <;> first | done | omega) | (intros; simp (disch := omega) only [jst_eq, jst_ne, jst_ni, jst_o, jI_i, jcpy_out, w32_id, jdiv_nn] at * <;> first | done | omega | assumption) | (intros; first | rfl | (exfalso; omega) | ((repeat' apply And.intro) <;> first | assumption | rfl | omega | trivial))) -- o2 e2
    · skip
      try simp (disch := omega) only [jst_eq, jst_ne, jst_ni, jI_i, jcmp_lt, jcmp_gt, w32_id, jcpy_out, Sum.elim_inl, Sum.elim_inr, jt2, jt3, jt4, jt5, jt6, jt7, jt8] at c2
      refine OK_some ?_
      try dsimp only [Sum.elim_inl, Sum.elim_inr, jt2, jt3, jt4, jt5, jt6, jt7, jt8]
      (first | assumption | omega | ((try dsimp only [jt2, jt3, jt4]); first | omega | (simp (disch := omega) only [jst_eq, jst_ne, jst_ni, jst_o, jI_i, jcpy_out, w32_id, jdiv_nn, jshr_k, jand_255] <;> first | done | omega | assumption)) | (intros; simp (disch := omega) only [jst_eq, jst_ne, jst_ni, jst_o, jI_i, jcpy_out, w32_id, jdiv_nn, *] <;> first | done | omega) | (intros; simp (disch := omega) only [jst_eq, jst_ne, jst_ni, jst_o, jI_i, jcpy_out, w32_id, jdiv_nn] at * <;> first | done | omega | assumption) | (intros; first | rfl | (exfalso; omega) | ((repeat' apply And.intro) <;> first | assumption | rfl | omega | trivial))) -- o3 e3
theorem vX1_exampleMay_j31 (a1 : Int) (a3 : Int) (t0 : Int) {h : AH} (hk : h a1 (-2) = 103 ∧ a3 ≤ h a1 (-1) ∧ a3 ≤ 100000) (h4 : t0 = 0 ∨ t0 = 1) : OK (gX1_exampleMay_j31 a1 a3 t0 h) (fun r => (¬ (t0 = 1 ∧ wtA (h a1) 0 a3) ∧ r = -1) ∨ ((t0 = 1 ∧ wtA (h a1) 0 a3) ∧ h 408 0 = 8 ∧ r = -3) ∨ ((t0 = 1 ∧ wtA (h a1) 0 a3) ∧ h 408 0 ≠ 8 ∧ r = 0)) := by
  unfold gX1_exampleMay_j31
  refine OK_jb (vX1_exampleMay_l36 _ _ _ _ (by (first | assumption | omega | ((try dsimp only [jt2, jt3, jt4]); first | omega | (simp (disch := omega) only [jst_eq, jst_ne, jst_ni, jst_o, jI_i, jcpy_out, w32_id, jdiv_nn, jshr_k, jand_255] <;> first | done | omega | assumption)) | (intros; simp (disch := omega) only [jst_eq, jst_ne, jst_ni, jst_o, jI_i, jcpy_out, w32_id, jdiv_nn, *] <;> first | done | omega) | (intros; simp (disch := omega) only [jst_eq, jst_ne, jst_ni, jst_o, jI_i, jcpy_out, w32_id, jdiv_nn] at * <;> first | done | omega | assumption) | (intros; first | rfl | (exfalso; omega) | ((repeat' apply And.intro) <;> first | assumption | rfl | omega | trivial)))) (by exact ⟨h4, rfl⟩)) (fun o5 r1 => ?_)
  try dsimp only [Sum.elim_inl, Sum.elim_inr, jt2, jt3, jt4, jt5, jt6, jt7, jt8] at r1
  have wt1 := r1
  clear r1
  try simp (disch := omega) only [jst_eq, jst_ne, jst_ni, jI_i, jcmp_lt, jcmp_gt, w32_id, jcpy_out, Sum.elim_inl, Sum.elim_inr, jt2, jt3, jt4, jt5, jt6, jt7, jt8] at wt1
  have Q5 : (o5 = 1 ∧ t0 = 1 ∧ wtA (h a1) 0 a3) ∨ (o5 = 0 ∧ ¬ (t0 = 1 ∧ wtA (h a1) 0 a3)) := by assumption
  refine OK_mono (vX1_exampleMay_j78 _) (fun r r2 => ?_)
  try dsimp only [Sum.elim_inl, Sum.elim_inr, jt2, jt3, jt4, jt5, jt6, jt7, jt8] at r2
  have v2 := r2
  clear r2
  try simp (disch := omega) only [jst_eq, jst_ne, jst_ni, jI_i, jcmp_lt, jcmp_gt, w32_id, jcpy_out, Sum.elim_inl, Sum.elim_inr, jt2, jt3, jt4, jt5, jt6, jt7, jt8] at v2
  try dsimp only [Sum.elim_inl, Sum.elim_inr, jt2, jt3, jt4, jt5, jt6, jt7, jt8]
  (have V2 : (o5 = 0 ∧ r = -1) ∨ (o5 ≠ 0 ∧ h 408 0 = 8 ∧ r = -3) ∨ (o5 ≠ 0 ∧ h 408 0 ≠ 8 ∧ r = 0) := (by assumption); rcases Q5 with z | z; { rcases V2 with y | y | y; { omega }; { exact Or.inr (Or.inl ⟨z.2, y.2⟩) }; { exact Or.inr (Or.inr ⟨z.2, y.2⟩) } }; { rcases V2 with y | y | y; { exact Or.inl ⟨z.2, y.2⟩ }; { omega }; { omega } }) -- o3 e1
theorem vX1_exampleMay (a1 : Int) (a2 : Int) (a3 : Int) {h : AH} (hk : h a1 (-2) = 103 ∧ a3 ≤ h a1 (-1) ∧ 0 ≤ a3 ∧ a3 ≤ 100000) : OK (gX1_exampleMay a1 a2 a3 h) (fun r => (¬ exG (h a1) 0 a2 a3 ∧ r = -1) ∨ (exG (h a1) 0 a2 a3 ∧ h 408 0 = 8 ∧ r = -3) ∨ (exG (h a1) 0 a2 a3 ∧ h 408 0 ≠ 8 ∧ r = 0)) := by
  have W1 : w32 (a3 - 1) = a3 - 1 := w32_id (by omega) (by omega)
  unfold gX1_exampleMay
  refine OK_jb (vX1_isIn _ _ _) (fun v2 r1 => ?_)
  try dsimp only [Sum.elim_inl, Sum.elim_inr, jt2, jt3, jt4, jt5, jt6, jt7, jt8] at r1
  have v1 := r1
  clear r1
  try simp (disch := omega) only [jst_eq, jst_ne, jst_ni, jI_i, jcmp_lt, jcmp_gt, w32_id, jcpy_out, Sum.elim_inl, Sum.elim_inr, jt2, jt3, jt4, jt5, jt6, jt7, jt8] at v1
  try rw [W1] at v1
  refine OK_if (fun c1 => ?_) (fun c1 => ?_)
  · skip
    try simp (disch := omega) only [jst_eq, jst_ne, jst_ni, jI_i, jcmp_lt, jcmp_gt, w32_id, jcpy_out, Sum.elim_inl, Sum.elim_inr, jt2, jt3, jt4, jt5, jt6, jt7, jt8] at c1
    refine OK_mono (vX1_exampleMay_j31 _ _ _ (by (first | assumption | omega | ((try dsimp only [jt2, jt3, jt4]); first | omega | (simp (disch := omega) only [jst_eq, jst_ne, jst_ni, jst_o, jI_i, jcpy_out, w32_id, jdiv_nn, jshr_k, jand_255] <;> first | done | omega | assumption)) | (intros; simp (disch := omega) only [jst_eq, jst_ne, jst_ni, jst_o, jI_i, jcpy_out, w32_id, jdiv_nn, *] <;> first | done | omega) | (intros; simp (disch := omega) only [jst_eq, jst_ne, jst_ni, jst_o, jI_i, jcpy_out, w32_id, jdiv_nn] at * <;> first | done | omega | assumption) | (intros; first | rfl | (exfalso; omega) | ((repeat' apply And.intro) <;> first | assumption | rfl | omega | trivial)))) (by exact Or.inl rfl)) (fun r r2 => ?_)
    try dsimp only [Sum.elim_inl, Sum.elim_inr, jt2, jt3, jt4, jt5, jt6, jt7, jt8] at r2
    have v2 := r2
    clear r2
    try simp (disch := omega) only [jst_eq, jst_ne, jst_ni, jI_i, jcmp_lt, jcmp_gt, w32_id, jcpy_out, Sum.elim_inl, Sum.elim_inr, jt2, jt3, jt4, jt5, jt6, jt7, jt8] at v2
    try dsimp only [Sum.elim_inl, Sum.elim_inr, jt2, jt3, jt4, jt5, jt6, jt7, jt8]
    (have q : r = -1 := (by rcases v2 with z | z | z; { exact z.2 }; { have := z.1.1; omega }; { have := z.1.1; omega }); exact Or.inl ⟨fun z => by have z1 := z.1; have z2 := z.2.1; omega, q⟩) -- o3 e1
  · skip
    try simp (disch := omega) only [jst_eq, jst_ne, jst_ni, jI_i, jcmp_lt, jcmp_gt, w32_id, jcpy_out, Sum.elim_inl, Sum.elim_inr, jt2, jt3, jt4, jt5, jt6, jt7, jt8] at c1
    have W2 : w32 (a3 - a2) = a3 - a2 := w32_id (by omega) (by omega)
    rw [W2]
    refine OK_if (fun c2 => ?_) (fun c2 => ?_)
    · skip
      try simp (disch := omega) only [jst_eq, jst_ne, jst_ni, jI_i, jcmp_lt, jcmp_gt, w32_id, jcpy_out, Sum.elim_inl, Sum.elim_inr, jt2, jt3, jt4, jt5, jt6, jt7, jt8] at c2
      refine OK_mono (vX1_exampleMay_j31 _ _ _ (by (first | assumption | omega | ((try dsimp only [jt2, jt3, jt4]); first | omega | (simp (disch := omega) only [jst_eq, jst_ne, jst_ni, jst_o, jI_i, jcpy_out, w32_id, jdiv_nn, jshr_k, jand_255] <;> first | done | omega | assumption)) | (intros; simp (disch := omega) only [jst_eq, jst_ne, jst_ni, jst_o, jI_i, jcpy_out, w32_id, jdiv_nn, *] <;> first | done | omega) | (intros; simp (disch := omega) only [jst_eq, jst_ne, jst_ni, jst_o, jI_i, jcpy_out, w32_id, jdiv_nn] at * <;> first | done | omega | assumption) | (intros; first | rfl | (exfalso; omega) | ((repeat' apply And.intro) <;> first | assumption | rfl | omega | trivial)))) (by exact Or.inl rfl)) (fun r r3 => ?_)
      try dsimp only [Sum.elim_inl, Sum.elim_inr, jt2, jt3, jt4, jt5, jt6, jt7, jt8] at r3
      have v3 := r3
      clear r3
      try simp (disch := omega) only [jst_eq, jst_ne, jst_ni, jI_i, jcmp_lt, jcmp_gt, w32_id, jcpy_out, Sum.elim_inl, Sum.elim_inr, jt2, jt3, jt4, jt5, jt6, jt7, jt8] at v3
      try dsimp only [Sum.elim_inl, Sum.elim_inr, jt2, jt3, jt4, jt5, jt6, jt7, jt8]
      (have q : r = -1 := (by rcases v3 with z | z | z; { exact z.2 }; { have := z.1.1; omega }; { have := z.1.1; omega }); exact Or.inl ⟨fun z => by have z1 := z.1; have z2 := z.2.1; omega, q⟩) -- o6 e2
    · skip
      try simp (disch := omega) only [jst_eq, jst_ne, jst_ni, jI_i, jcmp_lt, jcmp_gt, w32_id, jcpy_out, Sum.elim_inl, Sum.elim_inr, jt2, jt3, jt4, jt5, jt6, jt7, jt8] at c2
      refine OK_mono (vX1_exampleMay_j31 _ _ _ (by (first | assumption | omega | ((try dsimp only [jt2, jt3, jt4]); first | omega | (simp (disch := omega) only [jst_eq, jst_ne, jst_ni, jst_o, jI_i, jcpy_out, w32_id, jdiv_nn, jshr_k, jand_255] <;> first | done | omega | assumption)) | (intros; simp (disch := omega) only [jst_eq, jst_ne, jst_ni, jst_o, jI_i, jcpy_out, w32_id, jdiv_nn, *] <;> first | done | omega) | (intros; simp (disch := omega) only [jst_eq, jst_ne, jst_ni, jst_o, jI_i, jcpy_out, w32_id, jdiv_nn] at * <;> first | done | omega | assumption) | (intros; first | rfl | (exfalso; omega) | ((repeat' apply And.intro) <;> first | assumption | rfl | omega | trivial)))) (by exact Or.inr rfl)) (fun r r4 => ?_)
      try dsimp only [Sum.elim_inl, Sum.elim_inr, jt2, jt3, jt4, jt5, jt6, jt7, jt8] at r4
      have v4 := r4
      clear r4
      try simp (disch := omega) only [jst_eq, jst_ne, jst_ni, jI_i, jcmp_lt, jcmp_gt, w32_id, jcpy_out, Sum.elim_inl, Sum.elim_inr, jt2, jt3, jt4, jt5, jt6, jt7, jt8] at v4
      try dsimp only [Sum.elim_inl, Sum.elim_inr, jt2, jt3, jt4, jt5, jt6, jt7, jt8]
      (have X : wtA (h a1) 0 a3 ↔ exG (h a1) 0 a2 a3 := ⟨fun z => ⟨by omega, by omega, fun k k0 k1 => z k k0 (by omega)⟩, fun z k k0 k1 => z.2.2 k k0 (by omega)⟩; rcases v4 with z | z | z; { exact Or.inl ⟨fun y => z.1 ⟨by first | rfl | trivial, X.mpr y⟩, z.2⟩ }; { exact Or.inr (Or.inl ⟨X.mp z.1.2, z.2⟩) }; { exact Or.inr (Or.inr ⟨X.mp z.1.2, z.2⟩) }) -- o9 e3
theorem vX9_add_k (a1 : Int) (a2 : Int) (a3 : Int) {h : AH} {e : CE} {c : Int → Int} (hk : h a1 (-2) = 103 ∧ a3 ≤ h a1 (-1) ∧ a1 ≠ 409 ∧ a1 ≠ 410) (he : cuX h e ∧ 0 ≤ e.1 ∧ e.1 < 8) (hv : ∀ r, 0 ≤ r → r < e.1 → (0 ≤ e.2.2.2.1 r ∧ e.2.2.2.1 r ≤ 10) ∧ 1 ≤ e.2.2.2.2 r ∧ e.2.2.2.2 r ≤ 10) (hn : (0 ≤ a2 ∧ a2 ≤ 10) ∧ 1 ≤ a3 - a2 ∧ a3 - a2 ≤ 10) (hc : ∀ k, 0 ≤ k → k < a3 → h a1 k = c k + 97 ∧ 0 ≤ c k ∧ c k < 26) : OK (gX9_add a1 a2 a3 h) (fun h' => (cuX h' (addE e c (fun k => c (k + a2)) a2 (a3 - a2))) ∧ (h' 408 0 = e.1 + 1 ∧ h' 408 10 = 0) ∧ (∀ a s, ¬ (a = 408 ∧ (s = 0 ∨ s = 10)) → ¬ (409 ≤ a ∧ a ≤ 412 ∧ 0 ≤ s) → h' a s = h a s)) := by
  unfold gX9_add
  refine OK_jb (vX9_add_l3 (c := c) (R := e.1) _ _ _ _ (by (first | assumption | omega | ((try dsimp only [jt2, jt3, jt4]); first | omega | (simp (disch := omega) only [jst_eq, jst_ne, jst_ni, jst_o, jI_i, jcpy_out, w32_id, jdiv_nn, jshr_k, jand_255] <;> first | done | omega | assumption)) | (intros; simp (disch := omega) only [jst_eq, jst_ne, jst_ni, jst_o, jI_i, jcpy_out, w32_id, jdiv_nn, *] <;> first | done | omega) | (intros; simp (disch := omega) only [jst_eq, jst_ne, jst_ni, jst_o, jI_i, jcpy_out, w32_id, jdiv_nn] at * <;> first | done | omega | assumption) | (intros; first | rfl | (exfalso; omega) | ((repeat' apply And.intro) <;> first | assumption | rfl | omega | trivial)))) (by exact ⟨he.1.1, he.2⟩) (by (first | assumption | omega | ((try dsimp only [jt2, jt3, jt4]); first | omega | (simp (disch := omega) only [jst_eq, jst_ne, jst_ni, jst_o, jI_i, jcpy_out, w32_id, jdiv_nn, jshr_k, jand_255] <;> first | done | omega | assumption)) | (intros; simp (disch := omega) only [jst_eq, jst_ne, jst_ni, jst_o, jI_i, jcpy_out, w32_id, jdiv_nn, *] <;> first | done | omega) | (intros; simp (disch := omega) only [jst_eq, jst_ne, jst_ni, jst_o, jI_i, jcpy_out, w32_id, jdiv_nn] at * <;> first | done | omega | assumption) | (intros; first | rfl | (exfalso; omega) | ((repeat' apply And.intro) <;> first | assumption | rfl | omega | trivial)))) (by (first | assumption | omega | ((try dsimp only [jt2, jt3, jt4]); first | omega | (simp (disch := omega) only [jst_eq, jst_ne, jst_ni, jst_o, jI_i, jcpy_out, w32_id, jdiv_nn, jshr_k, jand_255] <;> first | done | omega | assumption)) | (intros; simp (disch := omega) only [jst_eq, jst_ne, jst_ni, jst_o, jI_i, jcpy_out, w32_id, jdiv_nn, *] <;> first | done | omega) | (intros; simp (disch := omega) only [jst_eq, jst_ne, jst_ni, jst_o, jI_i, jcpy_out, w32_id, jdiv_nn] at * <;> first | done | omega | assumption) | (intros; first | rfl | (exfalso; omega) | ((repeat' apply And.intro) <;> first | assumption | rfl | omega | trivial)))) (by (first | assumption | omega | ((try dsimp only [jt2, jt3, jt4]); first | omega | (simp (disch := omega) only [jst_eq, jst_ne, jst_ni, jst_o, jI_i, jcpy_out, w32_id, jdiv_nn, jshr_k, jand_255] <;> first | done | omega | assumption)) | (intros; simp (disch := omega) only [jst_eq, jst_ne, jst_ni, jst_o, jI_i, jcpy_out, w32_id, jdiv_nn, *] <;> first | done | omega) | (intros; simp (disch := omega) only [jst_eq, jst_ne, jst_ni, jst_o, jI_i, jcpy_out, w32_id, jdiv_nn] at * <;> first | done | omega | assumption) | (intros; first | rfl | (exfalso; omega) | ((repeat' apply And.intro) <;> first | assumption | rfl | omega | trivial))))) (fun o1 r1 => ?_)
  try dsimp only [Sum.elim_inl, Sum.elim_inr, jt2, jt3, jt4, jt5, jt6, jt7, jt8] at r1
  obtain ⟨q11, q21, fr1⟩ := r1
  try simp (disch := omega) only [jst_eq, jst_ne, jst_ni, jI_i, jcmp_lt, jcmp_gt, w32_id, jcpy_out, Sum.elim_inl, Sum.elim_inr, jt2, jt3, jt4, jt5, jt6, jt7, jt8] at q11
  try simp (disch := omega) only [jst_eq, jst_ne, jst_ni, jI_i, jcmp_lt, jcmp_gt, w32_id, jcpy_out, Sum.elim_inl, Sum.elim_inr, jt2, jt3, jt4, jt5, jt6, jt7, jt8] at q21
  try simp (disch := omega) only [jst_eq, jst_ne, jst_ni, jI_i, jcmp_lt, jcmp_gt, w32_id, jcpy_out, Sum.elim_inl, Sum.elim_inr, jt2, jt3, jt4, jt5, jt6, jt7, jt8] at fr1
  have F0 : o1 408 0 = e.1 := by { rw [fr1 _ _ (by omega)]; exact he.1.1 }
  rw [F0]
  refine OK_jg (by (first | assumption | omega | ((try dsimp only [jt2, jt3, jt4]); first | omega | (simp (disch := omega) only [jst_eq, jst_ne, jst_ni, jst_o, jI_i, jcpy_out, w32_id, jdiv_nn, jshr_k, jand_255] <;> first | done | omega | assumption)) | (intros; simp (disch := omega) only [jst_eq, jst_ne, jst_ni, jst_o, jI_i, jcpy_out, w32_id, jdiv_nn, *] <;> first | done | omega) | (intros; simp (disch := omega) only [jst_eq, jst_ne, jst_ni, jst_o, jI_i, jcpy_out, w32_id, jdiv_nn] at * <;> first | done | omega | assumption) | (intros; first | rfl | (exfalso; omega) | ((repeat' apply And.intro) <;> first | assumption | rfl | omega | trivial)))) ?_ -- o6
  refine OK_jl ?_
  refine OK_jg (by (first | assumption | omega | ((try dsimp only [jt2, jt3, jt4]); first | omega | (simp (disch := omega) only [jst_eq, jst_ne, jst_ni, jst_o, jI_i, jcpy_out, w32_id, jdiv_nn, jshr_k, jand_255] <;> first | done | omega | assumption)) | (intros; simp (disch := omega) only [jst_eq, jst_ne, jst_ni, jst_o, jI_i, jcpy_out, w32_id, jdiv_nn, *] <;> first | done | omega) | (intros; simp (disch := omega) only [jst_eq, jst_ne, jst_ni, jst_o, jI_i, jcpy_out, w32_id, jdiv_nn] at * <;> first | done | omega | assumption) | (intros; first | rfl | (exfalso; omega) | ((repeat' apply And.intro) <;> first | assumption | rfl | omega | trivial)))) ?_ -- o7
  refine OK_jl ?_
  refine OK_jl ?_
  refine OK_jl ?_
  have E1 : jst o1 411 e.1 a2 408 0 = e.1 := by { rw [jst_ne (by decide)]; exact F0 }
  rw [E1]
  have E2 : jst (jst o1 411 e.1 a2) 412 e.1 (w32 (a3 - a2)) 408 0 = e.1 := by { rw [jst_ne (by decide), jst_ne (by decide)]; exact F0 }
  rw [E2, w32_id (x := a3 - a2) (by omega) (by omega), w32_id (x := e.1 + 1) (by omega) (by omega)]
  refine OK_some ?_
  try dsimp only [Sum.elim_inl, Sum.elim_inr, jt2, jt3, jt4, jt5, jt6, jt7, jt8]
  try dsimp only [Sum.elim_inl, Sum.elim_inr, jt2, jt3, jt4, jt5, jt6, jt7, jt8]
  refine ⟨?_, ?_, ?_⟩
  · exact addX he.1 he.2.1 hv q11 q21 fr1 -- o8 e1.1
  · exact ⟨by rw [jst_ni (by decide), jst_eq], jst_eq⟩ -- o9 e1.2
  · exact fun a s y1 y2 => by rw [jst_o (by omega), jst_o (by omega), jst_o (by omega), jst_o (by omega)]; by_cases z : a = 409 ∨ a = 410; { rcases z with z | z; { rw [z, q11 s, if_neg (by omega)] }; { rw [z, q21 s, if_neg (by omega)] } }; { exact fr1 a s z } -- o10 e1.3
def szE (e : CE) : Prop := ∀ r, 0 ≤ r → r < e.1 → (0 ≤ e.2.2.2.1 r ∧ e.2.2.2.1 r ≤ 10) ∧ 1 ≤ e.2.2.2.2 r ∧ e.2.2.2.2 r ≤ 10
theorem szE_v {e : CE} (h : e.1 = 0 ∨ vCE e) : szE e := fun r r0 r1 => by
  rcases h with h | h
  · omega
  · have := h.2 r r0 r1
    exact ⟨this.1, this.2.1⟩
theorem exG_l {B : Int → Int} {a n N : Int} (g : exG B a n N) : ∀ k, 0 ≤ k → k < N → B (a + k) = (B (a + k) - 97) + 97 ∧ 0 ≤ B (a + k) - 97 ∧ B (a + k) - 97 < 26 := fun k k0 k1 => by
  have := isL_r (g.2.2 (a + k) (by omega) (by omega))
  omega
theorem vX1_exampleOf (a2 : Int) (a3 : Int) {h : AH} {e : CE} (hk : h 439 (-2) = 103 ∧ a3 ≤ h 439 (-1) ∧ 0 ≤ a3 ∧ a3 ≤ 100000) (he : cuX h e ∧ 0 ≤ e.1 ∧ e.1 ≤ 8) (hv : e.1 = 0 ∨ vCE e) : OK (gX1_exampleOf a2 a3 h) (fun r => jt2 r fun v h' => ((¬ exG (h 439) 0 a2 a3 ∧ v = -1 ∧ h' = h) ∨ (exG (h 439) 0 a2 a3 ∧ e.1 = 8 ∧ v = -3 ∧ h' = h) ∨ (exG (h 439) 0 a2 a3 ∧ e.1 < 8 ∧ v = 0 ∧ cuX h' (addE e (fun k => h 439 (0 + k) - 97) (fun k => h 439 (0 + (k + a2)) - 97) a2 (a3 - a2)) ∧ h' 408 10 = 0)) ∧ (∀ a s, ¬ (a = 408 ∧ (s = 0 ∨ s = 10)) → ¬ (409 ≤ a ∧ a ≤ 412 ∧ 0 ≤ s) → h' a s = h a s)) := by
  have E0 := he.1.1
  unfold gX1_exampleOf
  refine OK_jb (vX1_exampleMay _ _ _ (by (first | assumption | omega | ((try dsimp only [jt2, jt3, jt4]); first | omega | (simp (disch := omega) only [jst_eq, jst_ne, jst_ni, jst_o, jI_i, jcpy_out, w32_id, jdiv_nn, jshr_k, jand_255] <;> first | done | omega | assumption)) | (intros; simp (disch := omega) only [jst_eq, jst_ne, jst_ni, jst_o, jI_i, jcpy_out, w32_id, jdiv_nn, *] <;> first | done | omega) | (intros; simp (disch := omega) only [jst_eq, jst_ne, jst_ni, jst_o, jI_i, jcpy_out, w32_id, jdiv_nn] at * <;> first | done | omega | assumption) | (intros; first | rfl | (exfalso; omega) | ((repeat' apply And.intro) <;> first | assumption | rfl | omega | trivial))))) (fun v2 r1 => ?_)
  try dsimp only [Sum.elim_inl, Sum.elim_inr, jt2, jt3, jt4, jt5, jt6, jt7, jt8] at r1
  have v1 := r1
  clear r1
  try simp (disch := omega) only [jst_eq, jst_ne, jst_ni, jI_i, jcmp_lt, jcmp_gt, w32_id, jcpy_out, Sum.elim_inl, Sum.elim_inr, jt2, jt3, jt4, jt5, jt6, jt7, jt8] at v1
  refine OK_if (fun c1 => ?_) (fun c1 => ?_)
  · skip
    try simp (disch := omega) only [jst_eq, jst_ne, jst_ni, jI_i, jcmp_lt, jcmp_gt, w32_id, jcpy_out, Sum.elim_inl, Sum.elim_inr, jt2, jt3, jt4, jt5, jt6, jt7, jt8] at c1
    have EX : exG (h 439) 0 a2 a3 ∧ h 408 0 ≠ 8 := by { rcases v1 with z | z | z; { have := z.2; omega }; { have := z.2.2; omega }; { exact ⟨z.1, z.2.1⟩ } }
    refine OK_jb (vX9_add_k (e := e) (c := fun k => h 439 (0 + k) - 97) _ _ _ (by omega) (by exact ⟨he.1, he.2.1, by omega⟩) (by exact szE_v hv) (by exact ⟨EX.1.1, EX.1.2.1⟩) (by exact fun k k0 k1 => by have := exG_l EX.1 k k0 k1; (try dsimp only); rw [Int.zero_add] at this ⊢; exact this)) (fun h5 r2 => ?_)
    try dsimp only [Sum.elim_inl, Sum.elim_inr, jt2, jt3, jt4, jt5, jt6, jt7, jt8] at r2
    obtain ⟨cu2, k102, fr2⟩ := r2
    try simp (disch := omega) only [jst_eq, jst_ne, jst_ni, jI_i, jcmp_lt, jcmp_gt, w32_id, jcpy_out, Sum.elim_inl, Sum.elim_inr, jt2, jt3, jt4, jt5, jt6, jt7, jt8] at cu2
    try simp (disch := omega) only [jst_eq, jst_ne, jst_ni, jI_i, jcmp_lt, jcmp_gt, w32_id, jcpy_out, Sum.elim_inl, Sum.elim_inr, jt2, jt3, jt4, jt5, jt6, jt7, jt8] at k102
    try simp (disch := omega) only [jst_eq, jst_ne, jst_ni, jI_i, jcmp_lt, jcmp_gt, w32_id, jcpy_out, Sum.elim_inl, Sum.elim_inr, jt2, jt3, jt4, jt5, jt6, jt7, jt8] at fr2
    refine OK_some ?_
    try dsimp only [Sum.elim_inl, Sum.elim_inr, jt2, jt3, jt4, jt5, jt6, jt7, jt8]
    try dsimp only [Sum.elim_inl, Sum.elim_inr, jt2, jt3, jt4, jt5, jt6, jt7, jt8]
    refine ⟨?_, ?_⟩
    · exact Or.inr (Or.inr ⟨EX.1, by omega, c1, cu2, k102.2⟩) -- o7 e1.1
    · (first | assumption | omega | ((try dsimp only [jt2, jt3, jt4]); first | omega | (simp (disch := omega) only [jst_eq, jst_ne, jst_ni, jst_o, jI_i, jcpy_out, w32_id, jdiv_nn, jshr_k, jand_255] <;> first | done | omega | assumption)) | (intros; simp (disch := omega) only [jst_eq, jst_ne, jst_ni, jst_o, jI_i, jcpy_out, w32_id, jdiv_nn, *] <;> first | done | omega) | (intros; simp (disch := omega) only [jst_eq, jst_ne, jst_ni, jst_o, jI_i, jcpy_out, w32_id, jdiv_nn] at * <;> first | done | omega | assumption) | (intros; first | rfl | (exfalso; omega) | ((repeat' apply And.intro) <;> first | assumption | rfl | omega | trivial))) -- o8 e1.2
  · skip
    try simp (disch := omega) only [jst_eq, jst_ne, jst_ni, jI_i, jcmp_lt, jcmp_gt, w32_id, jcpy_out, Sum.elim_inl, Sum.elim_inr, jt2, jt3, jt4, jt5, jt6, jt7, jt8] at c1
    refine OK_some ?_
    try dsimp only [Sum.elim_inl, Sum.elim_inr, jt2, jt3, jt4, jt5, jt6, jt7, jt8]
    try dsimp only [Sum.elim_inl, Sum.elim_inr, jt2, jt3, jt4, jt5, jt6, jt7, jt8]
    refine ⟨?_, ?_⟩
    · (rcases v1 with z | z | z; { exact Or.inl ⟨z.1, z.2, rfl⟩ }; { exact Or.inr (Or.inl ⟨z.1, by omega, z.2.2, rfl⟩) }; { omega }) -- o9 e2.1
    · (first | assumption | omega | ((try dsimp only [jt2, jt3, jt4]); first | omega | (simp (disch := omega) only [jst_eq, jst_ne, jst_ni, jst_o, jI_i, jcpy_out, w32_id, jdiv_nn, jshr_k, jand_255] <;> first | done | omega | assumption)) | (intros; simp (disch := omega) only [jst_eq, jst_ne, jst_ni, jst_o, jI_i, jcpy_out, w32_id, jdiv_nn, *] <;> first | done | omega) | (intros; simp (disch := omega) only [jst_eq, jst_ne, jst_ni, jst_o, jI_i, jcpy_out, w32_id, jdiv_nn] at * <;> first | done | omega | assumption) | (intros; first | rfl | (exfalso; omega) | ((repeat' apply And.intro) <;> first | assumption | rfl | omega | trivial))) -- o10 e2.2
theorem vX1_example (a1 : Int) {h : AH} {e : CE} {n : Int} (hd : h 200 53 = 0 ∨ h 200 53 = 1) (hn : n = h 200 55 ∧ 0 ≤ n ∧ n ≤ 2000) (hk : h 440 (-2) = 103 ∧ h 440 (-1) = 2000) (hl : lgX h) (he : cuX h e ∧ 0 ≤ e.1 ∧ e.1 ≤ 8) (hv : e.1 = 0 ∨ vCE e) : OK (gX1_example a1 h) (fun r => jt2 r fun v h' => ((h 200 53 = 1 ∧ v = -5 ∧ h' = h) ∨ (h 200 53 = 0 ∧ ((¬ exG (h 440) 0 a1 n ∧ v = -1 ∧ h' = jst h 200 55 0) ∨ (exG (h 440) 0 a1 n ∧ (e.1 = 8 ∨ ¬ rmX h (n + 1)) ∧ v = -3 ∧ h' = jst h 200 55 0) ∨ (exG (h 440) 0 a1 n ∧ e.1 < 8 ∧ rmX h (n + 1) ∧ v = e.1 + 1 ∧ cuX h' (addE e (fun k => h 440 (0 + k) - 97) (fun k => h 440 (0 + (k + a1)) - 97) a1 (n - a1)) ∧ h' 408 10 = 0 ∧ h' 200 55 = 0 ∧ reX h h' 6 (fun k => if k = 0 then a1 else h 440 (k - 1)) (n + 1))))) ∧ (∀ a s, ¬ (a = 200 ∧ s = 55) → ¬ (a = 408 ∧ (s = 0 ∨ s = 10)) → ¬ (409 ≤ a ∧ a ≤ 412 ∧ 0 ≤ s) → ¬ (a = 434 ∧ (s = 5 ∨ s = 6 ∨ s = 7)) → ¬ (a = 436 ∧ h 434 5 ≤ s) → h' a s = h a s)) := by
  have E0 := he.1.1
  have HL := hl
  unfold lgX at HL
  unfold gX1_example
  refine OK_if (fun c1 => ?_) (fun c1 => ?_)
  · skip
    try simp (disch := omega) only [jst_eq, jst_ne, jst_ni, jI_i, jcmp_lt, jcmp_gt, w32_id, jcpy_out, Sum.elim_inl, Sum.elim_inr, jt2, jt3, jt4, jt5, jt6, jt7, jt8] at c1
    refine OK_jb2 (vX1_takeTape) (fun v3 h4 r1 => ?_)
    try dsimp only [Sum.elim_inl, Sum.elim_inr, jt2, jt3, jt4, jt5, jt6, jt7, jt8] at r1
    obtain ⟨v1, hh1⟩ := r1
    try simp (disch := omega) only [jst_eq, jst_ne, jst_ni, jI_i, jcmp_lt, jcmp_gt, w32_id, jcpy_out, Sum.elim_inl, Sum.elim_inr, jt2, jt3, jt4, jt5, jt6, jt7, jt8] at v1
    try simp (disch := omega) only [jst_eq, jst_ne, jst_ni, jI_i, jcmp_lt, jcmp_gt, w32_id, jcpy_out, Sum.elim_inl, Sum.elim_inr, jt2, jt3, jt4, jt5, jt6, jt7, jt8] at hh1
    have F4 : ∀ a x, ¬ (a = 200 ∧ x = 55) → h4 a x = h a x := fun a x y => by { rw [hh1]; exact jst_o y }
    have V3 : v3 = n := by omega
    have F440 : h4 440 = h 440 := funext fun s => F4 _ _ (by omega)
    rw [V3]
    refine OK_jb (vX1_exampleMay _ _ _ (by (rw [F440]; omega))) (fun v6 r2 => ?_)
    try dsimp only [Sum.elim_inl, Sum.elim_inr, jt2, jt3, jt4, jt5, jt6, jt7, jt8] at r2
    have v2 := r2
    clear r2
    try simp (disch := omega) only [jst_eq, jst_ne, jst_ni, jI_i, jcmp_lt, jcmp_gt, w32_id, jcpy_out, Sum.elim_inl, Sum.elim_inr, jt2, jt3, jt4, jt5, jt6, jt7, jt8] at v2
    rw [F440, F4 408 0 (by omega)] at v2
    refine OK_if (fun c2 => ?_) (fun c2 => ?_)
    · skip
      try simp (disch := omega) only [jst_eq, jst_ne, jst_ni, jI_i, jcmp_lt, jcmp_gt, w32_id, jcpy_out, Sum.elim_inl, Sum.elim_inr, jt2, jt3, jt4, jt5, jt6, jt7, jt8] at c2
      have EX : exG (h 440) 0 a1 n ∧ h 408 0 ≠ 8 := by { rcases v2 with z | z | z; { have := z.2; omega }; { have := z.2.2; omega }; { exact ⟨z.1, z.2.1⟩ } }
      have EL := exG_l EX.1
      have N1 := EX.1.1
      have N2 := EX.1.2.1
      have W1 : w32 (n + 1) = n + 1 := w32_id (by omega) (by omega)
      rw [W1]
      refine OK_jb2 (vX12_begin _ _ (by (rw [F4 _ _ (by omega)]; omega)) (by (rw [F4 _ _ (by omega)]; omega)) (by omega)) (fun v9 h10 r3 => ?_)
      try dsimp only [Sum.elim_inl, Sum.elim_inr, jt2, jt3, jt4, jt5, jt6, jt7, jt8] at r3
      have bg3 := r3
      clear r3
      try simp (disch := omega) only [jst_eq, jst_ne, jst_ni, jI_i, jcmp_lt, jcmp_gt, w32_id, jcpy_out, Sum.elim_inl, Sum.elim_inr, jt2, jt3, jt4, jt5, jt6, jt7, jt8] at bg3
      rw [F4 434 4 (by omega), F4 434 5 (by omega)] at bg3
      refine OK_if (fun c3 => ?_) (fun c3 => ?_)
      · skip
        try simp (disch := omega) only [jst_eq, jst_ne, jst_ni, jI_i, jcmp_lt, jcmp_gt, w32_id, jcpy_out, Sum.elim_inl, Sum.elim_inr, jt2, jt3, jt4, jt5, jt6, jt7, jt8] at c3
        refine OK_some ?_
        try dsimp only [Sum.elim_inl, Sum.elim_inr, jt2, jt3, jt4, jt5, jt6, jt7, jt8]
        try dsimp only [Sum.elim_inl, Sum.elim_inr, jt2, jt3, jt4, jt5, jt6, jt7, jt8]
        refine ⟨?_, ?_⟩
        · (right; refine ⟨c1, Or.inr (Or.inl ⟨EX.1, Or.inr ?_, rfl, ?_⟩)⟩; { unfold rmX; rcases bg3 with z | z; { omega }; { omega } }; { rcases bg3 with z | z; { rw [z.2.2]; exact hh1 }; { omega } }) -- o5 e1.1
        · (intro a s y1 _ _ _ _; rcases bg3 with z | z; { rw [z.2.2]; exact F4 a s y1 }; { omega }) -- o6 e1.2
      · skip
        try simp (disch := omega) only [jst_eq, jst_ne, jst_ni, jI_i, jcmp_lt, jcmp_gt, w32_id, jcpy_out, Sum.elim_inl, Sum.elim_inr, jt2, jt3, jt4, jt5, jt6, jt7, jt8] at c3
        obtain ⟨_, g0, g1, g2, g3, g4⟩ := bg3.resolve_left (fun q => c3 q.1)
        have G : ∀ a s, ¬ (a = 200 ∧ s = 55) → ¬ (a = 434 ∧ s = 7) → ¬ (a = 436 ∧ h 434 5 ≤ s ∧ s < h 434 5 + 3) → h10 a s = h a s := fun a s x y z => by { rw [g4 _ _ y z, F4 _ _ x] }
        refine OK_jb (vX12_put _ (by omega)) (fun h13 r4 => ?_)
        try dsimp only [Sum.elim_inl, Sum.elim_inr, jt2, jt3, jt4, jt5, jt6, jt7, jt8] at r4
        obtain ⟨n4, b4, rg4, fr4⟩ := r4
        try simp (disch := omega) only [jst_eq, jst_ne, jst_ni, jI_i, jcmp_lt, jcmp_gt, w32_id, jcpy_out, Sum.elim_inl, Sum.elim_inr, jt2, jt3, jt4, jt5, jt6, jt7, jt8] at n4
        try simp (disch := omega) only [jst_eq, jst_ne, jst_ni, jI_i, jcmp_lt, jcmp_gt, w32_id, jcpy_out, Sum.elim_inl, Sum.elim_inr, jt2, jt3, jt4, jt5, jt6, jt7, jt8] at b4
        try simp (disch := omega) only [jst_eq, jst_ne, jst_ni, jI_i, jcmp_lt, jcmp_gt, w32_id, jcpy_out, Sum.elim_inl, Sum.elim_inr, jt2, jt3, jt4, jt5, jt6, jt7, jt8] at rg4
        try simp (disch := omega) only [jst_eq, jst_ne, jst_ni, jI_i, jcmp_lt, jcmp_gt, w32_id, jcpy_out, Sum.elim_inl, Sum.elim_inr, jt2, jt3, jt4, jt5, jt6, jt7, jt8] at fr4
        refine OK_jb (vX12_put_2 _ _ (by (rw [fr4 _ _ (by omega) (by omega), G _ _ (by omega) (by omega) (by omega)]; omega)) (by (rw [fr4 _ _ (by omega) (by omega), G _ _ (by omega) (by omega) (by omega)]; omega)) (by omega) (by omega)) (fun h15 r5 => ?_)
        try dsimp only [Sum.elim_inl, Sum.elim_inr, jt2, jt3, jt4, jt5, jt6, jt7, jt8] at r5
        obtain ⟨n5, b5, fr5⟩ := r5
        try simp (disch := omega) only [jst_eq, jst_ne, jst_ni, jI_i, jcmp_lt, jcmp_gt, w32_id, jcpy_out, Sum.elim_inl, Sum.elim_inr, jt2, jt3, jt4, jt5, jt6, jt7, jt8] at n5
        try simp (disch := omega) only [jst_eq, jst_ne, jst_ni, jI_i, jcmp_lt, jcmp_gt, w32_id, jcpy_out, Sum.elim_inl, Sum.elim_inr, jt2, jt3, jt4, jt5, jt6, jt7, jt8] at b5
        try simp (disch := omega) only [jst_eq, jst_ne, jst_ni, jI_i, jcmp_lt, jcmp_gt, w32_id, jcpy_out, Sum.elim_inl, Sum.elim_inr, jt2, jt3, jt4, jt5, jt6, jt7, jt8] at fr5
        have G15 : ∀ a s, ¬ (a = 200 ∧ s = 55) → ¬ (a = 434 ∧ s = 7) → ¬ (a = 436 ∧ h 434 5 ≤ s) → h15 a s = h a s := fun a s x y z => by { rw [fr5 _ _ y (by omega), fr4 _ _ y (by omega)]; exact G a s x y (by omega) }
        refine OK_jb (vX12_end (by (rw [G15 _ _ (by omega) (by omega) (by omega)]; omega))) (fun h17 r6 => ?_)
        try dsimp only [Sum.elim_inl, Sum.elim_inr, jt2, jt3, jt4, jt5, jt6, jt7, jt8] at r6
        obtain ⟨z6, n6, fr6⟩ := r6
        try simp (disch := omega) only [jst_eq, jst_ne, jst_ni, jI_i, jcmp_lt, jcmp_gt, w32_id, jcpy_out, Sum.elim_inl, Sum.elim_inr, jt2, jt3, jt4, jt5, jt6, jt7, jt8] at z6
        try simp (disch := omega) only [jst_eq, jst_ne, jst_ni, jI_i, jcmp_lt, jcmp_gt, w32_id, jcpy_out, Sum.elim_inl, Sum.elim_inr, jt2, jt3, jt4, jt5, jt6, jt7, jt8] at n6
        try simp (disch := omega) only [jst_eq, jst_ne, jst_ni, jI_i, jcmp_lt, jcmp_gt, w32_id, jcpy_out, Sum.elim_inl, Sum.elim_inr, jt2, jt3, jt4, jt5, jt6, jt7, jt8] at fr6
        have G17 : ∀ a s, ¬ (a = 200 ∧ s = 55) → ¬ (a = 434 ∧ (s = 5 ∨ s = 6 ∨ s = 7)) → ¬ (a = 436 ∧ h 434 5 ≤ s) → h17 a s = h a s := fun a s x y z => by { rw [fr6 _ _ (by omega)]; exact G15 a s x (by omega) z }
        have S6 : h15 434 6 = h 434 6 := G15 _ _ (by omega) (by omega) (by omega)
        have T0 : h17 436 (h 434 5) % 256 = 6 := by { rw [fr6 _ _ (by omega), fr5 _ _ (by omega) (by omega), fr4 _ _ (by omega) (by omega), g2.1]; rfl }
        have T1 : h17 436 (h 434 5 + 1) % 256 = (n + 1) / 256 := by { rw [fr6 _ _ (by omega), fr5 _ _ (by omega) (by omega), fr4 _ _ (by omega) (by omega), g2.2.1]; omega }
        have T2 : h17 436 (h 434 5 + 2) % 256 = (n + 1) % 256 := by { rw [fr6 _ _ (by omega), fr5 _ _ (by omega) (by omega), fr4 _ _ (by omega) (by omega), g2.2.2] }
        have TB : ∀ k, 0 ≤ k → k < n + 1 → h17 436 (h 434 5 + 3 + k) % 256 = (fun k => if k = 0 then a1 else h 440 (k - 1)) k := fun k k0 k1 => by { rw [fr6 _ _ (by omega)]; dsimp only; by_cases y : k = 0; { rw [if_pos y, y, fr5 _ _ (by omega) (by omega), show h 434 5 + 3 + 0 = h10 434 7 by omega, b4]; omega }; { have q := (b5 (k - 1) (by omega) (by omega)).1; have l := EL (k - 1) (by omega) (by omega); rw [if_neg y, show h 434 5 + 3 + k = h13 434 7 + (k - 1) by omega, q, fr4 _ _ (by omega) (by omega), G _ _ (by omega) (by omega) (by omega)]; rw [Int.zero_add] at l; omega } }
        have C17 : cuX h17 e := cuX_f he.1 (fun a s y => G17 a s (by omega) (by omega) (by omega))
        refine OK_jb (vX9_add_k (e := e) (c := fun k => h 440 (0 + k) - 97) _ _ _ (by (rw [G17 _ _ (by omega) (by omega) (by omega), G17 _ _ (by omega) (by omega) (by omega)]; omega)) (by exact ⟨C17, he.2.1, by omega⟩) (by exact szE_v hv) (by exact ⟨N1, N2⟩) (by exact fun k k0 k1 => by have := EL k k0 k1; rw [G17 _ _ (by omega) (by omega) (by omega)]; (try dsimp only); rw [Int.zero_add] at this ⊢; exact this)) (fun h19 r7 => ?_)
        try dsimp only [Sum.elim_inl, Sum.elim_inr, jt2, jt3, jt4, jt5, jt6, jt7, jt8] at r7
        obtain ⟨cu7, k107, fr7⟩ := r7
        try simp (disch := omega) only [jst_eq, jst_ne, jst_ni, jI_i, jcmp_lt, jcmp_gt, w32_id, jcpy_out, Sum.elim_inl, Sum.elim_inr, jt2, jt3, jt4, jt5, jt6, jt7, jt8] at cu7
        try simp (disch := omega) only [jst_eq, jst_ne, jst_ni, jI_i, jcmp_lt, jcmp_gt, w32_id, jcpy_out, Sum.elim_inl, Sum.elim_inr, jt2, jt3, jt4, jt5, jt6, jt7, jt8] at k107
        try simp (disch := omega) only [jst_eq, jst_ne, jst_ni, jI_i, jcmp_lt, jcmp_gt, w32_id, jcpy_out, Sum.elim_inl, Sum.elim_inr, jt2, jt3, jt4, jt5, jt6, jt7, jt8] at fr7
        refine OK_some ?_
        try dsimp only [Sum.elim_inl, Sum.elim_inr, jt2, jt3, jt4, jt5, jt6, jt7, jt8]
        try dsimp only [Sum.elim_inl, Sum.elim_inr, jt2, jt3, jt4, jt5, jt6, jt7, jt8]
        refine ⟨?_, ?_⟩
        · (right; refine ⟨c1, Or.inr (Or.inr ⟨EX.1, by omega, by unfold rmX; omega, k107.1, cu7, k107.2, ?_, ?_⟩)⟩; { rw [fr7 _ _ (by omega) (by omega), fr6 _ _ (by omega), fr5 _ _ (by omega) (by omega), fr4 _ _ (by omega) (by omega), g4 _ _ (by omega) (by omega), hh1, jst_eq] }; { refine ⟨?_, ?_, ⟨?_, ?_, ?_⟩, fun k k0 k1 => ?_⟩; { rw [fr7 _ _ (by omega) (by omega)]; omega }; { rw [fr7 _ _ (by omega) (by omega)]; omega }; { rw [fr7 _ _ (by omega) (by omega)]; exact T0 }; { rw [fr7 _ _ (by omega) (by omega)]; exact T1 }; { rw [fr7 _ _ (by omega) (by omega)]; exact T2 }; { rw [fr7 _ _ (by omega) (by omega)]; exact TB k k0 k1 } }) -- o18 e2.1
        · exact fun a s y1 y2 y3 y4 y5 => by rw [fr7 a s y2 y3]; exact G17 a s y1 y4 y5 -- o19 e2.2
    · skip
      try simp (disch := omega) only [jst_eq, jst_ne, jst_ni, jI_i, jcmp_lt, jcmp_gt, w32_id, jcpy_out, Sum.elim_inl, Sum.elim_inr, jt2, jt3, jt4, jt5, jt6, jt7, jt8] at c2
      refine OK_some ?_
      try dsimp only [Sum.elim_inl, Sum.elim_inr, jt2, jt3, jt4, jt5, jt6, jt7, jt8]
      try dsimp only [Sum.elim_inl, Sum.elim_inr, jt2, jt3, jt4, jt5, jt6, jt7, jt8]
      refine ⟨?_, ?_⟩
      · (right; refine ⟨c1, ?_⟩; rcases v2 with z | z | z; { exact Or.inl ⟨z.1, z.2, hh1⟩ }; { exact Or.inr (Or.inl ⟨z.1, Or.inl (by omega), z.2.2, hh1⟩) }; { omega }) -- o20 e3.1
      · exact fun a s y1 _ _ _ _ => F4 a s y1 -- o21 e3.2
  · skip
    try simp (disch := omega) only [jst_eq, jst_ne, jst_ni, jI_i, jcmp_lt, jcmp_gt, w32_id, jcpy_out, Sum.elim_inl, Sum.elim_inr, jt2, jt3, jt4, jt5, jt6, jt7, jt8] at c1
    refine OK_some ?_
    try dsimp only [Sum.elim_inl, Sum.elim_inr, jt2, jt3, jt4, jt5, jt6, jt7, jt8]
    try dsimp only [Sum.elim_inl, Sum.elim_inr, jt2, jt3, jt4, jt5, jt6, jt7, jt8]
    refine ⟨?_, ?_⟩
    · exact Or.inl ⟨by omega, rfl, rfl⟩ -- o22 e4.1
    · (first | assumption | omega | ((try dsimp only [jt2, jt3, jt4]); first | omega | (simp (disch := omega) only [jst_eq, jst_ne, jst_ni, jst_o, jI_i, jcpy_out, w32_id, jdiv_nn, jshr_k, jand_255] <;> first | done | omega | assumption)) | (intros; simp (disch := omega) only [jst_eq, jst_ne, jst_ni, jst_o, jI_i, jcpy_out, w32_id, jdiv_nn, *] <;> first | done | omega) | (intros; simp (disch := omega) only [jst_eq, jst_ne, jst_ni, jst_o, jI_i, jcpy_out, w32_id, jdiv_nn] at * <;> first | done | omega | assumption) | (intros; first | rfl | (exfalso; omega) | ((repeat' apply And.intro) <;> first | assumption | rfl | omega | trivial))) -- o23 e4.2
theorem vX1_clearRows {h : AH} : OK (gX1_clearRows h) (fun r => jt2 r fun v h' => (v = h 408 0) ∧ (h' 408 0 = 0 ∧ h' 408 10 = 0) ∧ (∀ a s, ¬ (a = 408 ∧ (s = 0 ∨ s = 10)) → h' a s = h a s)) := by
  unfold gX1_clearRows
  refine OK_jlx (fun x1 ex1 => ?_)
  try simp (disch := omega) only [jst_eq, jst_ne, jst_ni, jI_i, jcmp_lt, jcmp_gt, w32_id, jcpy_out, Sum.elim_inl, Sum.elim_inr, jt2, jt3, jt4, jt5, jt6, jt7, jt8] at ex1
  refine OK_jb (vX9_clear) (fun h3 r1 => ?_)
  try dsimp only [Sum.elim_inl, Sum.elim_inr, jt2, jt3, jt4, jt5, jt6, jt7, jt8] at r1
  obtain ⟨z1, fr1⟩ := r1
  try simp (disch := omega) only [jst_eq, jst_ne, jst_ni, jI_i, jcmp_lt, jcmp_gt, w32_id, jcpy_out, Sum.elim_inl, Sum.elim_inr, jt2, jt3, jt4, jt5, jt6, jt7, jt8] at z1
  try simp (disch := omega) only [jst_eq, jst_ne, jst_ni, jI_i, jcmp_lt, jcmp_gt, w32_id, jcpy_out, Sum.elim_inl, Sum.elim_inr, jt2, jt3, jt4, jt5, jt6, jt7, jt8] at fr1
  refine OK_some ?_
  try dsimp only [Sum.elim_inl, Sum.elim_inr, jt2, jt3, jt4, jt5, jt6, jt7, jt8]
  try dsimp only [Sum.elim_inl, Sum.elim_inr, jt2, jt3, jt4, jt5, jt6, jt7, jt8]
  refine ⟨?_, ?_, ?_⟩
  · (first | assumption | omega | ((try dsimp only [jt2, jt3, jt4]); first | omega | (simp (disch := omega) only [jst_eq, jst_ne, jst_ni, jst_o, jI_i, jcpy_out, w32_id, jdiv_nn, jshr_k, jand_255] <;> first | done | omega | assumption)) | (intros; simp (disch := omega) only [jst_eq, jst_ne, jst_ni, jst_o, jI_i, jcpy_out, w32_id, jdiv_nn, *] <;> first | done | omega) | (intros; simp (disch := omega) only [jst_eq, jst_ne, jst_ni, jst_o, jI_i, jcpy_out, w32_id, jdiv_nn] at * <;> first | done | omega | assumption) | (intros; first | rfl | (exfalso; omega) | ((repeat' apply And.intro) <;> first | assumption | rfl | omega | trivial))) -- o1 e1.1
  · (first | assumption | omega | ((try dsimp only [jt2, jt3, jt4]); first | omega | (simp (disch := omega) only [jst_eq, jst_ne, jst_ni, jst_o, jI_i, jcpy_out, w32_id, jdiv_nn, jshr_k, jand_255] <;> first | done | omega | assumption)) | (intros; simp (disch := omega) only [jst_eq, jst_ne, jst_ni, jst_o, jI_i, jcpy_out, w32_id, jdiv_nn, *] <;> first | done | omega) | (intros; simp (disch := omega) only [jst_eq, jst_ne, jst_ni, jst_o, jI_i, jcpy_out, w32_id, jdiv_nn] at * <;> first | done | omega | assumption) | (intros; first | rfl | (exfalso; omega) | ((repeat' apply And.intro) <;> first | assumption | rfl | omega | trivial))) -- o2 e1.2
  · (first | assumption | omega | ((try dsimp only [jt2, jt3, jt4]); first | omega | (simp (disch := omega) only [jst_eq, jst_ne, jst_ni, jst_o, jI_i, jcpy_out, w32_id, jdiv_nn, jshr_k, jand_255] <;> first | done | omega | assumption)) | (intros; simp (disch := omega) only [jst_eq, jst_ne, jst_ni, jst_o, jI_i, jcpy_out, w32_id, jdiv_nn, *] <;> first | done | omega) | (intros; simp (disch := omega) only [jst_eq, jst_ne, jst_ni, jst_o, jI_i, jcpy_out, w32_id, jdiv_nn] at * <;> first | done | omega | assumption) | (intros; first | rfl | (exfalso; omega) | ((repeat' apply And.intro) <;> first | assumption | rfl | omega | trivial))) -- o3 e1.3
theorem vX1_clear {h : AH} {N : Int} (hd : h 200 53 = 0 ∨ h 200 53 = 1) (hl : lgX h) (he : h 408 0 = N ∧ 0 ≤ N ∧ N ≤ 8) : OK (gX1_clear h) (fun r => jt2 r fun v h' => ((h 200 53 = 1 ∧ v = -5 ∧ h' = h) ∨ (h 200 53 = 0 ∧ ((N = 0 ∧ v = 0 ∧ h' = h) ∨ (N ≠ 0 ∧ ¬ rmX h 0 ∧ v = -3 ∧ h' = h) ∨ (N ≠ 0 ∧ rmX h 0 ∧ v = N ∧ h' 408 0 = 0 ∧ h' 408 10 = 0 ∧ reX h h' 7 (fun _ => 0) 0)))) ∧ (∀ a s, ¬ (a = 408 ∧ (s = 0 ∨ s = 10)) → ¬ (a = 434 ∧ (s = 5 ∨ s = 6 ∨ s = 7)) → ¬ (a = 436 ∧ h 434 5 ≤ s) → h' a s = h a s)) := by
  have HL := hl
  unfold lgX at HL
  unfold gX1_clear
  refine OK_if (fun c1 => ?_) (fun c1 => ?_)
  · skip
    try simp (disch := omega) only [jst_eq, jst_ne, jst_ni, jI_i, jcmp_lt, jcmp_gt, w32_id, jcpy_out, Sum.elim_inl, Sum.elim_inr, jt2, jt3, jt4, jt5, jt6, jt7, jt8] at c1
    refine OK_if (fun c2 => ?_) (fun c2 => ?_)
    · skip
      try simp (disch := omega) only [jst_eq, jst_ne, jst_ni, jI_i, jcmp_lt, jcmp_gt, w32_id, jcpy_out, Sum.elim_inl, Sum.elim_inr, jt2, jt3, jt4, jt5, jt6, jt7, jt8] at c2
      refine OK_some ?_
      try dsimp only [Sum.elim_inl, Sum.elim_inr, jt2, jt3, jt4, jt5, jt6, jt7, jt8]
      try dsimp only [Sum.elim_inl, Sum.elim_inr, jt2, jt3, jt4, jt5, jt6, jt7, jt8]
      refine ⟨?_, ?_⟩
      · exact Or.inr ⟨c1, Or.inl ⟨by omega, rfl, rfl⟩⟩ -- o1 e1.1
      · (first | assumption | omega | ((try dsimp only [jt2, jt3, jt4]); first | omega | (simp (disch := omega) only [jst_eq, jst_ne, jst_ni, jst_o, jI_i, jcpy_out, w32_id, jdiv_nn, jshr_k, jand_255] <;> first | done | omega | assumption)) | (intros; simp (disch := omega) only [jst_eq, jst_ne, jst_ni, jst_o, jI_i, jcpy_out, w32_id, jdiv_nn, *] <;> first | done | omega) | (intros; simp (disch := omega) only [jst_eq, jst_ne, jst_ni, jst_o, jI_i, jcpy_out, w32_id, jdiv_nn] at * <;> first | done | omega | assumption) | (intros; first | rfl | (exfalso; omega) | ((repeat' apply And.intro) <;> first | assumption | rfl | omega | trivial))) -- o2 e1.2
    · skip
      try simp (disch := omega) only [jst_eq, jst_ne, jst_ni, jI_i, jcmp_lt, jcmp_gt, w32_id, jcpy_out, Sum.elim_inl, Sum.elim_inr, jt2, jt3, jt4, jt5, jt6, jt7, jt8] at c2
      refine OK_jb2 (vX12_begin _ _ (by (first | assumption | omega | ((try dsimp only [jt2, jt3, jt4]); first | omega | (simp (disch := omega) only [jst_eq, jst_ne, jst_ni, jst_o, jI_i, jcpy_out, w32_id, jdiv_nn, jshr_k, jand_255] <;> first | done | omega | assumption)) | (intros; simp (disch := omega) only [jst_eq, jst_ne, jst_ni, jst_o, jI_i, jcpy_out, w32_id, jdiv_nn, *] <;> first | done | omega) | (intros; simp (disch := omega) only [jst_eq, jst_ne, jst_ni, jst_o, jI_i, jcpy_out, w32_id, jdiv_nn] at * <;> first | done | omega | assumption) | (intros; first | rfl | (exfalso; omega) | ((repeat' apply And.intro) <;> first | assumption | rfl | omega | trivial)))) (by (first | assumption | omega | ((try dsimp only [jt2, jt3, jt4]); first | omega | (simp (disch := omega) only [jst_eq, jst_ne, jst_ni, jst_o, jI_i, jcpy_out, w32_id, jdiv_nn, jshr_k, jand_255] <;> first | done | omega | assumption)) | (intros; simp (disch := omega) only [jst_eq, jst_ne, jst_ni, jst_o, jI_i, jcpy_out, w32_id, jdiv_nn, *] <;> first | done | omega) | (intros; simp (disch := omega) only [jst_eq, jst_ne, jst_ni, jst_o, jI_i, jcpy_out, w32_id, jdiv_nn] at * <;> first | done | omega | assumption) | (intros; first | rfl | (exfalso; omega) | ((repeat' apply And.intro) <;> first | assumption | rfl | omega | trivial)))) (by (first | assumption | omega | ((try dsimp only [jt2, jt3, jt4]); first | omega | (simp (disch := omega) only [jst_eq, jst_ne, jst_ni, jst_o, jI_i, jcpy_out, w32_id, jdiv_nn, jshr_k, jand_255] <;> first | done | omega | assumption)) | (intros; simp (disch := omega) only [jst_eq, jst_ne, jst_ni, jst_o, jI_i, jcpy_out, w32_id, jdiv_nn, *] <;> first | done | omega) | (intros; simp (disch := omega) only [jst_eq, jst_ne, jst_ni, jst_o, jI_i, jcpy_out, w32_id, jdiv_nn] at * <;> first | done | omega | assumption) | (intros; first | rfl | (exfalso; omega) | ((repeat' apply And.intro) <;> first | assumption | rfl | omega | trivial))))) (fun v4 h5 r1 => ?_)
      try dsimp only [Sum.elim_inl, Sum.elim_inr, jt2, jt3, jt4, jt5, jt6, jt7, jt8] at r1
      have bg1 := r1
      clear r1
      try simp (disch := omega) only [jst_eq, jst_ne, jst_ni, jI_i, jcmp_lt, jcmp_gt, w32_id, jcpy_out, Sum.elim_inl, Sum.elim_inr, jt2, jt3, jt4, jt5, jt6, jt7, jt8] at bg1
      refine OK_if (fun c3 => ?_) (fun c3 => ?_)
      · skip
        try simp (disch := omega) only [jst_eq, jst_ne, jst_ni, jI_i, jcmp_lt, jcmp_gt, w32_id, jcpy_out, Sum.elim_inl, Sum.elim_inr, jt2, jt3, jt4, jt5, jt6, jt7, jt8] at c3
        refine OK_some ?_
        try dsimp only [Sum.elim_inl, Sum.elim_inr, jt2, jt3, jt4, jt5, jt6, jt7, jt8]
        try dsimp only [Sum.elim_inl, Sum.elim_inr, jt2, jt3, jt4, jt5, jt6, jt7, jt8]
        refine ⟨?_, ?_⟩
        · (rcases bg1 with z | z; { exact Or.inr ⟨c1, Or.inr (Or.inl ⟨by omega, by unfold rmX; omega, rfl, z.2.2⟩)⟩ }; { omega }) -- o6 e2.1
        · (intro a s y1 _ _; rcases bg1 with z | z; { rw [z.2.2] }; { omega }) -- o7 e2.2
      · skip
        try simp (disch := omega) only [jst_eq, jst_ne, jst_ni, jI_i, jcmp_lt, jcmp_gt, w32_id, jcpy_out, Sum.elim_inl, Sum.elim_inr, jt2, jt3, jt4, jt5, jt6, jt7, jt8] at c3
        obtain ⟨_, g0, g1, g2, g3, g4⟩ := bg1.resolve_left (fun q => c3 q.1)
        refine OK_jb (vX12_end (by (rw [g4 _ _ (by omega) (by omega)]; omega))) (fun h8 r2 => ?_)
        try dsimp only [Sum.elim_inl, Sum.elim_inr, jt2, jt3, jt4, jt5, jt6, jt7, jt8] at r2
        obtain ⟨z2, n2, fr2⟩ := r2
        try simp (disch := omega) only [jst_eq, jst_ne, jst_ni, jI_i, jcmp_lt, jcmp_gt, w32_id, jcpy_out, Sum.elim_inl, Sum.elim_inr, jt2, jt3, jt4, jt5, jt6, jt7, jt8] at z2
        try simp (disch := omega) only [jst_eq, jst_ne, jst_ni, jI_i, jcmp_lt, jcmp_gt, w32_id, jcpy_out, Sum.elim_inl, Sum.elim_inr, jt2, jt3, jt4, jt5, jt6, jt7, jt8] at n2
        try simp (disch := omega) only [jst_eq, jst_ne, jst_ni, jI_i, jcmp_lt, jcmp_gt, w32_id, jcpy_out, Sum.elim_inl, Sum.elim_inr, jt2, jt3, jt4, jt5, jt6, jt7, jt8] at fr2
        have S6 : h5 434 6 = h 434 6 := g4 _ _ (by omega) (by omega)
        have G8 : ∀ a s, ¬ (a = 434 ∧ (s = 5 ∨ s = 6 ∨ s = 7)) → ¬ (a = 436 ∧ h 434 5 ≤ s) → h8 a s = h a s := fun a s y z => by { rw [fr2 _ _ (by omega)]; exact g4 a s (by omega) (by omega) }
        refine OK_jb2 (vX1_clearRows) (fun v10 h11 r3 => ?_)
        try dsimp only [Sum.elim_inl, Sum.elim_inr, jt2, jt3, jt4, jt5, jt6, jt7, jt8] at r3
        obtain ⟨v3, z3, fr3⟩ := r3
        try simp (disch := omega) only [jst_eq, jst_ne, jst_ni, jI_i, jcmp_lt, jcmp_gt, w32_id, jcpy_out, Sum.elim_inl, Sum.elim_inr, jt2, jt3, jt4, jt5, jt6, jt7, jt8] at v3
        try simp (disch := omega) only [jst_eq, jst_ne, jst_ni, jI_i, jcmp_lt, jcmp_gt, w32_id, jcpy_out, Sum.elim_inl, Sum.elim_inr, jt2, jt3, jt4, jt5, jt6, jt7, jt8] at z3
        try simp (disch := omega) only [jst_eq, jst_ne, jst_ni, jI_i, jcmp_lt, jcmp_gt, w32_id, jcpy_out, Sum.elim_inl, Sum.elim_inr, jt2, jt3, jt4, jt5, jt6, jt7, jt8] at fr3
        refine OK_some ?_
        try dsimp only [Sum.elim_inl, Sum.elim_inr, jt2, jt3, jt4, jt5, jt6, jt7, jt8]
        try dsimp only [Sum.elim_inl, Sum.elim_inr, jt2, jt3, jt4, jt5, jt6, jt7, jt8]
        refine ⟨?_, ?_⟩
        · (right; refine ⟨c1, Or.inr (Or.inr ⟨by omega, by unfold rmX; omega, ?_, z3.1, z3.2, ?_⟩)⟩; { rw [v3, G8 _ _ (by omega) (by omega)]; exact he.1 }; { refine ⟨?_, ?_, ⟨?_, ?_, ?_⟩, fun k k0 k1 => by omega⟩; { rw [fr3 _ _ (by omega)]; omega }; { rw [fr3 _ _ (by omega)]; omega }; { rw [fr3 _ _ (by omega), fr2 _ _ (by omega), g2.1]; rfl }; { rw [fr3 _ _ (by omega), fr2 _ _ (by omega), g2.2.1]; rfl }; { rw [fr3 _ _ (by omega), fr2 _ _ (by omega), g2.2.2] } }) -- o9 e3.1
        · exact fun a s y1 y2 y3 => by rw [fr3 a s y1]; exact G8 a s y2 y3 -- o10 e3.2
  · skip
    try simp (disch := omega) only [jst_eq, jst_ne, jst_ni, jI_i, jcmp_lt, jcmp_gt, w32_id, jcpy_out, Sum.elim_inl, Sum.elim_inr, jt2, jt3, jt4, jt5, jt6, jt7, jt8] at c1
    refine OK_some ?_
    try dsimp only [Sum.elim_inl, Sum.elim_inr, jt2, jt3, jt4, jt5, jt6, jt7, jt8]
    try dsimp only [Sum.elim_inl, Sum.elim_inr, jt2, jt3, jt4, jt5, jt6, jt7, jt8]
    refine ⟨?_, ?_⟩
    · exact Or.inl ⟨by omega, rfl, rfl⟩ -- o11 e4.1
    · (first | assumption | omega | ((try dsimp only [jt2, jt3, jt4]); first | omega | (simp (disch := omega) only [jst_eq, jst_ne, jst_ni, jst_o, jI_i, jcpy_out, w32_id, jdiv_nn, jshr_k, jand_255] <;> first | done | omega | assumption)) | (intros; simp (disch := omega) only [jst_eq, jst_ne, jst_ni, jst_o, jI_i, jcpy_out, w32_id, jdiv_nn, *] <;> first | done | omega) | (intros; simp (disch := omega) only [jst_eq, jst_ne, jst_ni, jst_o, jI_i, jcpy_out, w32_id, jdiv_nn] at * <;> first | done | omega | assumption) | (intros; first | rfl | (exfalso; omega) | ((repeat' apply And.intro) <;> first | assumption | rfl | omega | trivial))) -- o12 e4.2

