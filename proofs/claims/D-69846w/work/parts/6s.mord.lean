/-! m: heads of terms, their order -/
theorem vX14_isLike_l87_0 {F : Int → Int → AH → Option (Int)} (i1 : Int) (i2 : Int) (a30 : Int) (a40 : Int) {h : AH} (k : 0 ≤ i1 ∧ i1 < 8800 ∧ h 465 i1 = 0) (z : a30 = 1 ∧ a40 = 0) : OK (gX14_isLike_l87 F i1 i2 a30 a40 h) (fun v => v = 1) := by
  unfold gX14_isLike_l87
  refine OK_jit (I := (fun (s : Int × Int) => jt2 s fun a3 a4 => a3 = 1 ∧ a4 = 0)) (m := (fun (s : Int × Int) => jt2 s fun a3 a4 => 0)) ?_ ?_
  · intro s hs
    obtain ⟨a3, a4⟩ := s
    dsimp only [Sum.elim_inl, Sum.elim_inr, jt2, jt3, jt4, jt5, jt6, jt7, jt8] at hs
    have q0 := hs; clear hs
    unfold gX14_isLike_b87
    refine OK_jt2 ?_
    refine OK_jg (by (first | assumption | omega | ((try dsimp only [jt2, jt3, jt4]); first | omega | (simp (disch := omega) only [jst_eq, jst_ne, jst_ni, jst_o, jI_i, jcpy_out, w32_id, jdiv_nn, jshr_k, jand_255] <;> first | done | omega | assumption)) | (intros; simp (disch := omega) only [jst_eq, jst_ne, jst_ni, jst_o, jI_i, jcpy_out, w32_id, jdiv_nn, *] <;> first | done | omega) | (intros; simp (disch := omega) only [jst_eq, jst_ne, jst_ni, jst_o, jI_i, jcpy_out, w32_id, jdiv_nn] at * <;> first | done | omega | assumption) | (intros; first | rfl | (exfalso; omega) | ((repeat' apply And.intro) <;> first | assumption | rfl | omega | trivial)))) ?_ -- o1
    refine OK_if (fun c1 => ?_) (fun c1 => ?_)
    · skip
      try simp (disch := omega) only [jst_eq, jst_ne, jst_ni, jI_i, jcmp_lt, jcmp_gt, w32_id, jcpy_out, Sum.elim_inl, Sum.elim_inr, jt2, jt3, jt4, jt5, jt6, jt7, jt8] at c1
      refine OK_ir ?_
      (first | assumption | omega | ((try dsimp only [jt2, jt3, jt4]); first | omega | (simp (disch := omega) only [jst_eq, jst_ne, jst_ni, jst_o, jI_i, jcpy_out, w32_id, jdiv_nn, jshr_k, jand_255] <;> first | done | omega | assumption)) | (intros; simp (disch := omega) only [jst_eq, jst_ne, jst_ni, jst_o, jI_i, jcpy_out, w32_id, jdiv_nn, *] <;> first | done | omega) | (intros; simp (disch := omega) only [jst_eq, jst_ne, jst_ni, jst_o, jI_i, jcpy_out, w32_id, jdiv_nn] at * <;> first | done | omega | assumption) | (intros; first | rfl | (exfalso; omega) | ((repeat' apply And.intro) <;> first | assumption | rfl | omega | trivial))) -- o2 e1
    · skip
      try simp (disch := omega) only [jst_eq, jst_ne, jst_ni, jI_i, jcmp_lt, jcmp_gt, w32_id, jcpy_out, Sum.elim_inl, Sum.elim_inr, jt2, jt3, jt4, jt5, jt6, jt7, jt8] at c1
      exfalso
      omega
  · (first | assumption | omega | ((try dsimp only [jt2, jt3, jt4]); first | omega | (simp (disch := omega) only [jst_eq, jst_ne, jst_ni, jst_o, jI_i, jcpy_out, w32_id, jdiv_nn, jshr_k, jand_255] <;> first | done | omega | assumption)) | (intros; simp (disch := omega) only [jst_eq, jst_ne, jst_ni, jst_o, jI_i, jcpy_out, w32_id, jdiv_nn, *] <;> first | done | omega) | (intros; simp (disch := omega) only [jst_eq, jst_ne, jst_ni, jst_o, jI_i, jcpy_out, w32_id, jdiv_nn] at * <;> first | done | omega | assumption) | (intros; first | rfl | (exfalso; omega) | ((repeat' apply And.intro) <;> first | assumption | rfl | omega | trivial))) -- o3 init
theorem vX14_isLike_0 {F : Int → Int → AH → Option (Int)} (a1 : Int) (a2 : Int) {h : AH} (b : 0 ≤ a1 ∧ a1 < 8800 ∧ 0 ≤ a2 ∧ a2 < 8800) (l : h 460 a1 = 0 ∧ h 465 a1 = 0) : OK (gX14_isLike_ F a1 a2 h) (fun v => (v = 1 ∧ h 460 a2 = 0 ∧ h 461 a1 = h 461 a2 ∧ h 462 a1 = h 462 a2) ∨ (v = 0 ∧ ¬ (h 460 a2 = 0 ∧ h 461 a1 = h 461 a2 ∧ h 462 a1 = h 462 a2))) := by
  unfold gX14_isLike_
  refine OK_jg (by (first | ((unfold jZ; omega)) | (first | assumption | omega | ((try dsimp only [jt2, jt3, jt4]); first | omega | (simp (disch := omega) only [jst_eq, jst_ne, jst_ni, jst_o, jI_i, jcpy_out, w32_id, jdiv_nn, jshr_k, jand_255] <;> first | done | omega | assumption)) | (intros; simp (disch := omega) only [jst_eq, jst_ne, jst_ni, jst_o, jI_i, jcpy_out, w32_id, jdiv_nn, *] <;> first | done | omega) | (intros; simp (disch := omega) only [jst_eq, jst_ne, jst_ni, jst_o, jI_i, jcpy_out, w32_id, jdiv_nn] at * <;> first | done | omega | assumption) | (intros; first | rfl | (exfalso; omega) | ((repeat' apply And.intro) <;> first | assumption | rfl | omega | trivial))))) ?_ -- o1
  refine OK_jg (by (first | ((unfold jZ; omega)) | (first | assumption | omega | ((try dsimp only [jt2, jt3, jt4]); first | omega | (simp (disch := omega) only [jst_eq, jst_ne, jst_ni, jst_o, jI_i, jcpy_out, w32_id, jdiv_nn, jshr_k, jand_255] <;> first | done | omega | assumption)) | (intros; simp (disch := omega) only [jst_eq, jst_ne, jst_ni, jst_o, jI_i, jcpy_out, w32_id, jdiv_nn, *] <;> first | done | omega) | (intros; simp (disch := omega) only [jst_eq, jst_ne, jst_ni, jst_o, jI_i, jcpy_out, w32_id, jdiv_nn] at * <;> first | done | omega | assumption) | (intros; first | rfl | (exfalso; omega) | ((repeat' apply And.intro) <;> first | assumption | rfl | omega | trivial))))) ?_ -- o2
  refine OK_if (fun c1 => ?_) (fun c1 => ?_)
  · skip
    try simp (disch := omega) only [jst_eq, jst_ne, jst_ni, jI_i, jcmp_lt, jcmp_gt, w32_id, jcpy_out, Sum.elim_inl, Sum.elim_inr, jt2, jt3, jt4, jt5, jt6, jt7, jt8] at c1
    refine OK_if (fun c2 => ?_) (fun c2 => ?_)
    · skip
      try simp (disch := omega) only [jst_eq, jst_ne, jst_ni, jI_i, jcmp_lt, jcmp_gt, w32_id, jcpy_out, Sum.elim_inl, Sum.elim_inr, jt2, jt3, jt4, jt5, jt6, jt7, jt8] at c2
      unfold gX14_isLike_j55
      refine OK_jg (by (first | ((unfold jZ; omega)) | (first | assumption | omega | ((try dsimp only [jt2, jt3, jt4]); first | omega | (simp (disch := omega) only [jst_eq, jst_ne, jst_ni, jst_o, jI_i, jcpy_out, w32_id, jdiv_nn, jshr_k, jand_255] <;> first | done | omega | assumption)) | (intros; simp (disch := omega) only [jst_eq, jst_ne, jst_ni, jst_o, jI_i, jcpy_out, w32_id, jdiv_nn, *] <;> first | done | omega) | (intros; simp (disch := omega) only [jst_eq, jst_ne, jst_ni, jst_o, jI_i, jcpy_out, w32_id, jdiv_nn] at * <;> first | done | omega | assumption) | (intros; first | rfl | (exfalso; omega) | ((repeat' apply And.intro) <;> first | assumption | rfl | omega | trivial))))) ?_ -- o3
      refine OK_if (fun c3 => ?_) (fun c3 => ?_)
      · skip
        try simp (disch := omega) only [jst_eq, jst_ne, jst_ni, jI_i, jcmp_lt, jcmp_gt, w32_id, jcpy_out, Sum.elim_inl, Sum.elim_inr, jt2, jt3, jt4, jt5, jt6, jt7, jt8] at c3
        refine OK_jg (by (first | ((unfold jZ; omega)) | (first | assumption | omega | ((try dsimp only [jt2, jt3, jt4]); first | omega | (simp (disch := omega) only [jst_eq, jst_ne, jst_ni, jst_o, jI_i, jcpy_out, w32_id, jdiv_nn, jshr_k, jand_255] <;> first | done | omega | assumption)) | (intros; simp (disch := omega) only [jst_eq, jst_ne, jst_ni, jst_o, jI_i, jcpy_out, w32_id, jdiv_nn, *] <;> first | done | omega) | (intros; simp (disch := omega) only [jst_eq, jst_ne, jst_ni, jst_o, jI_i, jcpy_out, w32_id, jdiv_nn] at * <;> first | done | omega | assumption) | (intros; first | rfl | (exfalso; omega) | ((repeat' apply And.intro) <;> first | assumption | rfl | omega | trivial))))) ?_ -- o4
        refine OK_if (fun c4 => ?_) (fun c4 => ?_)
        · skip
          try simp (disch := omega) only [jst_eq, jst_ne, jst_ni, jI_i, jcmp_lt, jcmp_gt, w32_id, jcpy_out, Sum.elim_inl, Sum.elim_inr, jt2, jt3, jt4, jt5, jt6, jt7, jt8] at c4
          unfold gX14_isLike_j82
          refine OK_jb (vX14_isLike_l87_0 _ _ _ _ (by (first | ((unfold jZ; omega)) | (first | assumption | omega | ((try dsimp only [jt2, jt3, jt4]); first | omega | (simp (disch := omega) only [jst_eq, jst_ne, jst_ni, jst_o, jI_i, jcpy_out, w32_id, jdiv_nn, jshr_k, jand_255] <;> first | done | omega | assumption)) | (intros; simp (disch := omega) only [jst_eq, jst_ne, jst_ni, jst_o, jI_i, jcpy_out, w32_id, jdiv_nn, *] <;> first | done | omega) | (intros; simp (disch := omega) only [jst_eq, jst_ne, jst_ni, jst_o, jI_i, jcpy_out, w32_id, jdiv_nn] at * <;> first | done | omega | assumption) | (intros; first | rfl | (exfalso; omega) | ((repeat' apply And.intro) <;> first | assumption | rfl | omega | trivial))))) (by (first | ((unfold jZ; omega)) | (first | assumption | omega | ((try dsimp only [jt2, jt3, jt4]); first | omega | (simp (disch := omega) only [jst_eq, jst_ne, jst_ni, jst_o, jI_i, jcpy_out, w32_id, jdiv_nn, jshr_k, jand_255] <;> first | done | omega | assumption)) | (intros; simp (disch := omega) only [jst_eq, jst_ne, jst_ni, jst_o, jI_i, jcpy_out, w32_id, jdiv_nn, *] <;> first | done | omega) | (intros; simp (disch := omega) only [jst_eq, jst_ne, jst_ni, jst_o, jI_i, jcpy_out, w32_id, jdiv_nn] at * <;> first | done | omega | assumption) | (intros; first | rfl | (exfalso; omega) | ((repeat' apply And.intro) <;> first | assumption | rfl | omega | trivial)))))) (fun o7 r1 => ?_)
          try dsimp only [Sum.elim_inl, Sum.elim_inr, jt2, jt3, jt4, jt5, jt6, jt7, jt8] at r1
          have one1 := r1
          clear r1
          try simp (disch := omega) only [jst_eq, jst_ne, jst_ni, jI_i, jcmp_lt, jcmp_gt, w32_id, jcpy_out, Sum.elim_inl, Sum.elim_inr, jt2, jt3, jt4, jt5, jt6, jt7, jt8] at one1
          refine OK_jg (by (first | ((unfold jZ; omega)) | (first | assumption | omega | ((try dsimp only [jt2, jt3, jt4]); first | omega | (simp (disch := omega) only [jst_eq, jst_ne, jst_ni, jst_o, jI_i, jcpy_out, w32_id, jdiv_nn, jshr_k, jand_255] <;> first | done | omega | assumption)) | (intros; simp (disch := omega) only [jst_eq, jst_ne, jst_ni, jst_o, jI_i, jcpy_out, w32_id, jdiv_nn, *] <;> first | done | omega) | (intros; simp (disch := omega) only [jst_eq, jst_ne, jst_ni, jst_o, jI_i, jcpy_out, w32_id, jdiv_nn] at * <;> first | done | omega | assumption) | (intros; first | rfl | (exfalso; omega) | ((repeat' apply And.intro) <;> first | assumption | rfl | omega | trivial))))) ?_ -- o7
          refine OK_some ?_
          try dsimp only [Sum.elim_inl, Sum.elim_inr, jt2, jt3, jt4, jt5, jt6, jt7, jt8]
          (first | ((unfold jZ; omega)) | (first | assumption | omega | ((try dsimp only [jt2, jt3, jt4]); first | omega | (simp (disch := omega) only [jst_eq, jst_ne, jst_ni, jst_o, jI_i, jcpy_out, w32_id, jdiv_nn, jshr_k, jand_255] <;> first | done | omega | assumption)) | (intros; simp (disch := omega) only [jst_eq, jst_ne, jst_ni, jst_o, jI_i, jcpy_out, w32_id, jdiv_nn, *] <;> first | done | omega) | (intros; simp (disch := omega) only [jst_eq, jst_ne, jst_ni, jst_o, jI_i, jcpy_out, w32_id, jdiv_nn] at * <;> first | done | omega | assumption) | (intros; first | rfl | (exfalso; omega) | ((repeat' apply And.intro) <;> first | assumption | rfl | omega | trivial)))) -- o8 e1
        · skip
          try simp (disch := omega) only [jst_eq, jst_ne, jst_ni, jI_i, jcmp_lt, jcmp_gt, w32_id, jcpy_out, Sum.elim_inl, Sum.elim_inr, jt2, jt3, jt4, jt5, jt6, jt7, jt8] at c4
          refine OK_some ?_
          try dsimp only [Sum.elim_inl, Sum.elim_inr, jt2, jt3, jt4, jt5, jt6, jt7, jt8]
          (first | ((unfold jZ; omega)) | (first | assumption | omega | ((try dsimp only [jt2, jt3, jt4]); first | omega | (simp (disch := omega) only [jst_eq, jst_ne, jst_ni, jst_o, jI_i, jcpy_out, w32_id, jdiv_nn, jshr_k, jand_255] <;> first | done | omega | assumption)) | (intros; simp (disch := omega) only [jst_eq, jst_ne, jst_ni, jst_o, jI_i, jcpy_out, w32_id, jdiv_nn, *] <;> first | done | omega) | (intros; simp (disch := omega) only [jst_eq, jst_ne, jst_ni, jst_o, jI_i, jcpy_out, w32_id, jdiv_nn] at * <;> first | done | omega | assumption) | (intros; first | rfl | (exfalso; omega) | ((repeat' apply And.intro) <;> first | assumption | rfl | omega | trivial)))) -- o9 e2
      · skip
        try simp (disch := omega) only [jst_eq, jst_ne, jst_ni, jI_i, jcmp_lt, jcmp_gt, w32_id, jcpy_out, Sum.elim_inl, Sum.elim_inr, jt2, jt3, jt4, jt5, jt6, jt7, jt8] at c3
        unfold gX14_isLike_j82
        refine OK_jb (vX14_isLike_l87_0 _ _ _ _ (by (first | ((unfold jZ; omega)) | (first | assumption | omega | ((try dsimp only [jt2, jt3, jt4]); first | omega | (simp (disch := omega) only [jst_eq, jst_ne, jst_ni, jst_o, jI_i, jcpy_out, w32_id, jdiv_nn, jshr_k, jand_255] <;> first | done | omega | assumption)) | (intros; simp (disch := omega) only [jst_eq, jst_ne, jst_ni, jst_o, jI_i, jcpy_out, w32_id, jdiv_nn, *] <;> first | done | omega) | (intros; simp (disch := omega) only [jst_eq, jst_ne, jst_ni, jst_o, jI_i, jcpy_out, w32_id, jdiv_nn] at * <;> first | done | omega | assumption) | (intros; first | rfl | (exfalso; omega) | ((repeat' apply And.intro) <;> first | assumption | rfl | omega | trivial))))) (by (first | ((unfold jZ; omega)) | (first | assumption | omega | ((try dsimp only [jt2, jt3, jt4]); first | omega | (simp (disch := omega) only [jst_eq, jst_ne, jst_ni, jst_o, jI_i, jcpy_out, w32_id, jdiv_nn, jshr_k, jand_255] <;> first | done | omega | assumption)) | (intros; simp (disch := omega) only [jst_eq, jst_ne, jst_ni, jst_o, jI_i, jcpy_out, w32_id, jdiv_nn, *] <;> first | done | omega) | (intros; simp (disch := omega) only [jst_eq, jst_ne, jst_ni, jst_o, jI_i, jcpy_out, w32_id, jdiv_nn] at * <;> first | done | omega | assumption) | (intros; first | rfl | (exfalso; omega) | ((repeat' apply And.intro) <;> first | assumption | rfl | omega | trivial)))))) (fun o7 r2 => ?_)
        try dsimp only [Sum.elim_inl, Sum.elim_inr, jt2, jt3, jt4, jt5, jt6, jt7, jt8] at r2
        have one2 := r2
        clear r2
        try simp (disch := omega) only [jst_eq, jst_ne, jst_ni, jI_i, jcmp_lt, jcmp_gt, w32_id, jcpy_out, Sum.elim_inl, Sum.elim_inr, jt2, jt3, jt4, jt5, jt6, jt7, jt8] at one2
        refine OK_jg (by (first | ((unfold jZ; omega)) | (first | assumption | omega | ((try dsimp only [jt2, jt3, jt4]); first | omega | (simp (disch := omega) only [jst_eq, jst_ne, jst_ni, jst_o, jI_i, jcpy_out, w32_id, jdiv_nn, jshr_k, jand_255] <;> first | done | omega | assumption)) | (intros; simp (disch := omega) only [jst_eq, jst_ne, jst_ni, jst_o, jI_i, jcpy_out, w32_id, jdiv_nn, *] <;> first | done | omega) | (intros; simp (disch := omega) only [jst_eq, jst_ne, jst_ni, jst_o, jI_i, jcpy_out, w32_id, jdiv_nn] at * <;> first | done | omega | assumption) | (intros; first | rfl | (exfalso; omega) | ((repeat' apply And.intro) <;> first | assumption | rfl | omega | trivial))))) ?_ -- o12
        refine OK_some ?_
        try dsimp only [Sum.elim_inl, Sum.elim_inr, jt2, jt3, jt4, jt5, jt6, jt7, jt8]
        (first | ((unfold jZ; omega)) | (first | assumption | omega | ((try dsimp only [jt2, jt3, jt4]); first | omega | (simp (disch := omega) only [jst_eq, jst_ne, jst_ni, jst_o, jI_i, jcpy_out, w32_id, jdiv_nn, jshr_k, jand_255] <;> first | done | omega | assumption)) | (intros; simp (disch := omega) only [jst_eq, jst_ne, jst_ni, jst_o, jI_i, jcpy_out, w32_id, jdiv_nn, *] <;> first | done | omega) | (intros; simp (disch := omega) only [jst_eq, jst_ne, jst_ni, jst_o, jI_i, jcpy_out, w32_id, jdiv_nn] at * <;> first | done | omega | assumption) | (intros; first | rfl | (exfalso; omega) | ((repeat' apply And.intro) <;> first | assumption | rfl | omega | trivial)))) -- o13 e3
    · skip
      try simp (disch := omega) only [jst_eq, jst_ne, jst_ni, jI_i, jcmp_lt, jcmp_gt, w32_id, jcpy_out, Sum.elim_inl, Sum.elim_inr, jt2, jt3, jt4, jt5, jt6, jt7, jt8] at c2
      refine OK_if (fun c5 => ?_) (fun c5 => ?_)
      · skip
        try simp (disch := omega) only [jst_eq, jst_ne, jst_ni, jI_i, jcmp_lt, jcmp_gt, w32_id, jcpy_out, Sum.elim_inl, Sum.elim_inr, jt2, jt3, jt4, jt5, jt6, jt7, jt8] at c5
        refine OK_if (fun c6 => ?_) (fun c6 => ?_)
        · skip
          try simp (disch := omega) only [jst_eq, jst_ne, jst_ni, jI_i, jcmp_lt, jcmp_gt, w32_id, jcpy_out, Sum.elim_inl, Sum.elim_inr, jt2, jt3, jt4, jt5, jt6, jt7, jt8] at c6
          unfold gX14_isLike_j55
          refine OK_jg (by (first | ((unfold jZ; omega)) | (first | assumption | omega | ((try dsimp only [jt2, jt3, jt4]); first | omega | (simp (disch := omega) only [jst_eq, jst_ne, jst_ni, jst_o, jI_i, jcpy_out, w32_id, jdiv_nn, jshr_k, jand_255] <;> first | done | omega | assumption)) | (intros; simp (disch := omega) only [jst_eq, jst_ne, jst_ni, jst_o, jI_i, jcpy_out, w32_id, jdiv_nn, *] <;> first | done | omega) | (intros; simp (disch := omega) only [jst_eq, jst_ne, jst_ni, jst_o, jI_i, jcpy_out, w32_id, jdiv_nn] at * <;> first | done | omega | assumption) | (intros; first | rfl | (exfalso; omega) | ((repeat' apply And.intro) <;> first | assumption | rfl | omega | trivial))))) ?_ -- o14
          refine OK_if (fun c7 => ?_) (fun c7 => ?_)
          · skip
            try simp (disch := omega) only [jst_eq, jst_ne, jst_ni, jI_i, jcmp_lt, jcmp_gt, w32_id, jcpy_out, Sum.elim_inl, Sum.elim_inr, jt2, jt3, jt4, jt5, jt6, jt7, jt8] at c7
            refine OK_jg (by (first | ((unfold jZ; omega)) | (first | assumption | omega | ((try dsimp only [jt2, jt3, jt4]); first | omega | (simp (disch := omega) only [jst_eq, jst_ne, jst_ni, jst_o, jI_i, jcpy_out, w32_id, jdiv_nn, jshr_k, jand_255] <;> first | done | omega | assumption)) | (intros; simp (disch := omega) only [jst_eq, jst_ne, jst_ni, jst_o, jI_i, jcpy_out, w32_id, jdiv_nn, *] <;> first | done | omega) | (intros; simp (disch := omega) only [jst_eq, jst_ne, jst_ni, jst_o, jI_i, jcpy_out, w32_id, jdiv_nn] at * <;> first | done | omega | assumption) | (intros; first | rfl | (exfalso; omega) | ((repeat' apply And.intro) <;> first | assumption | rfl | omega | trivial))))) ?_ -- o15
            refine OK_if (fun c8 => ?_) (fun c8 => ?_)
            · skip
              try simp (disch := omega) only [jst_eq, jst_ne, jst_ni, jI_i, jcmp_lt, jcmp_gt, w32_id, jcpy_out, Sum.elim_inl, Sum.elim_inr, jt2, jt3, jt4, jt5, jt6, jt7, jt8] at c8
              unfold gX14_isLike_j82
              refine OK_jb (vX14_isLike_l87_0 _ _ _ _ (by (first | ((unfold jZ; omega)) | (first | assumption | omega | ((try dsimp only [jt2, jt3, jt4]); first | omega | (simp (disch := omega) only [jst_eq, jst_ne, jst_ni, jst_o, jI_i, jcpy_out, w32_id, jdiv_nn, jshr_k, jand_255] <;> first | done | omega | assumption)) | (intros; simp (disch := omega) only [jst_eq, jst_ne, jst_ni, jst_o, jI_i, jcpy_out, w32_id, jdiv_nn, *] <;> first | done | omega) | (intros; simp (disch := omega) only [jst_eq, jst_ne, jst_ni, jst_o, jI_i, jcpy_out, w32_id, jdiv_nn] at * <;> first | done | omega | assumption) | (intros; first | rfl | (exfalso; omega) | ((repeat' apply And.intro) <;> first | assumption | rfl | omega | trivial))))) (by (first | ((unfold jZ; omega)) | (first | assumption | omega | ((try dsimp only [jt2, jt3, jt4]); first | omega | (simp (disch := omega) only [jst_eq, jst_ne, jst_ni, jst_o, jI_i, jcpy_out, w32_id, jdiv_nn, jshr_k, jand_255] <;> first | done | omega | assumption)) | (intros; simp (disch := omega) only [jst_eq, jst_ne, jst_ni, jst_o, jI_i, jcpy_out, w32_id, jdiv_nn, *] <;> first | done | omega) | (intros; simp (disch := omega) only [jst_eq, jst_ne, jst_ni, jst_o, jI_i, jcpy_out, w32_id, jdiv_nn] at * <;> first | done | omega | assumption) | (intros; first | rfl | (exfalso; omega) | ((repeat' apply And.intro) <;> first | assumption | rfl | omega | trivial)))))) (fun o7 r3 => ?_)
              try dsimp only [Sum.elim_inl, Sum.elim_inr, jt2, jt3, jt4, jt5, jt6, jt7, jt8] at r3
              have one3 := r3
              clear r3
              try simp (disch := omega) only [jst_eq, jst_ne, jst_ni, jI_i, jcmp_lt, jcmp_gt, w32_id, jcpy_out, Sum.elim_inl, Sum.elim_inr, jt2, jt3, jt4, jt5, jt6, jt7, jt8] at one3
              refine OK_jg (by (first | ((unfold jZ; omega)) | (first | assumption | omega | ((try dsimp only [jt2, jt3, jt4]); first | omega | (simp (disch := omega) only [jst_eq, jst_ne, jst_ni, jst_o, jI_i, jcpy_out, w32_id, jdiv_nn, jshr_k, jand_255] <;> first | done | omega | assumption)) | (intros; simp (disch := omega) only [jst_eq, jst_ne, jst_ni, jst_o, jI_i, jcpy_out, w32_id, jdiv_nn, *] <;> first | done | omega) | (intros; simp (disch := omega) only [jst_eq, jst_ne, jst_ni, jst_o, jI_i, jcpy_out, w32_id, jdiv_nn] at * <;> first | done | omega | assumption) | (intros; first | rfl | (exfalso; omega) | ((repeat' apply And.intro) <;> first | assumption | rfl | omega | trivial))))) ?_ -- o18
              refine OK_some ?_
              try dsimp only [Sum.elim_inl, Sum.elim_inr, jt2, jt3, jt4, jt5, jt6, jt7, jt8]
              (first | ((unfold jZ; omega)) | (first | assumption | omega | ((try dsimp only [jt2, jt3, jt4]); first | omega | (simp (disch := omega) only [jst_eq, jst_ne, jst_ni, jst_o, jI_i, jcpy_out, w32_id, jdiv_nn, jshr_k, jand_255] <;> first | done | omega | assumption)) | (intros; simp (disch := omega) only [jst_eq, jst_ne, jst_ni, jst_o, jI_i, jcpy_out, w32_id, jdiv_nn, *] <;> first | done | omega) | (intros; simp (disch := omega) only [jst_eq, jst_ne, jst_ni, jst_o, jI_i, jcpy_out, w32_id, jdiv_nn] at * <;> first | done | omega | assumption) | (intros; first | rfl | (exfalso; omega) | ((repeat' apply And.intro) <;> first | assumption | rfl | omega | trivial)))) -- o19 e4
            · skip
              try simp (disch := omega) only [jst_eq, jst_ne, jst_ni, jI_i, jcmp_lt, jcmp_gt, w32_id, jcpy_out, Sum.elim_inl, Sum.elim_inr, jt2, jt3, jt4, jt5, jt6, jt7, jt8] at c8
              refine OK_some ?_
              try dsimp only [Sum.elim_inl, Sum.elim_inr, jt2, jt3, jt4, jt5, jt6, jt7, jt8]
              (first | ((unfold jZ; omega)) | (first | assumption | omega | ((try dsimp only [jt2, jt3, jt4]); first | omega | (simp (disch := omega) only [jst_eq, jst_ne, jst_ni, jst_o, jI_i, jcpy_out, w32_id, jdiv_nn, jshr_k, jand_255] <;> first | done | omega | assumption)) | (intros; simp (disch := omega) only [jst_eq, jst_ne, jst_ni, jst_o, jI_i, jcpy_out, w32_id, jdiv_nn, *] <;> first | done | omega) | (intros; simp (disch := omega) only [jst_eq, jst_ne, jst_ni, jst_o, jI_i, jcpy_out, w32_id, jdiv_nn] at * <;> first | done | omega | assumption) | (intros; first | rfl | (exfalso; omega) | ((repeat' apply And.intro) <;> first | assumption | rfl | omega | trivial)))) -- o20 e5
          · skip
            try simp (disch := omega) only [jst_eq, jst_ne, jst_ni, jI_i, jcmp_lt, jcmp_gt, w32_id, jcpy_out, Sum.elim_inl, Sum.elim_inr, jt2, jt3, jt4, jt5, jt6, jt7, jt8] at c7
            unfold gX14_isLike_j82
            refine OK_jb (vX14_isLike_l87_0 _ _ _ _ (by (first | ((unfold jZ; omega)) | (first | assumption | omega | ((try dsimp only [jt2, jt3, jt4]); first | omega | (simp (disch := omega) only [jst_eq, jst_ne, jst_ni, jst_o, jI_i, jcpy_out, w32_id, jdiv_nn, jshr_k, jand_255] <;> first | done | omega | assumption)) | (intros; simp (disch := omega) only [jst_eq, jst_ne, jst_ni, jst_o, jI_i, jcpy_out, w32_id, jdiv_nn, *] <;> first | done | omega) | (intros; simp (disch := omega) only [jst_eq, jst_ne, jst_ni, jst_o, jI_i, jcpy_out, w32_id, jdiv_nn] at * <;> first | done | omega | assumption) | (intros; first | rfl | (exfalso; omega) | ((repeat' apply And.intro) <;> first | assumption | rfl | omega | trivial))))) (by (first | ((unfold jZ; omega)) | (first | assumption | omega | ((try dsimp only [jt2, jt3, jt4]); first | omega | (simp (disch := omega) only [jst_eq, jst_ne, jst_ni, jst_o, jI_i, jcpy_out, w32_id, jdiv_nn, jshr_k, jand_255] <;> first | done | omega | assumption)) | (intros; simp (disch := omega) only [jst_eq, jst_ne, jst_ni, jst_o, jI_i, jcpy_out, w32_id, jdiv_nn, *] <;> first | done | omega) | (intros; simp (disch := omega) only [jst_eq, jst_ne, jst_ni, jst_o, jI_i, jcpy_out, w32_id, jdiv_nn] at * <;> first | done | omega | assumption) | (intros; first | rfl | (exfalso; omega) | ((repeat' apply And.intro) <;> first | assumption | rfl | omega | trivial)))))) (fun o7 r4 => ?_)
            try dsimp only [Sum.elim_inl, Sum.elim_inr, jt2, jt3, jt4, jt5, jt6, jt7, jt8] at r4
            have one4 := r4
            clear r4
            try simp (disch := omega) only [jst_eq, jst_ne, jst_ni, jI_i, jcmp_lt, jcmp_gt, w32_id, jcpy_out, Sum.elim_inl, Sum.elim_inr, jt2, jt3, jt4, jt5, jt6, jt7, jt8] at one4
            refine OK_jg (by (first | ((unfold jZ; omega)) | (first | assumption | omega | ((try dsimp only [jt2, jt3, jt4]); first | omega | (simp (disch := omega) only [jst_eq, jst_ne, jst_ni, jst_o, jI_i, jcpy_out, w32_id, jdiv_nn, jshr_k, jand_255] <;> first | done | omega | assumption)) | (intros; simp (disch := omega) only [jst_eq, jst_ne, jst_ni, jst_o, jI_i, jcpy_out, w32_id, jdiv_nn, *] <;> first | done | omega) | (intros; simp (disch := omega) only [jst_eq, jst_ne, jst_ni, jst_o, jI_i, jcpy_out, w32_id, jdiv_nn] at * <;> first | done | omega | assumption) | (intros; first | rfl | (exfalso; omega) | ((repeat' apply And.intro) <;> first | assumption | rfl | omega | trivial))))) ?_ -- o23
            refine OK_some ?_
            try dsimp only [Sum.elim_inl, Sum.elim_inr, jt2, jt3, jt4, jt5, jt6, jt7, jt8]
            (first | ((unfold jZ; omega)) | (first | assumption | omega | ((try dsimp only [jt2, jt3, jt4]); first | omega | (simp (disch := omega) only [jst_eq, jst_ne, jst_ni, jst_o, jI_i, jcpy_out, w32_id, jdiv_nn, jshr_k, jand_255] <;> first | done | omega | assumption)) | (intros; simp (disch := omega) only [jst_eq, jst_ne, jst_ni, jst_o, jI_i, jcpy_out, w32_id, jdiv_nn, *] <;> first | done | omega) | (intros; simp (disch := omega) only [jst_eq, jst_ne, jst_ni, jst_o, jI_i, jcpy_out, w32_id, jdiv_nn] at * <;> first | done | omega | assumption) | (intros; first | rfl | (exfalso; omega) | ((repeat' apply And.intro) <;> first | assumption | rfl | omega | trivial)))) -- o24 e6
        · skip
          try simp (disch := omega) only [jst_eq, jst_ne, jst_ni, jI_i, jcmp_lt, jcmp_gt, w32_id, jcpy_out, Sum.elim_inl, Sum.elim_inr, jt2, jt3, jt4, jt5, jt6, jt7, jt8] at c6
          refine OK_some ?_
          try dsimp only [Sum.elim_inl, Sum.elim_inr, jt2, jt3, jt4, jt5, jt6, jt7, jt8]
          (first | ((unfold jZ; omega)) | (first | assumption | omega | ((try dsimp only [jt2, jt3, jt4]); first | omega | (simp (disch := omega) only [jst_eq, jst_ne, jst_ni, jst_o, jI_i, jcpy_out, w32_id, jdiv_nn, jshr_k, jand_255] <;> first | done | omega | assumption)) | (intros; simp (disch := omega) only [jst_eq, jst_ne, jst_ni, jst_o, jI_i, jcpy_out, w32_id, jdiv_nn, *] <;> first | done | omega) | (intros; simp (disch := omega) only [jst_eq, jst_ne, jst_ni, jst_o, jI_i, jcpy_out, w32_id, jdiv_nn] at * <;> first | done | omega | assumption) | (intros; first | rfl | (exfalso; omega) | ((repeat' apply And.intro) <;> first | assumption | rfl | omega | trivial)))) -- o25 e7
      · skip
        try simp (disch := omega) only [jst_eq, jst_ne, jst_ni, jI_i, jcmp_lt, jcmp_gt, w32_id, jcpy_out, Sum.elim_inl, Sum.elim_inr, jt2, jt3, jt4, jt5, jt6, jt7, jt8] at c5
        refine OK_some ?_
        try dsimp only [Sum.elim_inl, Sum.elim_inr, jt2, jt3, jt4, jt5, jt6, jt7, jt8]
        (first | ((unfold jZ; omega)) | (first | assumption | omega | ((try dsimp only [jt2, jt3, jt4]); first | omega | (simp (disch := omega) only [jst_eq, jst_ne, jst_ni, jst_o, jI_i, jcpy_out, w32_id, jdiv_nn, jshr_k, jand_255] <;> first | done | omega | assumption)) | (intros; simp (disch := omega) only [jst_eq, jst_ne, jst_ni, jst_o, jI_i, jcpy_out, w32_id, jdiv_nn, *] <;> first | done | omega) | (intros; simp (disch := omega) only [jst_eq, jst_ne, jst_ni, jst_o, jI_i, jcpy_out, w32_id, jdiv_nn] at * <;> first | done | omega | assumption) | (intros; first | rfl | (exfalso; omega) | ((repeat' apply And.intro) <;> first | assumption | rfl | omega | trivial)))) -- o26 e8
  · skip
    try simp (disch := omega) only [jst_eq, jst_ne, jst_ni, jI_i, jcmp_lt, jcmp_gt, w32_id, jcpy_out, Sum.elim_inl, Sum.elim_inr, jt2, jt3, jt4, jt5, jt6, jt7, jt8] at c1
    refine OK_some ?_
    try dsimp only [Sum.elim_inl, Sum.elim_inr, jt2, jt3, jt4, jt5, jt6, jt7, jt8]
    (first | ((unfold jZ; omega)) | (first | assumption | omega | ((try dsimp only [jt2, jt3, jt4]); first | omega | (simp (disch := omega) only [jst_eq, jst_ne, jst_ni, jst_o, jI_i, jcpy_out, w32_id, jdiv_nn, jshr_k, jand_255] <;> first | done | omega | assumption)) | (intros; simp (disch := omega) only [jst_eq, jst_ne, jst_ni, jst_o, jI_i, jcpy_out, w32_id, jdiv_nn, *] <;> first | done | omega) | (intros; simp (disch := omega) only [jst_eq, jst_ne, jst_ni, jst_o, jI_i, jcpy_out, w32_id, jdiv_nn] at * <;> first | done | omega | assumption) | (intros; first | rfl | (exfalso; omega) | ((repeat' apply And.intro) <;> first | assumption | rfl | omega | trivial)))) -- o27 e9
theorem vX14_isLike0 (a1 a2 : Int) {h : AH} (b : 0 ≤ a1 ∧ a1 < 8800 ∧ 0 ≤ a2 ∧ a2 < 8800) (l : h 460 a1 = 0 ∧ h 465 a1 = 0) : OK (gX14_isLike a1 a2 h) (fun v => (v = 1 ∧ h 460 a2 = 0 ∧ h 461 a1 = h 461 a2 ∧ h 462 a1 = h 462 a2) ∨ (v = 0 ∧ ¬ (h 460 a2 = 0 ∧ h 461 a1 = h 461 a2 ∧ h 462 a1 = h 462 a2))) := vX14_isLike_0 (F := gX14_isLikeD 39) a1 a2 b l
def dpA (A : AD) : Prop := ∀ i j, 0 ≤ i → i < j → j < A.2.2.2.1 → ¬ (A.2.2.2.2.1 i = A.2.2.2.2.1 j ∧ (A.2.2.2.2.1 i = -1 → A.2.2.2.2.2.1 i = A.2.2.2.2.2.1 j ∧ A.2.2.2.2.2.2.1 i = A.2.2.2.2.2.2.1 j))
theorem dpA_2 {A : AD} (d : dpA A) {i j : Int} (i0 : 0 ≤ i ∧ i < A.2.2.2.1) (j0 : 0 ≤ j ∧ j < A.2.2.2.1) (e : A.2.2.2.2.1 i = A.2.2.2.2.1 j ∧ (A.2.2.2.2.1 i = -1 → A.2.2.2.2.2.1 i = A.2.2.2.2.2.1 j ∧ A.2.2.2.2.2.2.1 i = A.2.2.2.2.2.2.1 j)) : i = j := by
  by_cases y : i < j
  · exact absurd e (d i j i0.1 y j0.2)
  · by_cases z : j < i
    · exact absurd ⟨e.1.symm, fun w => ⟨(e.2 (by omega)).1.symm, (e.2 (by omega)).2.symm⟩⟩ (d j i j0.1 z i0.2)
    · omega
/-- m's pieces -/
def pcM (h : AH) (A : AD) : Prop := h (h 454 38) 5 = A.2.2.2.1 ∧ 0 ≤ A.2.2.2.1 ∧ A.2.2.2.1 ≤ 12 ∧ ∀ k, 0 ≤ k → k < A.2.2.2.1 → h (h 454 38 + 3) k = A.2.2.2.2.1 k ∧ h (h 454 38 + 4) k = A.2.2.2.2.2.2.2 k ∧ ((A.2.2.2.2.1 k = -1 ∧ 0 ≤ h (h 454 38 + 2) k ∧ h (h 454 38 + 2) k < 2200 ∧ h 460 (h (h 454 38 + 2) k) = 0 ∧ h 461 (h (h 454 38 + 2) k) = kch (A.2.2.2.2.2.1 k) ∧ h 462 (h (h 454 38 + 2) k) = A.2.2.2.2.2.2.1 k ∧ h 465 (h (h 454 38 + 2) k) = 0 ∧ 0 ≤ A.2.2.2.2.2.1 k ∧ A.2.2.2.2.2.1 k ≤ 2 ∧ h 466 (h (h 454 38 + 2) k) = -1) ∨ (0 ≤ A.2.2.2.2.1 k ∧ h (h 454 38 + 2) k = -1))
def hmA (A : AD) (d : Int) : Int := if d < A.1 then d else 3 + (d - A.1)
def nkO (o : Int → Int) : Int := if o 0 < 0 then 0 else if o 1 < 0 then 1 else if o 2 < 0 then 2 else 3
theorem nkO_r (o : Int → Int) : 0 ≤ nkO o ∧ nkO o ≤ 3 := by
  unfold nkO
  split
  · omega
  · split
    · omega
    · split <;> omega
/-- a node's head -/
def hdC (h : AH) (E : EV) (A : AD) (t d n : Int) : Prop := (0 ≤ d ∧ d < A.1 ∧ h 460 t = 1 ∧ h 461 t = kch (A.2.1 d) ∧ h 462 t = d ∧ n = 0) ∨ (∃ j, 0 ≤ j ∧ j < A.2.2.2.1 ∧ d = A.1 + j ∧ A.2.2.2.2.1 j = -1 ∧ h 460 t = 0 ∧ h 461 t = kch (A.2.2.2.2.2.1 j) ∧ h 462 t = A.2.2.2.2.2.2.1 j ∧ n = 0) ∨ (∃ j, 0 ≤ j ∧ j < A.2.2.2.1 ∧ d = A.1 + j ∧ A.2.2.2.2.1 j ≠ -1 ∧ h 460 t = 2 ∧ h 461 t = kch (eK E (A.2.2.2.2.1 j) (eO E (A.2.2.2.2.1 j))) ∧ h 463 t = A.2.2.2.2.1 j ∧ n = eO E (A.2.2.2.2.1 j))
theorem vX14_headOf_l19 (i1 : Int) (a20 : Int) {h : AH} {A : AD} {j : Int} (x : isX16 (h 454 38)) (p : pcM h A) (d : dpA A) (b : 0 ≤ i1 ∧ i1 < 8800) (m : 0 ≤ j ∧ j < A.2.2.2.1 ∧ ((A.2.2.2.2.1 j = -1 ∧ h 460 i1 = 0 ∧ h 461 i1 = kch (A.2.2.2.2.2.1 j) ∧ h 462 i1 = A.2.2.2.2.2.2.1 j) ∨ (A.2.2.2.2.1 j ≠ -1 ∧ h 460 i1 = 2 ∧ h 463 i1 = A.2.2.2.2.1 j))) (z : a20 = 0) : OK (gX14_headOf_l19 i1 a20 h) (Sum.elim (fun o => o = j) (fun _ => (0 : Int) = 1)) := by
  unfold gX14_headOf_l19
  refine OK_jit (I := (fun (a2 : Int) => 0 ≤ a2 ∧ a2 ≤ j)) (m := (fun (a2 : Int) => (j - a2).toNat)) ?_ ?_
  · intro a2 hs
    try dsimp only at hs
    have q0 := hs; clear hs
    unfold gX14_headOf_b19
    obtain ⟨p1, p2, p3, p4⟩ := p
    have pc := p4 a2 q0.1 (by omega)
    have pj := p4 j m.1 m.2.1
    have D := dpA_2 d (i := a2) (j := j) ⟨q0.1, by omega⟩ ⟨m.1, m.2.1⟩
    have w14 : w32 (a2 + 1) = a2 + 1 := w32_id (by omega) (by omega)
    have KI : A.2.2.2.2.1 a2 = -1 → A.2.2.2.2.1 j = -1 → kch (A.2.2.2.2.2.1 a2) = kch (A.2.2.2.2.2.1 j) → A.2.2.2.2.2.1 a2 = A.2.2.2.2.2.1 j := fun y1 y2 e => kch_ij (by omega) (by omega) e
    refine OK_jg (by (first | ((rcases m.2.2 with u | u <;> omega)) | (first | assumption | omega | ((try dsimp only [jt2, jt3, jt4]); first | omega | (simp (disch := omega) only [jst_eq, jst_ne, jst_ni, jst_o, jI_i, jcpy_out, w32_id, jdiv_nn, jshr_k, jand_255] <;> first | done | omega | assumption)) | (intros; simp (disch := omega) only [jst_eq, jst_ne, jst_ni, jst_o, jI_i, jcpy_out, w32_id, jdiv_nn, *] <;> first | done | omega) | (intros; simp (disch := omega) only [jst_eq, jst_ne, jst_ni, jst_o, jI_i, jcpy_out, w32_id, jdiv_nn] at * <;> first | done | omega | assumption) | (intros; first | rfl | (exfalso; omega) | ((repeat' apply And.intro) <;> first | assumption | rfl | omega | trivial))))) ?_ -- o1
    refine OK_if (fun c1 => ?_) (fun c1 => ?_)
    · skip
      try simp (disch := omega) only [jst_eq, jst_ne, jst_ni, jI_i, jcmp_lt, jcmp_gt, w32_id, jcpy_out, Sum.elim_inl, Sum.elim_inr, jt2, jt3, jt4, jt5, jt6, jt7, jt8] at c1
      refine OK_ir ?_
      (first | ((rcases m.2.2 with u | u <;> omega)) | (first | assumption | omega | ((try dsimp only [jt2, jt3, jt4]); first | omega | (simp (disch := omega) only [jst_eq, jst_ne, jst_ni, jst_o, jI_i, jcpy_out, w32_id, jdiv_nn, jshr_k, jand_255] <;> first | done | omega | assumption)) | (intros; simp (disch := omega) only [jst_eq, jst_ne, jst_ni, jst_o, jI_i, jcpy_out, w32_id, jdiv_nn, *] <;> first | done | omega) | (intros; simp (disch := omega) only [jst_eq, jst_ne, jst_ni, jst_o, jI_i, jcpy_out, w32_id, jdiv_nn] at * <;> first | done | omega | assumption) | (intros; first | rfl | (exfalso; omega) | ((repeat' apply And.intro) <;> first | assumption | rfl | omega | trivial)))) -- o2 e1
    · skip
      try simp (disch := omega) only [jst_eq, jst_ne, jst_ni, jI_i, jcmp_lt, jcmp_gt, w32_id, jcpy_out, Sum.elim_inl, Sum.elim_inr, jt2, jt3, jt4, jt5, jt6, jt7, jt8] at c1
      refine OK_jg (by (first | ((rcases m.2.2 with u | u <;> omega)) | (first | assumption | omega | ((try dsimp only [jt2, jt3, jt4]); first | omega | (simp (disch := omega) only [jst_eq, jst_ne, jst_ni, jst_o, jI_i, jcpy_out, w32_id, jdiv_nn, jshr_k, jand_255] <;> first | done | omega | assumption)) | (intros; simp (disch := omega) only [jst_eq, jst_ne, jst_ni, jst_o, jI_i, jcpy_out, w32_id, jdiv_nn, *] <;> first | done | omega) | (intros; simp (disch := omega) only [jst_eq, jst_ne, jst_ni, jst_o, jI_i, jcpy_out, w32_id, jdiv_nn] at * <;> first | done | omega | assumption) | (intros; first | rfl | (exfalso; omega) | ((repeat' apply And.intro) <;> first | assumption | rfl | omega | trivial))))) ?_ -- o3
      refine OK_if (fun c2 => ?_) (fun c2 => ?_)
      · skip
        try simp (disch := omega) only [jst_eq, jst_ne, jst_ni, jI_i, jcmp_lt, jcmp_gt, w32_id, jcpy_out, Sum.elim_inl, Sum.elim_inr, jt2, jt3, jt4, jt5, jt6, jt7, jt8] at c2
        have n1 : A.2.2.2.2.1 j ≠ -1 := by { rcases m.2.2 with u | u; { omega }; { exact u.1 } }
        refine OK_jg (by (first | ((rcases m.2.2 with u | u <;> omega)) | (first | assumption | omega | ((try dsimp only [jt2, jt3, jt4]); first | omega | (simp (disch := omega) only [jst_eq, jst_ne, jst_ni, jst_o, jI_i, jcpy_out, w32_id, jdiv_nn, jshr_k, jand_255] <;> first | done | omega | assumption)) | (intros; simp (disch := omega) only [jst_eq, jst_ne, jst_ni, jst_o, jI_i, jcpy_out, w32_id, jdiv_nn, *] <;> first | done | omega) | (intros; simp (disch := omega) only [jst_eq, jst_ne, jst_ni, jst_o, jI_i, jcpy_out, w32_id, jdiv_nn] at * <;> first | done | omega | assumption) | (intros; first | rfl | (exfalso; omega) | ((repeat' apply And.intro) <;> first | assumption | rfl | omega | trivial))))) ?_ -- o4
        refine OK_if (fun c3 => ?_) (fun c3 => ?_)
        · skip
          try simp (disch := omega) only [jst_eq, jst_ne, jst_ni, jI_i, jcmp_lt, jcmp_gt, w32_id, jcpy_out, Sum.elim_inl, Sum.elim_inr, jt2, jt3, jt4, jt5, jt6, jt7, jt8] at c3
          have E4 : a2 = j := D ⟨by (rcases m.2.2 with u | u <;> omega), fun y => by (rcases m.2.2 with u | u <;> omega)⟩
          unfold gX14_headOf_j100_19
          refine OK_if (fun c4 => ?_) (fun c4 => ?_)
          · skip
            try simp (disch := omega) only [jst_eq, jst_ne, jst_ni, jI_i, jcmp_lt, jcmp_gt, w32_id, jcpy_out, Sum.elim_inl, Sum.elim_inr, jt2, jt3, jt4, jt5, jt6, jt7, jt8] at c4
            refine OK_jlx (fun x14 ex14 => ?_)
            try simp (disch := omega) only [jst_eq, jst_ne, jst_ni, jI_i, jcmp_lt, jcmp_gt, w32_id, jcpy_out, Sum.elim_inl, Sum.elim_inr, jt2, jt3, jt4, jt5, jt6, jt7, jt8] at ex14
            refine OK_il ?_ ?_
            · (first | ((rcases m.2.2 with u | u <;> omega)) | (first | assumption | omega | ((try dsimp only [jt2, jt3, jt4]); first | omega | (simp (disch := omega) only [jst_eq, jst_ne, jst_ni, jst_o, jI_i, jcpy_out, w32_id, jdiv_nn, jshr_k, jand_255] <;> first | done | omega | assumption)) | (intros; simp (disch := omega) only [jst_eq, jst_ne, jst_ni, jst_o, jI_i, jcpy_out, w32_id, jdiv_nn, *] <;> first | done | omega) | (intros; simp (disch := omega) only [jst_eq, jst_ne, jst_ni, jst_o, jI_i, jcpy_out, w32_id, jdiv_nn] at * <;> first | done | omega | assumption) | (intros; first | rfl | (exfalso; omega) | ((repeat' apply And.intro) <;> first | assumption | rfl | omega | trivial)))) -- o5 e2i
            · (first | ((rcases m.2.2 with u | u <;> omega)) | (first | assumption | omega | ((try dsimp only [jt2, jt3, jt4]); first | omega | (simp (disch := omega) only [jst_eq, jst_ne, jst_ni, jst_o, jI_i, jcpy_out, w32_id, jdiv_nn, jshr_k, jand_255] <;> first | done | omega | assumption)) | (intros; simp (disch := omega) only [jst_eq, jst_ne, jst_ni, jst_o, jI_i, jcpy_out, w32_id, jdiv_nn, *] <;> first | done | omega) | (intros; simp (disch := omega) only [jst_eq, jst_ne, jst_ni, jst_o, jI_i, jcpy_out, w32_id, jdiv_nn] at * <;> first | done | omega | assumption) | (intros; first | rfl | (exfalso; omega) | ((repeat' apply And.intro) <;> first | assumption | rfl | omega | trivial)))) -- o6 e2m
          · skip
            try simp (disch := omega) only [jst_eq, jst_ne, jst_ni, jI_i, jcmp_lt, jcmp_gt, w32_id, jcpy_out, Sum.elim_inl, Sum.elim_inr, jt2, jt3, jt4, jt5, jt6, jt7, jt8] at c4
            refine OK_ir ?_
            (first | ((rcases m.2.2 with u | u <;> omega)) | (first | assumption | omega | ((try dsimp only [jt2, jt3, jt4]); first | omega | (simp (disch := omega) only [jst_eq, jst_ne, jst_ni, jst_o, jI_i, jcpy_out, w32_id, jdiv_nn, jshr_k, jand_255] <;> first | done | omega | assumption)) | (intros; simp (disch := omega) only [jst_eq, jst_ne, jst_ni, jst_o, jI_i, jcpy_out, w32_id, jdiv_nn, *] <;> first | done | omega) | (intros; simp (disch := omega) only [jst_eq, jst_ne, jst_ni, jst_o, jI_i, jcpy_out, w32_id, jdiv_nn] at * <;> first | done | omega | assumption) | (intros; first | rfl | (exfalso; omega) | ((repeat' apply And.intro) <;> first | assumption | rfl | omega | trivial)))) -- o7 e3
        · skip
          try simp (disch := omega) only [jst_eq, jst_ne, jst_ni, jI_i, jcmp_lt, jcmp_gt, w32_id, jcpy_out, Sum.elim_inl, Sum.elim_inr, jt2, jt3, jt4, jt5, jt6, jt7, jt8] at c3
          have E4 : a2 ≠ j := fun y => by { rw [y] at c3; rcases m.2.2 with u | u <;> omega }
          unfold gX14_headOf_j100_19
          refine OK_if (fun c5 => ?_) (fun c5 => ?_)
          · skip
            try simp (disch := omega) only [jst_eq, jst_ne, jst_ni, jI_i, jcmp_lt, jcmp_gt, w32_id, jcpy_out, Sum.elim_inl, Sum.elim_inr, jt2, jt3, jt4, jt5, jt6, jt7, jt8] at c5
            refine OK_jlx (fun x14 ex14 => ?_)
            try simp (disch := omega) only [jst_eq, jst_ne, jst_ni, jI_i, jcmp_lt, jcmp_gt, w32_id, jcpy_out, Sum.elim_inl, Sum.elim_inr, jt2, jt3, jt4, jt5, jt6, jt7, jt8] at ex14
            refine OK_il ?_ ?_
            · (first | ((rcases m.2.2 with u | u <;> omega)) | (first | assumption | omega | ((try dsimp only [jt2, jt3, jt4]); first | omega | (simp (disch := omega) only [jst_eq, jst_ne, jst_ni, jst_o, jI_i, jcpy_out, w32_id, jdiv_nn, jshr_k, jand_255] <;> first | done | omega | assumption)) | (intros; simp (disch := omega) only [jst_eq, jst_ne, jst_ni, jst_o, jI_i, jcpy_out, w32_id, jdiv_nn, *] <;> first | done | omega) | (intros; simp (disch := omega) only [jst_eq, jst_ne, jst_ni, jst_o, jI_i, jcpy_out, w32_id, jdiv_nn] at * <;> first | done | omega | assumption) | (intros; first | rfl | (exfalso; omega) | ((repeat' apply And.intro) <;> first | assumption | rfl | omega | trivial)))) -- o8 e4i
            · (first | ((rcases m.2.2 with u | u <;> omega)) | (first | assumption | omega | ((try dsimp only [jt2, jt3, jt4]); first | omega | (simp (disch := omega) only [jst_eq, jst_ne, jst_ni, jst_o, jI_i, jcpy_out, w32_id, jdiv_nn, jshr_k, jand_255] <;> first | done | omega | assumption)) | (intros; simp (disch := omega) only [jst_eq, jst_ne, jst_ni, jst_o, jI_i, jcpy_out, w32_id, jdiv_nn, *] <;> first | done | omega) | (intros; simp (disch := omega) only [jst_eq, jst_ne, jst_ni, jst_o, jI_i, jcpy_out, w32_id, jdiv_nn] at * <;> first | done | omega | assumption) | (intros; first | rfl | (exfalso; omega) | ((repeat' apply And.intro) <;> first | assumption | rfl | omega | trivial)))) -- o9 e4m
          · skip
            try simp (disch := omega) only [jst_eq, jst_ne, jst_ni, jI_i, jcmp_lt, jcmp_gt, w32_id, jcpy_out, Sum.elim_inl, Sum.elim_inr, jt2, jt3, jt4, jt5, jt6, jt7, jt8] at c5
            refine OK_ir ?_
            (first | ((rcases m.2.2 with u | u <;> omega)) | (first | assumption | omega | ((try dsimp only [jt2, jt3, jt4]); first | omega | (simp (disch := omega) only [jst_eq, jst_ne, jst_ni, jst_o, jI_i, jcpy_out, w32_id, jdiv_nn, jshr_k, jand_255] <;> first | done | omega | assumption)) | (intros; simp (disch := omega) only [jst_eq, jst_ne, jst_ni, jst_o, jI_i, jcpy_out, w32_id, jdiv_nn, *] <;> first | done | omega) | (intros; simp (disch := omega) only [jst_eq, jst_ne, jst_ni, jst_o, jI_i, jcpy_out, w32_id, jdiv_nn] at * <;> first | done | omega | assumption) | (intros; first | rfl | (exfalso; omega) | ((repeat' apply And.intro) <;> first | assumption | rfl | omega | trivial)))) -- o10 e5
      · skip
        try simp (disch := omega) only [jst_eq, jst_ne, jst_ni, jI_i, jcmp_lt, jcmp_gt, w32_id, jcpy_out, Sum.elim_inl, Sum.elim_inr, jt2, jt3, jt4, jt5, jt6, jt7, jt8] at c2
        have u3 : A.2.2.2.2.1 j = -1 ∧ h 460 i1 = 0 ∧ h 461 i1 = kch (A.2.2.2.2.2.1 j) ∧ h 462 i1 = A.2.2.2.2.2.2.1 j := by { rcases m.2.2 with u | u; { exact u }; { omega } }
        refine OK_jg (by (first | ((rcases m.2.2 with u | u <;> omega)) | (first | assumption | omega | ((try dsimp only [jt2, jt3, jt4]); first | omega | (simp (disch := omega) only [jst_eq, jst_ne, jst_ni, jst_o, jI_i, jcpy_out, w32_id, jdiv_nn, jshr_k, jand_255] <;> first | done | omega | assumption)) | (intros; simp (disch := omega) only [jst_eq, jst_ne, jst_ni, jst_o, jI_i, jcpy_out, w32_id, jdiv_nn, *] <;> first | done | omega) | (intros; simp (disch := omega) only [jst_eq, jst_ne, jst_ni, jst_o, jI_i, jcpy_out, w32_id, jdiv_nn] at * <;> first | done | omega | assumption) | (intros; first | rfl | (exfalso; omega) | ((repeat' apply And.intro) <;> first | assumption | rfl | omega | trivial))))) ?_ -- o11
        refine OK_if (fun c6 => ?_) (fun c6 => ?_)
        · skip
          try simp (disch := omega) only [jst_eq, jst_ne, jst_ni, jI_i, jcmp_lt, jcmp_gt, w32_id, jcpy_out, Sum.elim_inl, Sum.elim_inr, jt2, jt3, jt4, jt5, jt6, jt7, jt8] at c6
          have EN : a2 ≠ j := fun y => by { rw [y] at c6; rcases pj.2.2 with u | u <;> omega }
          unfold gX14_headOf_j100_19
          refine OK_if (fun c7 => ?_) (fun c7 => ?_)
          · skip
            try simp (disch := omega) only [jst_eq, jst_ne, jst_ni, jI_i, jcmp_lt, jcmp_gt, w32_id, jcpy_out, Sum.elim_inl, Sum.elim_inr, jt2, jt3, jt4, jt5, jt6, jt7, jt8] at c7
            refine OK_jlx (fun x14 ex14 => ?_)
            try simp (disch := omega) only [jst_eq, jst_ne, jst_ni, jI_i, jcmp_lt, jcmp_gt, w32_id, jcpy_out, Sum.elim_inl, Sum.elim_inr, jt2, jt3, jt4, jt5, jt6, jt7, jt8] at ex14
            refine OK_il ?_ ?_
            · (first | ((rcases m.2.2 with u | u <;> omega)) | (first | assumption | omega | ((try dsimp only [jt2, jt3, jt4]); first | omega | (simp (disch := omega) only [jst_eq, jst_ne, jst_ni, jst_o, jI_i, jcpy_out, w32_id, jdiv_nn, jshr_k, jand_255] <;> first | done | omega | assumption)) | (intros; simp (disch := omega) only [jst_eq, jst_ne, jst_ni, jst_o, jI_i, jcpy_out, w32_id, jdiv_nn, *] <;> first | done | omega) | (intros; simp (disch := omega) only [jst_eq, jst_ne, jst_ni, jst_o, jI_i, jcpy_out, w32_id, jdiv_nn] at * <;> first | done | omega | assumption) | (intros; first | rfl | (exfalso; omega) | ((repeat' apply And.intro) <;> first | assumption | rfl | omega | trivial)))) -- o12 e6i
            · (first | ((rcases m.2.2 with u | u <;> omega)) | (first | assumption | omega | ((try dsimp only [jt2, jt3, jt4]); first | omega | (simp (disch := omega) only [jst_eq, jst_ne, jst_ni, jst_o, jI_i, jcpy_out, w32_id, jdiv_nn, jshr_k, jand_255] <;> first | done | omega | assumption)) | (intros; simp (disch := omega) only [jst_eq, jst_ne, jst_ni, jst_o, jI_i, jcpy_out, w32_id, jdiv_nn, *] <;> first | done | omega) | (intros; simp (disch := omega) only [jst_eq, jst_ne, jst_ni, jst_o, jI_i, jcpy_out, w32_id, jdiv_nn] at * <;> first | done | omega | assumption) | (intros; first | rfl | (exfalso; omega) | ((repeat' apply And.intro) <;> first | assumption | rfl | omega | trivial)))) -- o13 e6m
          · skip
            try simp (disch := omega) only [jst_eq, jst_ne, jst_ni, jI_i, jcmp_lt, jcmp_gt, w32_id, jcpy_out, Sum.elim_inl, Sum.elim_inr, jt2, jt3, jt4, jt5, jt6, jt7, jt8] at c7
            refine OK_ir ?_
            (first | ((rcases m.2.2 with u | u <;> omega)) | (first | assumption | omega | ((try dsimp only [jt2, jt3, jt4]); first | omega | (simp (disch := omega) only [jst_eq, jst_ne, jst_ni, jst_o, jI_i, jcpy_out, w32_id, jdiv_nn, jshr_k, jand_255] <;> first | done | omega | assumption)) | (intros; simp (disch := omega) only [jst_eq, jst_ne, jst_ni, jst_o, jI_i, jcpy_out, w32_id, jdiv_nn, *] <;> first | done | omega) | (intros; simp (disch := omega) only [jst_eq, jst_ne, jst_ni, jst_o, jI_i, jcpy_out, w32_id, jdiv_nn] at * <;> first | done | omega | assumption) | (intros; first | rfl | (exfalso; omega) | ((repeat' apply And.intro) <;> first | assumption | rfl | omega | trivial)))) -- o14 e7
        · skip
          try simp (disch := omega) only [jst_eq, jst_ne, jst_ni, jI_i, jcmp_lt, jcmp_gt, w32_id, jcpy_out, Sum.elim_inl, Sum.elim_inr, jt2, jt3, jt4, jt5, jt6, jt7, jt8] at c6
          refine OK_jb (vX14_isLike0 _ _ (by (first | ((rcases m.2.2 with u | u <;> omega)) | (first | assumption | omega | ((try dsimp only [jt2, jt3, jt4]); first | omega | (simp (disch := omega) only [jst_eq, jst_ne, jst_ni, jst_o, jI_i, jcpy_out, w32_id, jdiv_nn, jshr_k, jand_255] <;> first | done | omega | assumption)) | (intros; simp (disch := omega) only [jst_eq, jst_ne, jst_ni, jst_o, jI_i, jcpy_out, w32_id, jdiv_nn, *] <;> first | done | omega) | (intros; simp (disch := omega) only [jst_eq, jst_ne, jst_ni, jst_o, jI_i, jcpy_out, w32_id, jdiv_nn] at * <;> first | done | omega | assumption) | (intros; first | rfl | (exfalso; omega) | ((repeat' apply And.intro) <;> first | assumption | rfl | omega | trivial))))) (by (first | ((rcases m.2.2 with u | u <;> omega)) | (first | assumption | omega | ((try dsimp only [jt2, jt3, jt4]); first | omega | (simp (disch := omega) only [jst_eq, jst_ne, jst_ni, jst_o, jI_i, jcpy_out, w32_id, jdiv_nn, jshr_k, jand_255] <;> first | done | omega | assumption)) | (intros; simp (disch := omega) only [jst_eq, jst_ne, jst_ni, jst_o, jI_i, jcpy_out, w32_id, jdiv_nn, *] <;> first | done | omega) | (intros; simp (disch := omega) only [jst_eq, jst_ne, jst_ni, jst_o, jI_i, jcpy_out, w32_id, jdiv_nn] at * <;> first | done | omega | assumption) | (intros; first | rfl | (exfalso; omega) | ((repeat' apply And.intro) <;> first | assumption | rfl | omega | trivial)))))) (fun v11 r1 => ?_)
          try dsimp only [Sum.elim_inl, Sum.elim_inr, jt2, jt3, jt4, jt5, jt6, jt7, jt8] at r1
          have is1 := r1
          clear r1
          try simp (disch := omega) only [jst_eq, jst_ne, jst_ni, jI_i, jcmp_lt, jcmp_gt, w32_id, jcpy_out, Sum.elim_inl, Sum.elim_inr, jt2, jt3, jt4, jt5, jt6, jt7, jt8] at is1
          have E5 : v11 = 1 → a2 = j := fun y => by { rcases is1 with u | u; { have a1 : A.2.2.2.2.1 a2 = -1 := (by omega); refine D ⟨by omega, fun _ => ⟨KI a1 u3.1 (by omega), by omega⟩⟩ }; { omega } }
          have E6 : a2 = j → v11 = 1 := fun y => by { rw [y] at is1; rcases is1 with u | u; { exact u.1 }; { exfalso; have a1 : A.2.2.2.2.1 j = -1 := u3.1; exact u.2 ⟨u3.2.1, by omega, by omega⟩ } }
          refine OK_if (fun c8 => ?_) (fun c8 => ?_)
          · skip
            try simp (disch := omega) only [jst_eq, jst_ne, jst_ni, jI_i, jcmp_lt, jcmp_gt, w32_id, jcpy_out, Sum.elim_inl, Sum.elim_inr, jt2, jt3, jt4, jt5, jt6, jt7, jt8] at c8
            unfold gX14_headOf_j100_19
            refine OK_if (fun c9 => ?_) (fun c9 => ?_)
            · skip
              try simp (disch := omega) only [jst_eq, jst_ne, jst_ni, jI_i, jcmp_lt, jcmp_gt, w32_id, jcpy_out, Sum.elim_inl, Sum.elim_inr, jt2, jt3, jt4, jt5, jt6, jt7, jt8] at c9
              refine OK_jlx (fun x14 ex14 => ?_)
              try simp (disch := omega) only [jst_eq, jst_ne, jst_ni, jI_i, jcmp_lt, jcmp_gt, w32_id, jcpy_out, Sum.elim_inl, Sum.elim_inr, jt2, jt3, jt4, jt5, jt6, jt7, jt8] at ex14
              refine OK_il ?_ ?_
              · (first | ((rcases m.2.2 with u | u <;> omega)) | (first | assumption | omega | ((try dsimp only [jt2, jt3, jt4]); first | omega | (simp (disch := omega) only [jst_eq, jst_ne, jst_ni, jst_o, jI_i, jcpy_out, w32_id, jdiv_nn, jshr_k, jand_255] <;> first | done | omega | assumption)) | (intros; simp (disch := omega) only [jst_eq, jst_ne, jst_ni, jst_o, jI_i, jcpy_out, w32_id, jdiv_nn, *] <;> first | done | omega) | (intros; simp (disch := omega) only [jst_eq, jst_ne, jst_ni, jst_o, jI_i, jcpy_out, w32_id, jdiv_nn] at * <;> first | done | omega | assumption) | (intros; first | rfl | (exfalso; omega) | ((repeat' apply And.intro) <;> first | assumption | rfl | omega | trivial)))) -- o17 e8i
              · (first | ((rcases m.2.2 with u | u <;> omega)) | (first | assumption | omega | ((try dsimp only [jt2, jt3, jt4]); first | omega | (simp (disch := omega) only [jst_eq, jst_ne, jst_ni, jst_o, jI_i, jcpy_out, w32_id, jdiv_nn, jshr_k, jand_255] <;> first | done | omega | assumption)) | (intros; simp (disch := omega) only [jst_eq, jst_ne, jst_ni, jst_o, jI_i, jcpy_out, w32_id, jdiv_nn, *] <;> first | done | omega) | (intros; simp (disch := omega) only [jst_eq, jst_ne, jst_ni, jst_o, jI_i, jcpy_out, w32_id, jdiv_nn] at * <;> first | done | omega | assumption) | (intros; first | rfl | (exfalso; omega) | ((repeat' apply And.intro) <;> first | assumption | rfl | omega | trivial)))) -- o18 e8m
            · skip
              try simp (disch := omega) only [jst_eq, jst_ne, jst_ni, jI_i, jcmp_lt, jcmp_gt, w32_id, jcpy_out, Sum.elim_inl, Sum.elim_inr, jt2, jt3, jt4, jt5, jt6, jt7, jt8] at c9
              refine OK_ir ?_
              (first | ((rcases m.2.2 with u | u <;> omega)) | (first | assumption | omega | ((try dsimp only [jt2, jt3, jt4]); first | omega | (simp (disch := omega) only [jst_eq, jst_ne, jst_ni, jst_o, jI_i, jcpy_out, w32_id, jdiv_nn, jshr_k, jand_255] <;> first | done | omega | assumption)) | (intros; simp (disch := omega) only [jst_eq, jst_ne, jst_ni, jst_o, jI_i, jcpy_out, w32_id, jdiv_nn, *] <;> first | done | omega) | (intros; simp (disch := omega) only [jst_eq, jst_ne, jst_ni, jst_o, jI_i, jcpy_out, w32_id, jdiv_nn] at * <;> first | done | omega | assumption) | (intros; first | rfl | (exfalso; omega) | ((repeat' apply And.intro) <;> first | assumption | rfl | omega | trivial)))) -- o19 e9
          · skip
            try simp (disch := omega) only [jst_eq, jst_ne, jst_ni, jI_i, jcmp_lt, jcmp_gt, w32_id, jcpy_out, Sum.elim_inl, Sum.elim_inr, jt2, jt3, jt4, jt5, jt6, jt7, jt8] at c8
            unfold gX14_headOf_j100_19
            refine OK_if (fun c10 => ?_) (fun c10 => ?_)
            · skip
              try simp (disch := omega) only [jst_eq, jst_ne, jst_ni, jI_i, jcmp_lt, jcmp_gt, w32_id, jcpy_out, Sum.elim_inl, Sum.elim_inr, jt2, jt3, jt4, jt5, jt6, jt7, jt8] at c10
              refine OK_jlx (fun x14 ex14 => ?_)
              try simp (disch := omega) only [jst_eq, jst_ne, jst_ni, jI_i, jcmp_lt, jcmp_gt, w32_id, jcpy_out, Sum.elim_inl, Sum.elim_inr, jt2, jt3, jt4, jt5, jt6, jt7, jt8] at ex14
              refine OK_il ?_ ?_
              · (first | ((rcases m.2.2 with u | u <;> omega)) | (first | assumption | omega | ((try dsimp only [jt2, jt3, jt4]); first | omega | (simp (disch := omega) only [jst_eq, jst_ne, jst_ni, jst_o, jI_i, jcpy_out, w32_id, jdiv_nn, jshr_k, jand_255] <;> first | done | omega | assumption)) | (intros; simp (disch := omega) only [jst_eq, jst_ne, jst_ni, jst_o, jI_i, jcpy_out, w32_id, jdiv_nn, *] <;> first | done | omega) | (intros; simp (disch := omega) only [jst_eq, jst_ne, jst_ni, jst_o, jI_i, jcpy_out, w32_id, jdiv_nn] at * <;> first | done | omega | assumption) | (intros; first | rfl | (exfalso; omega) | ((repeat' apply And.intro) <;> first | assumption | rfl | omega | trivial)))) -- o20 e10i
              · (first | ((rcases m.2.2 with u | u <;> omega)) | (first | assumption | omega | ((try dsimp only [jt2, jt3, jt4]); first | omega | (simp (disch := omega) only [jst_eq, jst_ne, jst_ni, jst_o, jI_i, jcpy_out, w32_id, jdiv_nn, jshr_k, jand_255] <;> first | done | omega | assumption)) | (intros; simp (disch := omega) only [jst_eq, jst_ne, jst_ni, jst_o, jI_i, jcpy_out, w32_id, jdiv_nn, *] <;> first | done | omega) | (intros; simp (disch := omega) only [jst_eq, jst_ne, jst_ni, jst_o, jI_i, jcpy_out, w32_id, jdiv_nn] at * <;> first | done | omega | assumption) | (intros; first | rfl | (exfalso; omega) | ((repeat' apply And.intro) <;> first | assumption | rfl | omega | trivial)))) -- o21 e10m
            · skip
              try simp (disch := omega) only [jst_eq, jst_ne, jst_ni, jI_i, jcmp_lt, jcmp_gt, w32_id, jcpy_out, Sum.elim_inl, Sum.elim_inr, jt2, jt3, jt4, jt5, jt6, jt7, jt8] at c10
              refine OK_ir ?_
              exact E5 (by rcases is1 with u | u <;> omega) -- o22 e11
  · (first | ((rcases m.2.2 with u | u <;> omega)) | (first | assumption | omega | ((try dsimp only [jt2, jt3, jt4]); first | omega | (simp (disch := omega) only [jst_eq, jst_ne, jst_ni, jst_o, jI_i, jcpy_out, w32_id, jdiv_nn, jshr_k, jand_255] <;> first | done | omega | assumption)) | (intros; simp (disch := omega) only [jst_eq, jst_ne, jst_ni, jst_o, jI_i, jcpy_out, w32_id, jdiv_nn, *] <;> first | done | omega) | (intros; simp (disch := omega) only [jst_eq, jst_ne, jst_ni, jst_o, jI_i, jcpy_out, w32_id, jdiv_nn] at * <;> first | done | omega | assumption) | (intros; first | rfl | (exfalso; omega) | ((repeat' apply And.intro) <;> first | assumption | rfl | omega | trivial)))) -- o23 init
theorem vX14_headOf (a1 : Int) {h : AH} {E : EV} {A : AD} {d n : Int} (x : isX16 (h 454 38)) (p : pcM h A) (dp : dpA A) (b : 0 ≤ a1 ∧ a1 < 8800) (hd : hdC h E A a1 d n) (n3 : A.1 ≤ 3) : OK (gX14_headOf a1 h) (fun v => v = hmA A d) := by
  have np := p.2.2.1
  unfold gX14_headOf
  refine OK_jg (by (first | assumption | omega | ((try dsimp only [jt2, jt3, jt4]); first | omega | (simp (disch := omega) only [jst_eq, jst_ne, jst_ni, jst_o, jI_i, jcpy_out, w32_id, jdiv_nn, jshr_k, jand_255] <;> first | done | omega | assumption)) | (intros; simp (disch := omega) only [jst_eq, jst_ne, jst_ni, jst_o, jI_i, jcpy_out, w32_id, jdiv_nn, *] <;> first | done | omega) | (intros; simp (disch := omega) only [jst_eq, jst_ne, jst_ni, jst_o, jI_i, jcpy_out, w32_id, jdiv_nn] at * <;> first | done | omega | assumption) | (intros; first | rfl | (exfalso; omega) | ((repeat' apply And.intro) <;> first | assumption | rfl | omega | trivial)))) ?_ -- o1
  refine OK_if (fun c1 => ?_) (fun c1 => ?_)
  · skip
    try simp (disch := omega) only [jst_eq, jst_ne, jst_ni, jI_i, jcmp_lt, jcmp_gt, w32_id, jcpy_out, Sum.elim_inl, Sum.elim_inr, jt2, jt3, jt4, jt5, jt6, jt7, jt8] at c1
    refine OK_some ?_
    try dsimp only [Sum.elim_inl, Sum.elim_inr, jt2, jt3, jt4, jt5, jt6, jt7, jt8]
    (unfold hmA; rcases hd with u | u | u; { rw [if_pos u.2.1]; omega }; { obtain ⟨j, u1, u2, u3, u4, u5, u6, u7, u8⟩ := u; omega }; { obtain ⟨j, u1, u2, u3, u4, u5, u6, u7, u8⟩ := u; omega }) -- o2 e1
  · skip
    try simp (disch := omega) only [jst_eq, jst_ne, jst_ni, jI_i, jcmp_lt, jcmp_gt, w32_id, jcpy_out, Sum.elim_inl, Sum.elim_inr, jt2, jt3, jt4, jt5, jt6, jt7, jt8] at c1
    have MM : 0 ≤ d - A.1 ∧ d - A.1 < A.2.2.2.1 ∧ ((A.2.2.2.2.1 (d - A.1) = -1 ∧ h 460 a1 = 0 ∧ h 461 a1 = kch (A.2.2.2.2.2.1 (d - A.1)) ∧ h 462 a1 = A.2.2.2.2.2.2.1 (d - A.1)) ∨ (A.2.2.2.2.1 (d - A.1) ≠ -1 ∧ h 460 a1 = 2 ∧ h 463 a1 = A.2.2.2.2.1 (d - A.1))) := by { rcases hd with u | u | u; { omega }; { obtain ⟨j, u1, u2, u3, u4, u5, u6, u7, u8⟩ := u; have e : d - A.1 = j := (by omega); rw [e]; exact ⟨u1, u2, Or.inl ⟨u4, u5, u6, u7⟩⟩ }; { obtain ⟨j, u1, u2, u3, u4, u5, u6, u7, u8⟩ := u; have e : d - A.1 = j := (by omega); rw [e]; exact ⟨u1, u2, Or.inr ⟨u4, u5, u7⟩⟩ } }
    refine OK_jb (vX14_headOf_l19 (A := A) (j := d - A.1) _ _ (by (first | assumption | omega | ((try dsimp only [jt2, jt3, jt4]); first | omega | (simp (disch := omega) only [jst_eq, jst_ne, jst_ni, jst_o, jI_i, jcpy_out, w32_id, jdiv_nn, jshr_k, jand_255] <;> first | done | omega | assumption)) | (intros; simp (disch := omega) only [jst_eq, jst_ne, jst_ni, jst_o, jI_i, jcpy_out, w32_id, jdiv_nn, *] <;> first | done | omega) | (intros; simp (disch := omega) only [jst_eq, jst_ne, jst_ni, jst_o, jI_i, jcpy_out, w32_id, jdiv_nn] at * <;> first | done | omega | assumption) | (intros; first | rfl | (exfalso; omega) | ((repeat' apply And.intro) <;> first | assumption | rfl | omega | trivial)))) (by (first | assumption | omega | ((try dsimp only [jt2, jt3, jt4]); first | omega | (simp (disch := omega) only [jst_eq, jst_ne, jst_ni, jst_o, jI_i, jcpy_out, w32_id, jdiv_nn, jshr_k, jand_255] <;> first | done | omega | assumption)) | (intros; simp (disch := omega) only [jst_eq, jst_ne, jst_ni, jst_o, jI_i, jcpy_out, w32_id, jdiv_nn, *] <;> first | done | omega) | (intros; simp (disch := omega) only [jst_eq, jst_ne, jst_ni, jst_o, jI_i, jcpy_out, w32_id, jdiv_nn] at * <;> first | done | omega | assumption) | (intros; first | rfl | (exfalso; omega) | ((repeat' apply And.intro) <;> first | assumption | rfl | omega | trivial)))) (by (first | assumption | omega | ((try dsimp only [jt2, jt3, jt4]); first | omega | (simp (disch := omega) only [jst_eq, jst_ne, jst_ni, jst_o, jI_i, jcpy_out, w32_id, jdiv_nn, jshr_k, jand_255] <;> first | done | omega | assumption)) | (intros; simp (disch := omega) only [jst_eq, jst_ne, jst_ni, jst_o, jI_i, jcpy_out, w32_id, jdiv_nn, *] <;> first | done | omega) | (intros; simp (disch := omega) only [jst_eq, jst_ne, jst_ni, jst_o, jI_i, jcpy_out, w32_id, jdiv_nn] at * <;> first | done | omega | assumption) | (intros; first | rfl | (exfalso; omega) | ((repeat' apply And.intro) <;> first | assumption | rfl | omega | trivial)))) (by (first | assumption | omega | ((try dsimp only [jt2, jt3, jt4]); first | omega | (simp (disch := omega) only [jst_eq, jst_ne, jst_ni, jst_o, jI_i, jcpy_out, w32_id, jdiv_nn, jshr_k, jand_255] <;> first | done | omega | assumption)) | (intros; simp (disch := omega) only [jst_eq, jst_ne, jst_ni, jst_o, jI_i, jcpy_out, w32_id, jdiv_nn, *] <;> first | done | omega) | (intros; simp (disch := omega) only [jst_eq, jst_ne, jst_ni, jst_o, jI_i, jcpy_out, w32_id, jdiv_nn] at * <;> first | done | omega | assumption) | (intros; first | rfl | (exfalso; omega) | ((repeat' apply And.intro) <;> first | assumption | rfl | omega | trivial)))) (by exact MM) (by (first | assumption | omega | ((try dsimp only [jt2, jt3, jt4]); first | omega | (simp (disch := omega) only [jst_eq, jst_ne, jst_ni, jst_o, jI_i, jcpy_out, w32_id, jdiv_nn, jshr_k, jand_255] <;> first | done | omega | assumption)) | (intros; simp (disch := omega) only [jst_eq, jst_ne, jst_ni, jst_o, jI_i, jcpy_out, w32_id, jdiv_nn, *] <;> first | done | omega) | (intros; simp (disch := omega) only [jst_eq, jst_ne, jst_ni, jst_o, jI_i, jcpy_out, w32_id, jdiv_nn] at * <;> first | done | omega | assumption) | (intros; first | rfl | (exfalso; omega) | ((repeat' apply And.intro) <;> first | assumption | rfl | omega | trivial))))) (fun o2 r1 => ?_)
    rcases o2 with o4 | o5
    · skip
      have r2 := r1; clear r1
      dsimp only [Sum.elim_inl, Sum.elim_inr] at r2
      try dsimp only [Sum.elim_inl, Sum.elim_inr, jt2, jt3, jt4, jt5, jt6, jt7, jt8] at r2
      have oj1 := r2
      clear r2
      try simp (disch := omega) only [jst_eq, jst_ne, jst_ni, jI_i, jcmp_lt, jcmp_gt, w32_id, jcpy_out, Sum.elim_inl, Sum.elim_inr, jt2, jt3, jt4, jt5, jt6, jt7, jt8] at oj1
      refine OK_jml ?_
      refine OK_some ?_
      try dsimp only [Sum.elim_inl, Sum.elim_inr, jt2, jt3, jt4, jt5, jt6, jt7, jt8]
      (unfold hmA; rw [if_neg (by omega), oj1]; first | omega | exact w32_id (by omega) (by omega) | (rw [w32_id (by omega) (by omega)])) -- o9 e2
    · skip
      have r3 := r1; clear r1
      dsimp only [Sum.elim_inl, Sum.elim_inr] at r3
      try dsimp only [Sum.elim_inl, Sum.elim_inr, jt2, jt3, jt4, jt5, jt6, jt7, jt8] at r3
      have no2 := r3
      clear r3
      try simp (disch := omega) only [jst_eq, jst_ne, jst_ni, jI_i, jcmp_lt, jcmp_gt, w32_id, jcpy_out, Sum.elim_inl, Sum.elim_inr, jt2, jt3, jt4, jt5, jt6, jt7, jt8] at no2
      refine OK_jmr ?_
      refine OK_some ?_
      try dsimp only [Sum.elim_inl, Sum.elim_inr, jt2, jt3, jt4, jt5, jt6, jt7, jt8]
      (first | omega | exact absurd no2 (by decide)) -- o10 e3
/-! order -/
def okO (o : Int → Int) : Prop := (-1 ≤ o 0 ∧ o 0 < 199) ∧ (-1 ≤ o 1 ∧ o 1 < 199) ∧ (-1 ≤ o 2 ∧ o 2 < 199) ∧ (o 0 < 0 → o 1 = -1) ∧ (o 1 < 0 → o 2 = -1)
def ndC (h : AH) (E : EV) (A : AD) (T : TB) (tp N t w d : Int) (o : Int → Int) : Prop := (h 469 t = w ∧ h 466 t = -1) ∧ h 465 t = nkO o ∧ (∀ i, 0 ≤ i → i < nkO o → h 464 (3 * t + i) = tp + o i ∧ 0 ≤ o i ∧ o i < N ∧ T.2.2.1 (o i) < w) ∧ hdC h E A t d (nkO o) ∧ okO o
def lxO (n : Int) (o o' : Int → Int) : Prop := ∃ m, 0 ≤ m ∧ m < n ∧ (∀ i, 0 ≤ i → i < m → o i = o' i) ∧ o m < o' m
theorem lxO_k {n d : Int} {o o' : Int → Int} (a : okO o) (b : okO o') (n3 : n ≤ 3) (l : lxO n o o') : kyO d o < kyO d o' := by
  obtain ⟨m, m0, m1, e, lt⟩ := l
  obtain ⟨a0, a1, a2, a3, a4⟩ := a
  obtain ⟨b0, b1, b2, b3, b4⟩ := b
  unfold kyO
  rcases (show m = 0 ∨ m = 1 ∨ m = 2 by omega) with y | y | y
  · rw [y] at lt; omega
  · rw [y] at lt e; have := e 0 (by decide) (by decide); omega
  · rw [y] at lt e; have := e 0 (by decide) (by decide); have := e 1 (by decide) (by decide); omega
def CO (F : Int → Int → AH → Option Int) (h : AH) (T : TB) (tp k : Int) : Prop := ∀ x y, 0 ≤ x → x < T.1 → 0 ≤ y → y < T.1 → T.2.2.1 x < k → T.2.2.1 y < k → OK (F (tp + x) (tp + y) h) (fun v => (v < 0 ∧ x < y) ∨ (v = 0 ∧ x = y) ∨ (0 < v ∧ y < x))
theorem vX14_order_l59 {F : Int → Int → AH → Option (Int)} (i1 : Int) (i2 : Int) (a50 : Int) (a60 : Int) {h : AH} {E : EV} {A : AD} {T : TB} {tp w d : Int} {o o' : Int → Int} (hF : CO F h T tp w) (b : 0 ≤ i1 ∧ i1 < 8800 ∧ 0 ≤ i2 ∧ i2 < 8800) (x : ndC h E A T tp T.1 i1 w d o) (y : ndC h E A T tp T.1 i2 w d o') (n : nkO o = nkO o') (z : a50 = 0 ∧ a60 = 0) : OK (gX14_order_l59 F i1 i2 a50 a60 h) (fun v => (v < 0 ∧ lxO (nkO o) o o') ∨ (v = 0 ∧ ∀ i, 0 ≤ i → i < nkO o → o i = o' i) ∨ (0 < v ∧ lxO (nkO o) o' o)) := by
  unfold gX14_order_l59
  refine OK_jit (I := (fun (s : Int × Int) => jt2 s fun a5 a6 => (0 ≤ a6 ∧ a6 ≤ nkO o) ∧ ((a5 = 0 ∧ ∀ i, 0 ≤ i → i < a6 → o i = o' i) ∨ (a5 < 0 ∧ lxO (nkO o) o o') ∨ (0 < a5 ∧ lxO (nkO o) o' o)))) (m := (fun (s : Int × Int) => jt2 s fun a5 a6 => (nkO o - a6).toNat)) ?_ ?_
  · intro s hs
    obtain ⟨a5, a6⟩ := s
    dsimp only [Sum.elim_inl, Sum.elim_inr, jt2, jt3, jt4, jt5, jt6, jt7, jt8] at hs
    obtain ⟨q0, q1⟩ := hs
    unfold gX14_order_b59
    refine OK_jt2 ?_
    obtain ⟨x1, x2, x3, x4, x5⟩ := x
    obtain ⟨y1, y2, y3, y4, y5⟩ := y
    have nr := nkO_r o
    refine OK_jg (by (first | assumption | omega | ((try dsimp only [jt2, jt3, jt4]); first | omega | (simp (disch := omega) only [jst_eq, jst_ne, jst_ni, jst_o, jI_i, jcpy_out, w32_id, jdiv_nn, jshr_k, jand_255] <;> first | done | omega | assumption)) | (intros; simp (disch := omega) only [jst_eq, jst_ne, jst_ni, jst_o, jI_i, jcpy_out, w32_id, jdiv_nn, *] <;> first | done | omega) | (intros; simp (disch := omega) only [jst_eq, jst_ne, jst_ni, jst_o, jI_i, jcpy_out, w32_id, jdiv_nn] at * <;> first | done | omega | assumption) | (intros; first | rfl | (exfalso; omega) | ((repeat' apply And.intro) <;> first | assumption | rfl | omega | trivial)))) ?_ -- o1
    refine OK_if (fun c1 => ?_) (fun c1 => ?_)
    · skip
      try simp (disch := omega) only [jst_eq, jst_ne, jst_ni, jI_i, jcmp_lt, jcmp_gt, w32_id, jcpy_out, Sum.elim_inl, Sum.elim_inr, jt2, jt3, jt4, jt5, jt6, jt7, jt8] at c1
      refine OK_ir ?_
      (rcases q1 with r | r | r; { exact Or.inr (Or.inl ⟨r.1, fun i i0 i1 => r.2 i i0 (by omega)⟩) }; { exact Or.inl r }; { exact Or.inr (Or.inr r) }) -- o2 e1
    · skip
      try simp (disch := omega) only [jst_eq, jst_ne, jst_ni, jI_i, jcmp_lt, jcmp_gt, w32_id, jcpy_out, Sum.elim_inl, Sum.elim_inr, jt2, jt3, jt4, jt5, jt6, jt7, jt8] at c1
      refine OK_if (fun c2 => ?_) (fun c2 => ?_)
      · skip
        try simp (disch := omega) only [jst_eq, jst_ne, jst_ni, jI_i, jcmp_lt, jcmp_gt, w32_id, jcpy_out, Sum.elim_inl, Sum.elim_inr, jt2, jt3, jt4, jt5, jt6, jt7, jt8] at c2
        have w1 : w32 (w32 (3 * i1) + a6) = 3 * i1 + a6 := by { rw [w32_id (x := 3 * i1) (by omega) (by omega), w32_id (by omega) (by omega)] }
        have w2 : w32 (w32 (3 * i2) + a6) = 3 * i2 + a6 := by { rw [w32_id (x := 3 * i2) (by omega) (by omega), w32_id (by omega) (by omega)] }
        have kx := x3 a6 q0.1 (by omega)
        have ky := y3 a6 q0.1 (by omega)
        have q2 : ∀ i, 0 ≤ i → i < a6 → o i = o' i := by { rcases q1 with r | r | r; { exact r.2 }; { omega }; { omega } }
        have CF : OK (F (h 464 (w32 (w32 (3 * i1) + a6))) (h 464 (w32 (w32 (3 * i2) + a6))) h) (fun v => (v < 0 ∧ o a6 < o' a6) ∨ (v = 0 ∧ o a6 = o' a6) ∨ (0 < v ∧ o' a6 < o a6)) := by { rw [w1, w2, kx.1, ky.1]; exact hF (o a6) (o' a6) kx.2.1 kx.2.2.1 ky.2.1 ky.2.2.1 kx.2.2.2 ky.2.2.2 }
        refine OK_jg (by (first | assumption | omega | ((try dsimp only [jt2, jt3, jt4]); first | omega | (simp (disch := omega) only [jst_eq, jst_ne, jst_ni, jst_o, jI_i, jcpy_out, w32_id, jdiv_nn, jshr_k, jand_255] <;> first | done | omega | assumption)) | (intros; simp (disch := omega) only [jst_eq, jst_ne, jst_ni, jst_o, jI_i, jcpy_out, w32_id, jdiv_nn, *] <;> first | done | omega) | (intros; simp (disch := omega) only [jst_eq, jst_ne, jst_ni, jst_o, jI_i, jcpy_out, w32_id, jdiv_nn] at * <;> first | done | omega | assumption) | (intros; first | rfl | (exfalso; omega) | ((repeat' apply And.intro) <;> first | assumption | rfl | omega | trivial)))) ?_ -- o3
        refine OK_jg (by (first | assumption | omega | ((try dsimp only [jt2, jt3, jt4]); first | omega | (simp (disch := omega) only [jst_eq, jst_ne, jst_ni, jst_o, jI_i, jcpy_out, w32_id, jdiv_nn, jshr_k, jand_255] <;> first | done | omega | assumption)) | (intros; simp (disch := omega) only [jst_eq, jst_ne, jst_ni, jst_o, jI_i, jcpy_out, w32_id, jdiv_nn, *] <;> first | done | omega) | (intros; simp (disch := omega) only [jst_eq, jst_ne, jst_ni, jst_o, jI_i, jcpy_out, w32_id, jdiv_nn] at * <;> first | done | omega | assumption) | (intros; first | rfl | (exfalso; omega) | ((repeat' apply And.intro) <;> first | assumption | rfl | omega | trivial)))) ?_ -- o4
        refine OK_jb  CF (fun v12 r1 => ?_)
        have S12 : (v12 < 0 ∧ o a6 < o' a6) ∨ (v12 = 0 ∧ o a6 = o' a6) ∨ (0 < v12 ∧ o' a6 < o a6) := by { first | exact r1 | exact sg1 | assumption }
        refine OK_jlx (fun x13 ex13 => ?_)
        try simp (disch := omega) only [jst_eq, jst_ne, jst_ni, jI_i, jcmp_lt, jcmp_gt, w32_id, jcpy_out, Sum.elim_inl, Sum.elim_inr, jt2, jt3, jt4, jt5, jt6, jt7, jt8] at ex13
        refine OK_il ?_ ?_
        · try dsimp only [Sum.elim_inl, Sum.elim_inr, jt2, jt3, jt4, jt5, jt6, jt7, jt8]
          refine ⟨?_, ?_⟩
          · (first | assumption | omega | ((try dsimp only [jt2, jt3, jt4]); first | omega | (simp (disch := omega) only [jst_eq, jst_ne, jst_ni, jst_o, jI_i, jcpy_out, w32_id, jdiv_nn, jshr_k, jand_255] <;> first | done | omega | assumption)) | (intros; simp (disch := omega) only [jst_eq, jst_ne, jst_ni, jst_o, jI_i, jcpy_out, w32_id, jdiv_nn, *] <;> first | done | omega) | (intros; simp (disch := omega) only [jst_eq, jst_ne, jst_ni, jst_o, jI_i, jcpy_out, w32_id, jdiv_nn] at * <;> first | done | omega | assumption) | (intros; first | rfl | (exfalso; omega) | ((repeat' apply And.intro) <;> first | assumption | rfl | omega | trivial))) -- o5 e2i.1
          · (rcases S12 with r | r | r; { exact Or.inr (Or.inl ⟨r.1, a6, q0.1, by omega, q2, r.2⟩) }; { exact Or.inl ⟨r.1, fun i i0 i1 => by by_cases u : i = a6; { rw [u]; exact r.2 }; { exact q2 i i0 (by omega) }⟩ }; { exact Or.inr (Or.inr ⟨r.1, a6, q0.1, by omega, fun i i0 i1 => (q2 i i0 i1).symm, r.2⟩) }) -- o6 e2i.2
        · (first | assumption | omega | ((try dsimp only [jt2, jt3, jt4]); first | omega | (simp (disch := omega) only [jst_eq, jst_ne, jst_ni, jst_o, jI_i, jcpy_out, w32_id, jdiv_nn, jshr_k, jand_255] <;> first | done | omega | assumption)) | (intros; simp (disch := omega) only [jst_eq, jst_ne, jst_ni, jst_o, jI_i, jcpy_out, w32_id, jdiv_nn, *] <;> first | done | omega) | (intros; simp (disch := omega) only [jst_eq, jst_ne, jst_ni, jst_o, jI_i, jcpy_out, w32_id, jdiv_nn] at * <;> first | done | omega | assumption) | (intros; first | rfl | (exfalso; omega) | ((repeat' apply And.intro) <;> first | assumption | rfl | omega | trivial))) -- o7 e2m
      · skip
        try simp (disch := omega) only [jst_eq, jst_ne, jst_ni, jI_i, jcmp_lt, jcmp_gt, w32_id, jcpy_out, Sum.elim_inl, Sum.elim_inr, jt2, jt3, jt4, jt5, jt6, jt7, jt8] at c2
        refine OK_ir ?_
        (rcases q1 with r | r | r; { exact absurd r.1 c2 }; { exact Or.inl r }; { exact Or.inr (Or.inr r) }) -- o8 e3
  · try dsimp only [Sum.elim_inl, Sum.elim_inr, jt2, jt3, jt4, jt5, jt6, jt7, jt8]
    refine ⟨?_, ?_⟩
    · (have := nkO_r o; omega) -- o9 init.1
    · exact Or.inl ⟨z.1, fun i i0 i1 => by omega⟩ -- o10 init.2

