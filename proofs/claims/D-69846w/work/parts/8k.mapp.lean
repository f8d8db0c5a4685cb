/-! m: a program is applied to a word -/
def wtA (B : Int → Int) (a n : Int) : Prop := ∀ k, a ≤ k → k < n → isL (B k) = true
theorem vX14_isWordText_l5 (i2 : Int) (a30 : Int) (a40 : Int) {h : AH} (hb : 0 ≤ a40 ∧ i2 ≤ 2000) (h3 : a30 = 1) : OK (gX14_isWordText_l5 i2 a30 a40 h) (fun r => (r = 1 ∧ wtA (h 473) a40 i2) ∨ (r = 0 ∧ ¬ wtA (h 473) a40 i2)) := by
  unfold gX14_isWordText_l5
  refine OK_jit (I := (fun (s : Int × Int) => jt2 s fun a3 a4 => (a40 ≤ a4) ∧ ((a3 = 1 ∧ wtA (h 473) a40 a4) ∨ (a3 = 0 ∧ ¬ wtA (h 473) a40 i2)))) (m := (fun (s : Int × Int) => jt2 s fun a3 a4 => (i2 - a4).toNat)) ?_ ?_
  · intro s hs
    obtain ⟨a3, a4⟩ := s
    dsimp only [Sum.elim_inl, Sum.elim_inr, jt2, jt3, jt4, jt5, jt6, jt7, jt8] at hs
    obtain ⟨q0, q1⟩ := hs
    unfold gX14_isWordText_b5
    refine OK_jt2 ?_
    have QQ := q1
    refine OK_if (fun c1 => ?_) (fun c1 => ?_)
    · skip
      try simp (disch := omega) only [jst_eq, jst_ne, jst_ni, jI_i, jcmp_lt, jcmp_gt, w32_id, jcpy_out, Sum.elim_inl, Sum.elim_inr, jt2, jt3, jt4, jt5, jt6, jt7, jt8] at c1
      refine OK_ir ?_
      (rcases QQ with q | q; { exact Or.inl ⟨q.1, fun k k0 k1 => q.2 k k0 (by omega)⟩ }; { exact Or.inr q }) -- o1 e1
    · skip
      try simp (disch := omega) only [jst_eq, jst_ne, jst_ni, jI_i, jcmp_lt, jcmp_gt, w32_id, jcpy_out, Sum.elim_inl, Sum.elim_inr, jt2, jt3, jt4, jt5, jt6, jt7, jt8] at c1
      refine OK_if (fun c2 => ?_) (fun c2 => ?_)
      · skip
        try simp (disch := omega) only [jst_eq, jst_ne, jst_ni, jI_i, jcmp_lt, jcmp_gt, w32_id, jcpy_out, Sum.elim_inl, Sum.elim_inr, jt2, jt3, jt4, jt5, jt6, jt7, jt8] at c2
        unfold gX14_isWordText_j33_5
        refine OK_jlx (fun x8 ex8 => ?_)
        try simp (disch := omega) only [jst_eq, jst_ne, jst_ni, jI_i, jcmp_lt, jcmp_gt, w32_id, jcpy_out, Sum.elim_inl, Sum.elim_inr, jt2, jt3, jt4, jt5, jt6, jt7, jt8] at ex8
        refine OK_il ?_ ?_
        · try dsimp only [Sum.elim_inl, Sum.elim_inr, jt2, jt3, jt4, jt5, jt6, jt7, jt8]
          refine ⟨?_, ?_⟩
          · (first | assumption | omega | ((try dsimp only [jt2, jt3, jt4]); first | omega | (simp (disch := omega) only [jst_eq, jst_ne, jst_ni, jst_o, jI_i, jcpy_out, w32_id, jdiv_nn, jshr_k, jand_255] <;> first | done | omega | assumption)) | (intros; simp (disch := omega) only [jst_eq, jst_ne, jst_ni, jst_o, jI_i, jcpy_out, w32_id, jdiv_nn, *] <;> first | done | omega) | (intros; simp (disch := omega) only [jst_eq, jst_ne, jst_ni, jst_o, jI_i, jcpy_out, w32_id, jdiv_nn] at * <;> first | done | omega | assumption) | (intros; first | rfl | (exfalso; omega) | ((repeat' apply And.intro) <;> first | assumption | rfl | omega | trivial))) -- o2 e2i.1
          · (rcases QQ with q | q; { have := q.1; omega }; { exact Or.inr ⟨rfl, q.2⟩ }) -- o3 e2i.2
        · (first | assumption | omega | ((try dsimp only [jt2, jt3, jt4]); first | omega | (simp (disch := omega) only [jst_eq, jst_ne, jst_ni, jst_o, jI_i, jcpy_out, w32_id, jdiv_nn, jshr_k, jand_255] <;> first | done | omega | assumption)) | (intros; simp (disch := omega) only [jst_eq, jst_ne, jst_ni, jst_o, jI_i, jcpy_out, w32_id, jdiv_nn, *] <;> first | done | omega) | (intros; simp (disch := omega) only [jst_eq, jst_ne, jst_ni, jst_o, jI_i, jcpy_out, w32_id, jdiv_nn] at * <;> first | done | omega | assumption) | (intros; first | rfl | (exfalso; omega) | ((repeat' apply And.intro) <;> first | assumption | rfl | omega | trivial))) -- o4 e2m
      · skip
        try simp (disch := omega) only [jst_eq, jst_ne, jst_ni, jI_i, jcmp_lt, jcmp_gt, w32_id, jcpy_out, Sum.elim_inl, Sum.elim_inr, jt2, jt3, jt4, jt5, jt6, jt7, jt8] at c2
        refine OK_jg (by (first | assumption | omega | ((try dsimp only [jt2, jt3, jt4]); first | omega | (simp (disch := omega) only [jst_eq, jst_ne, jst_ni, jst_o, jI_i, jcpy_out, w32_id, jdiv_nn, jshr_k, jand_255] <;> first | done | omega | assumption)) | (intros; simp (disch := omega) only [jst_eq, jst_ne, jst_ni, jst_o, jI_i, jcpy_out, w32_id, jdiv_nn, *] <;> first | done | omega) | (intros; simp (disch := omega) only [jst_eq, jst_ne, jst_ni, jst_o, jI_i, jcpy_out, w32_id, jdiv_nn] at * <;> first | done | omega | assumption) | (intros; first | rfl | (exfalso; omega) | ((repeat' apply And.intro) <;> first | assumption | rfl | omega | trivial)))) ?_ -- o5
        refine OK_jb (vX14_isLetter _) (fun v6 r1 => ?_)
        try dsimp only [Sum.elim_inl, Sum.elim_inr, jt2, jt3, jt4, jt5, jt6, jt7, jt8] at r1
        obtain ⟨t1, f1⟩ := r1
        try simp (disch := omega) only [jst_eq, jst_ne, jst_ni, jI_i, jcmp_lt, jcmp_gt, w32_id, jcpy_out, Sum.elim_inl, Sum.elim_inr, jt2, jt3, jt4, jt5, jt6, jt7, jt8] at t1
        try simp (disch := omega) only [jst_eq, jst_ne, jst_ni, jI_i, jcmp_lt, jcmp_gt, w32_id, jcpy_out, Sum.elim_inl, Sum.elim_inr, jt2, jt3, jt4, jt5, jt6, jt7, jt8] at f1
        have T6 : isL (h 473 a4) = true → v6 = 1 := by assumption
        have U6 : isL (h 473 a4) = false → v6 = 0 := by assumption
        refine OK_if (fun c3 => ?_) (fun c3 => ?_)
        · skip
          try simp (disch := omega) only [jst_eq, jst_ne, jst_ni, jI_i, jcmp_lt, jcmp_gt, w32_id, jcpy_out, Sum.elim_inl, Sum.elim_inr, jt2, jt3, jt4, jt5, jt6, jt7, jt8] at c3
          have L6 : isL (h 473 a4) = false := by { cases e9 : isL (h 473 a4) with | false => { rfl } | true => { have := T6 e9; omega } }
          unfold gX14_isWordText_j33_5
          refine OK_jlx (fun x8 ex8 => ?_)
          try simp (disch := omega) only [jst_eq, jst_ne, jst_ni, jI_i, jcmp_lt, jcmp_gt, w32_id, jcpy_out, Sum.elim_inl, Sum.elim_inr, jt2, jt3, jt4, jt5, jt6, jt7, jt8] at ex8
          refine OK_il ?_ ?_
          · try dsimp only [Sum.elim_inl, Sum.elim_inr, jt2, jt3, jt4, jt5, jt6, jt7, jt8]
            refine ⟨?_, ?_⟩
            · (first | assumption | omega | ((try dsimp only [jt2, jt3, jt4]); first | omega | (simp (disch := omega) only [jst_eq, jst_ne, jst_ni, jst_o, jI_i, jcpy_out, w32_id, jdiv_nn, jshr_k, jand_255] <;> first | done | omega | assumption)) | (intros; simp (disch := omega) only [jst_eq, jst_ne, jst_ni, jst_o, jI_i, jcpy_out, w32_id, jdiv_nn, *] <;> first | done | omega) | (intros; simp (disch := omega) only [jst_eq, jst_ne, jst_ni, jst_o, jI_i, jcpy_out, w32_id, jdiv_nn] at * <;> first | done | omega | assumption) | (intros; first | rfl | (exfalso; omega) | ((repeat' apply And.intro) <;> first | assumption | rfl | omega | trivial))) -- o6 e3i.1
            · (right; exact ⟨rfl, fun z => by rw [z a4 q0 (by omega)] at L6; cases L6⟩) -- o7 e3i.2
          · (first | assumption | omega | ((try dsimp only [jt2, jt3, jt4]); first | omega | (simp (disch := omega) only [jst_eq, jst_ne, jst_ni, jst_o, jI_i, jcpy_out, w32_id, jdiv_nn, jshr_k, jand_255] <;> first | done | omega | assumption)) | (intros; simp (disch := omega) only [jst_eq, jst_ne, jst_ni, jst_o, jI_i, jcpy_out, w32_id, jdiv_nn, *] <;> first | done | omega) | (intros; simp (disch := omega) only [jst_eq, jst_ne, jst_ni, jst_o, jI_i, jcpy_out, w32_id, jdiv_nn] at * <;> first | done | omega | assumption) | (intros; first | rfl | (exfalso; omega) | ((repeat' apply And.intro) <;> first | assumption | rfl | omega | trivial))) -- o8 e3m
        · skip
          try simp (disch := omega) only [jst_eq, jst_ne, jst_ni, jI_i, jcmp_lt, jcmp_gt, w32_id, jcpy_out, Sum.elim_inl, Sum.elim_inr, jt2, jt3, jt4, jt5, jt6, jt7, jt8] at c3
          have L6 : isL (h 473 a4) = true := by { cases e9 : isL (h 473 a4) with | false => { exact absurd (U6 e9) c3 } | true => { rfl } }
          unfold gX14_isWordText_j33_5
          refine OK_jlx (fun x8 ex8 => ?_)
          try simp (disch := omega) only [jst_eq, jst_ne, jst_ni, jI_i, jcmp_lt, jcmp_gt, w32_id, jcpy_out, Sum.elim_inl, Sum.elim_inr, jt2, jt3, jt4, jt5, jt6, jt7, jt8] at ex8
          refine OK_il ?_ ?_
          · try dsimp only [Sum.elim_inl, Sum.elim_inr, jt2, jt3, jt4, jt5, jt6, jt7, jt8]
            refine ⟨?_, ?_⟩
            · (first | assumption | omega | ((try dsimp only [jt2, jt3, jt4]); first | omega | (simp (disch := omega) only [jst_eq, jst_ne, jst_ni, jst_o, jI_i, jcpy_out, w32_id, jdiv_nn, jshr_k, jand_255] <;> first | done | omega | assumption)) | (intros; simp (disch := omega) only [jst_eq, jst_ne, jst_ni, jst_o, jI_i, jcpy_out, w32_id, jdiv_nn, *] <;> first | done | omega) | (intros; simp (disch := omega) only [jst_eq, jst_ne, jst_ni, jst_o, jI_i, jcpy_out, w32_id, jdiv_nn] at * <;> first | done | omega | assumption) | (intros; first | rfl | (exfalso; omega) | ((repeat' apply And.intro) <;> first | assumption | rfl | omega | trivial))) -- o9 e4i.1
            · (rcases QQ with q | q; { exact Or.inl ⟨rfl, fun k k0 k1 => by by_cases y : k = a4; { rw [y]; exact L6 }; { exact q.2 k k0 (by omega) }⟩ }; { have := q.1; omega }) -- o10 e4i.2
          · (first | assumption | omega | ((try dsimp only [jt2, jt3, jt4]); first | omega | (simp (disch := omega) only [jst_eq, jst_ne, jst_ni, jst_o, jI_i, jcpy_out, w32_id, jdiv_nn, jshr_k, jand_255] <;> first | done | omega | assumption)) | (intros; simp (disch := omega) only [jst_eq, jst_ne, jst_ni, jst_o, jI_i, jcpy_out, w32_id, jdiv_nn, *] <;> first | done | omega) | (intros; simp (disch := omega) only [jst_eq, jst_ne, jst_ni, jst_o, jI_i, jcpy_out, w32_id, jdiv_nn] at * <;> first | done | omega | assumption) | (intros; first | rfl | (exfalso; omega) | ((repeat' apply And.intro) <;> first | assumption | rfl | omega | trivial))) -- o11 e4m
  · try dsimp only [Sum.elim_inl, Sum.elim_inr, jt2, jt3, jt4, jt5, jt6, jt7, jt8]
    refine ⟨?_, ?_⟩
    · (first | assumption | omega | ((try dsimp only [jt2, jt3, jt4]); first | omega | (simp (disch := omega) only [jst_eq, jst_ne, jst_ni, jst_o, jI_i, jcpy_out, w32_id, jdiv_nn, jshr_k, jand_255] <;> first | done | omega | assumption)) | (intros; simp (disch := omega) only [jst_eq, jst_ne, jst_ni, jst_o, jI_i, jcpy_out, w32_id, jdiv_nn, *] <;> first | done | omega) | (intros; simp (disch := omega) only [jst_eq, jst_ne, jst_ni, jst_o, jI_i, jcpy_out, w32_id, jdiv_nn] at * <;> first | done | omega | assumption) | (intros; first | rfl | (exfalso; omega) | ((repeat' apply And.intro) <;> first | assumption | rfl | omega | trivial))) -- o12 init.1
    · (left; exact ⟨h3, fun k k0 k1 => by omega⟩) -- o13 init.2
theorem vX14_isWordText (a1 : Int) (a2 : Int) {h : AH} (hb : 0 ≤ a1 ∧ a2 ≤ 2000) : OK (gX14_isWordText a1 a2 h) (fun r => (r = 1 ∧ wtA (h 473) a1 a2) ∨ (r = 0 ∧ ¬ wtA (h 473) a1 a2)) := by
  unfold gX14_isWordText
  refine OK_jb (vX14_isWordText_l5 _ _ _ (by (first | assumption | omega | ((try dsimp only [jt2, jt3, jt4]); first | omega | (simp (disch := omega) only [jst_eq, jst_ne, jst_ni, jst_o, jI_i, jcpy_out, w32_id, jdiv_nn, jshr_k, jand_255] <;> first | done | omega | assumption)) | (intros; simp (disch := omega) only [jst_eq, jst_ne, jst_ni, jst_o, jI_i, jcpy_out, w32_id, jdiv_nn, *] <;> first | done | omega) | (intros; simp (disch := omega) only [jst_eq, jst_ne, jst_ni, jst_o, jI_i, jcpy_out, w32_id, jdiv_nn] at * <;> first | done | omega | assumption) | (intros; first | rfl | (exfalso; omega) | ((repeat' apply And.intro) <;> first | assumption | rfl | omega | trivial)))) (by (first | assumption | omega | ((try dsimp only [jt2, jt3, jt4]); first | omega | (simp (disch := omega) only [jst_eq, jst_ne, jst_ni, jst_o, jI_i, jcpy_out, w32_id, jdiv_nn, jshr_k, jand_255] <;> first | done | omega | assumption)) | (intros; simp (disch := omega) only [jst_eq, jst_ne, jst_ni, jst_o, jI_i, jcpy_out, w32_id, jdiv_nn, *] <;> first | done | omega) | (intros; simp (disch := omega) only [jst_eq, jst_ne, jst_ni, jst_o, jI_i, jcpy_out, w32_id, jdiv_nn] at * <;> first | done | omega | assumption) | (intros; first | rfl | (exfalso; omega) | ((repeat' apply And.intro) <;> first | assumption | rfl | omega | trivial))))) (fun o1 r1 => ?_)
  try dsimp only [Sum.elim_inl, Sum.elim_inr, jt2, jt3, jt4, jt5, jt6, jt7, jt8] at r1
  have wt1 := r1
  clear r1
  try simp (disch := omega) only [jst_eq, jst_ne, jst_ni, jI_i, jcmp_lt, jcmp_gt, w32_id, jcpy_out, Sum.elim_inl, Sum.elim_inr, jt2, jt3, jt4, jt5, jt6, jt7, jt8] at wt1
  have Q1 : (o1 = 1 ∧ wtA (h 473) a1 a2) ∨ (o1 = 0 ∧ ¬ wtA (h 473) a1 a2) := by assumption
  refine OK_jg (by (unfold jZ; rcases Q1 with z | z; { exact Or.inr z.1 }; { exact Or.inl z.1 })) ?_ -- o3
  refine OK_some ?_
  try dsimp only [Sum.elim_inl, Sum.elim_inr, jt2, jt3, jt4, jt5, jt6, jt7, jt8]
  (first | assumption | omega | ((try dsimp only [jt2, jt3, jt4]); first | omega | (simp (disch := omega) only [jst_eq, jst_ne, jst_ni, jst_o, jI_i, jcpy_out, w32_id, jdiv_nn, jshr_k, jand_255] <;> first | done | omega | assumption)) | (intros; simp (disch := omega) only [jst_eq, jst_ne, jst_ni, jst_o, jI_i, jcpy_out, w32_id, jdiv_nn, *] <;> first | done | omega) | (intros; simp (disch := omega) only [jst_eq, jst_ne, jst_ni, jst_o, jI_i, jcpy_out, w32_id, jdiv_nn] at * <;> first | done | omega | assumption) | (intros; first | rfl | (exfalso; omega) | ((repeat' apply And.intro) <;> first | assumption | rfl | omega | trivial))) -- o4 e1
theorem vX14_apply_l49 (a10 : Int) {h0 : AH} {f : Int → Int} {n : Int} (hn : h0 454 25 = n ∧ 0 ≤ n ∧ n ≤ 10) (hf : ∀ k, 0 ≤ k → k < n → h0 473 k = f k + 97 ∧ 0 ≤ f k ∧ f k < 26) (h1 : a10 = 0) : OK (gX14_apply_l49 a10 h0) (fun h' => (∀ k, 0 ≤ k → k < n → h' 473 k = f k) ∧ (∀ a x, ¬ (a = 473 ∧ 0 ≤ x ∧ x < n) → h' a x = h0 a x)) := by
  unfold gX14_apply_l49
  refine OK_jit (I := (fun (s : Int × AH) => jt2 s fun a1 h => (0 ≤ a1 ∧ a1 ≤ n) ∧ (∀ k, 0 ≤ k → k < a1 → h 473 k = f k) ∧ (∀ a x, ¬ (a = 473 ∧ 0 ≤ x ∧ x < a1) → h a x = h0 a x))) (m := (fun (s : Int × AH) => jt2 s fun a1 h => (n - a1).toNat)) ?_ ?_
  · intro s hs
    obtain ⟨a1, h⟩ := s
    dsimp only [Sum.elim_inl, Sum.elim_inr, jt2, jt3, jt4, jt5, jt6, jt7, jt8] at hs
    obtain ⟨q0, q1, fr⟩ := hs
    unfold gX14_apply_b49
    refine OK_jt2 ?_
    have F25 : h 454 25 = n := by rw [fr _ _ (by omega)]; exact hn.1
    refine OK_if (fun c1 => ?_) (fun c1 => ?_)
    · skip
      try simp (disch := omega) only [jst_eq, jst_ne, jst_ni, jI_i, jcmp_lt, jcmp_gt, w32_id, jcpy_out, Sum.elim_inl, Sum.elim_inr, jt2, jt3, jt4, jt5, jt6, jt7, jt8] at c1
      refine OK_ir ?_
      try dsimp only [Sum.elim_inl, Sum.elim_inr, jt2, jt3, jt4, jt5, jt6, jt7, jt8]
      refine ⟨?_, ?_⟩
      · exact fun k k0 k1 => q1 k k0 (by omega) -- o1 e1.1
      · exact fun a x y => fr a x (by omega) -- o2 e1.2
    · skip
      try simp (disch := omega) only [jst_eq, jst_ne, jst_ni, jI_i, jcmp_lt, jcmp_gt, w32_id, jcpy_out, Sum.elim_inl, Sum.elim_inr, jt2, jt3, jt4, jt5, jt6, jt7, jt8] at c1
      have HF := hf a1 q0.1 (by omega)
      have E1 : w32 (h 473 a1 - 97) = f a1 := by { rw [fr _ _ (by omega), HF.1, w32_id (by omega) (by omega)]; omega }
      rw [E1]
      refine OK_jg (by (first | assumption | omega | ((try dsimp only [jt2, jt3, jt4]); first | omega | (simp (disch := omega) only [jst_eq, jst_ne, jst_ni, jst_o, jI_i, jcpy_out, w32_id, jdiv_nn, jshr_k, jand_255] <;> first | done | omega | assumption)) | (intros; simp (disch := omega) only [jst_eq, jst_ne, jst_ni, jst_o, jI_i, jcpy_out, w32_id, jdiv_nn, *] <;> first | done | omega) | (intros; simp (disch := omega) only [jst_eq, jst_ne, jst_ni, jst_o, jI_i, jcpy_out, w32_id, jdiv_nn] at * <;> first | done | omega | assumption) | (intros; first | rfl | (exfalso; omega) | ((repeat' apply And.intro) <;> first | assumption | rfl | omega | trivial)))) ?_ -- o3
      refine OK_jl ?_
      refine OK_jlx (fun x24 ex24 => ?_)
      try simp (disch := omega) only [jst_eq, jst_ne, jst_ni, jI_i, jcmp_lt, jcmp_gt, w32_id, jcpy_out, Sum.elim_inl, Sum.elim_inr, jt2, jt3, jt4, jt5, jt6, jt7, jt8] at ex24
      refine OK_il ?_ ?_
      · try dsimp only [Sum.elim_inl, Sum.elim_inr, jt2, jt3, jt4, jt5, jt6, jt7, jt8]
        refine ⟨?_, ?_, ?_⟩
        · (first | assumption | omega | ((try dsimp only [jt2, jt3, jt4]); first | omega | (simp (disch := omega) only [jst_eq, jst_ne, jst_ni, jst_o, jI_i, jcpy_out, w32_id, jdiv_nn, jshr_k, jand_255] <;> first | done | omega | assumption)) | (intros; simp (disch := omega) only [jst_eq, jst_ne, jst_ni, jst_o, jI_i, jcpy_out, w32_id, jdiv_nn, *] <;> first | done | omega) | (intros; simp (disch := omega) only [jst_eq, jst_ne, jst_ni, jst_o, jI_i, jcpy_out, w32_id, jdiv_nn] at * <;> first | done | omega | assumption) | (intros; first | rfl | (exfalso; omega) | ((repeat' apply And.intro) <;> first | assumption | rfl | omega | trivial))) -- o4 e2i.1
        · (intro k k0 k1; by_cases y : k = a1; { rw [y, jst_eq] }; { rw [jst_ni y]; exact q1 k k0 (by omega) }) -- o5 e2i.2
        · exact fun a x y => by rw [jst_o (by omega)]; exact fr a x (by omega) -- o6 e2i.3
      · (first | assumption | omega | ((try dsimp only [jt2, jt3, jt4]); first | omega | (simp (disch := omega) only [jst_eq, jst_ne, jst_ni, jst_o, jI_i, jcpy_out, w32_id, jdiv_nn, jshr_k, jand_255] <;> first | done | omega | assumption)) | (intros; simp (disch := omega) only [jst_eq, jst_ne, jst_ni, jst_o, jI_i, jcpy_out, w32_id, jdiv_nn, *] <;> first | done | omega) | (intros; simp (disch := omega) only [jst_eq, jst_ne, jst_ni, jst_o, jI_i, jcpy_out, w32_id, jdiv_nn] at * <;> first | done | omega | assumption) | (intros; first | rfl | (exfalso; omega) | ((repeat' apply And.intro) <;> first | assumption | rfl | omega | trivial))) -- o7 e2m
  · try dsimp only [Sum.elim_inl, Sum.elim_inr, jt2, jt3, jt4, jt5, jt6, jt7, jt8]
    refine ⟨?_, ?_, ?_⟩
    · (first | assumption | omega | ((try dsimp only [jt2, jt3, jt4]); first | omega | (simp (disch := omega) only [jst_eq, jst_ne, jst_ni, jst_o, jI_i, jcpy_out, w32_id, jdiv_nn, jshr_k, jand_255] <;> first | done | omega | assumption)) | (intros; simp (disch := omega) only [jst_eq, jst_ne, jst_ni, jst_o, jI_i, jcpy_out, w32_id, jdiv_nn, *] <;> first | done | omega) | (intros; simp (disch := omega) only [jst_eq, jst_ne, jst_ni, jst_o, jI_i, jcpy_out, w32_id, jdiv_nn] at * <;> first | done | omega | assumption) | (intros; first | rfl | (exfalso; omega) | ((repeat' apply And.intro) <;> first | assumption | rfl | omega | trivial))) -- o8 init.1
    · (intro k k0 k1; omega) -- o9 init.2
    · exact fun _ _ _ => rfl -- o10 init.3
theorem vX14_apply_l178 (i1 : Int) (i3 : Int) (a40 : Int) {h0 : AH} {f : Int → Int} (hf : ∀ k, a40 ≤ k → k < i3 → h0 473 k = f k ∧ 0 ≤ f k ∧ f k < 26) (hb : 0 ≤ a40 ∧ a40 < i3 ∧ i3 ≤ 10) (hc : 0 ≤ h0 454 19 ∧ h0 454 19 + (i3 - a40) ≤ 4000) : OK (gX14_apply_l178 i1 i3 a40 h0) (fun h' => apB 454 19 471 (nml (fun k => f (a40 + k) + 97) (i3 - a40).toNat) h0 h') := by
  unfold gX14_apply_l178
  refine OK_jit (I := (fun (s : Int × AH) => jt2 s fun a4 h => (a40 ≤ a4 ∧ a4 ≤ i3) ∧ (apB 454 19 471 (nml (fun k => f (a40 + k) + 97) (a4 - a40).toNat) h0 h))) (m := (fun (s : Int × AH) => jt2 s fun a4 h => (i3 - a4).toNat)) ?_ ?_
  · intro s hs
    obtain ⟨a4, h⟩ := s
    dsimp only [Sum.elim_inl, Sum.elim_inr, jt2, jt3, jt4, jt5, jt6, jt7, jt8] at hs
    obtain ⟨q0, q1⟩ := hs
    unfold gX14_apply_b178
    refine OK_jt2 ?_
    have L := nml_l (fun k => f (a40 + k) + 97) (a4 - a40).toNat
    have A1 := q1.1
    have A3 : h 473 a4 = h0 473 a4 := q1.2.2 473 a4 (by omega) (by omega)
    refine OK_if (fun c1 => ?_) (fun c1 => ?_)
    · skip
      try simp (disch := omega) only [jst_eq, jst_ne, jst_ni, jI_i, jcmp_lt, jcmp_gt, w32_id, jcpy_out, Sum.elim_inl, Sum.elim_inr, jt2, jt3, jt4, jt5, jt6, jt7, jt8] at c1
      refine OK_ir ?_
      (rw [show (i3 - a40).toNat = (a4 - a40).toNat by omega]; exact q1) -- o1 e1
    · skip
      try simp (disch := omega) only [jst_eq, jst_ne, jst_ni, jI_i, jcmp_lt, jcmp_gt, w32_id, jcpy_out, Sum.elim_inl, Sum.elim_inr, jt2, jt3, jt4, jt5, jt6, jt7, jt8] at c1
      have HF := hf a4 q0.1 (by omega)
      have W1 : w32 (h 473 a4 + 97) = f a4 + 97 := by { rw [A3, HF.1, w32_id (by omega) (by omega)] }
      rw [W1]
      refine OK_jg (by (first | assumption | omega | ((try dsimp only [jt2, jt3, jt4]); first | omega | (simp (disch := omega) only [jst_eq, jst_ne, jst_ni, jst_o, jI_i, jcpy_out, w32_id, jdiv_nn, jshr_k, jand_255] <;> first | done | omega | assumption)) | (intros; simp (disch := omega) only [jst_eq, jst_ne, jst_ni, jst_o, jI_i, jcpy_out, w32_id, jdiv_nn, *] <;> first | done | omega) | (intros; simp (disch := omega) only [jst_eq, jst_ne, jst_ni, jst_o, jI_i, jcpy_out, w32_id, jdiv_nn] at * <;> first | done | omega | assumption) | (intros; first | rfl | (exfalso; omega) | ((repeat' apply And.intro) <;> first | assumption | rfl | omega | trivial)))) ?_ -- o2
      refine OK_jb (vX14_letter _ (by (rw [A1]; omega))) (fun h40 r1 => ?_)
      try dsimp only [Sum.elim_inl, Sum.elim_inr, jt2, jt3, jt4, jt5, jt6, jt7, jt8] at r1
      have ab1 := r1
      clear r1
      try simp (disch := omega) only [jst_eq, jst_ne, jst_ni, jI_i, jcmp_lt, jcmp_gt, w32_id, jcpy_out, Sum.elim_inl, Sum.elim_inr, jt2, jt3, jt4, jt5, jt6, jt7, jt8] at ab1
      refine OK_jlx (fun x41 ex41 => ?_)
      try simp (disch := omega) only [jst_eq, jst_ne, jst_ni, jI_i, jcmp_lt, jcmp_gt, w32_id, jcpy_out, Sum.elim_inl, Sum.elim_inr, jt2, jt3, jt4, jt5, jt6, jt7, jt8] at ex41
      refine OK_il ?_ ?_
      · try dsimp only [Sum.elim_inl, Sum.elim_inr, jt2, jt3, jt4, jt5, jt6, jt7, jt8]
        refine ⟨?_, ?_⟩
        · (first | assumption | omega | ((try dsimp only [jt2, jt3, jt4]); first | omega | (simp (disch := omega) only [jst_eq, jst_ne, jst_ni, jst_o, jI_i, jcpy_out, w32_id, jdiv_nn, jshr_k, jand_255] <;> first | done | omega | assumption)) | (intros; simp (disch := omega) only [jst_eq, jst_ne, jst_ni, jst_o, jI_i, jcpy_out, w32_id, jdiv_nn, *] <;> first | done | omega) | (intros; simp (disch := omega) only [jst_eq, jst_ne, jst_ni, jst_o, jI_i, jcpy_out, w32_id, jdiv_nn] at * <;> first | done | omega | assumption) | (intros; first | rfl | (exfalso; omega) | ((repeat' apply And.intro) <;> first | assumption | rfl | omega | trivial))) -- o4 e2i.1
        · (rw [show (x41 - a40).toNat = (a4 - a40).toNat + 1 by omega, nml_s]; refine apB_app (by decide) q1 ?_; show apB 454 19 471 [f (a40 + (((a4 - a40).toNat : Nat) : Int)) + 97] h h40; rw [show a40 + (((a4 - a40).toNat : Nat) : Int) = a4 by omega]; exact ab1) -- o5 e2i.2
      · (first | assumption | omega | ((try dsimp only [jt2, jt3, jt4]); first | omega | (simp (disch := omega) only [jst_eq, jst_ne, jst_ni, jst_o, jI_i, jcpy_out, w32_id, jdiv_nn, jshr_k, jand_255] <;> first | done | omega | assumption)) | (intros; simp (disch := omega) only [jst_eq, jst_ne, jst_ni, jst_o, jI_i, jcpy_out, w32_id, jdiv_nn, *] <;> first | done | omega) | (intros; simp (disch := omega) only [jst_eq, jst_ne, jst_ni, jst_o, jI_i, jcpy_out, w32_id, jdiv_nn] at * <;> first | done | omega | assumption) | (intros; first | rfl | (exfalso; omega) | ((repeat' apply And.intro) <;> first | assumption | rfl | omega | trivial))) -- o6 e2m
  · try dsimp only [Sum.elim_inl, Sum.elim_inr, jt2, jt3, jt4, jt5, jt6, jt7, jt8]
    refine ⟨?_, ?_⟩
    · (first | assumption | omega | ((try dsimp only [jt2, jt3, jt4]); first | omega | (simp (disch := omega) only [jst_eq, jst_ne, jst_ni, jst_o, jI_i, jcpy_out, w32_id, jdiv_nn, jshr_k, jand_255] <;> first | done | omega | assumption)) | (intros; simp (disch := omega) only [jst_eq, jst_ne, jst_ni, jst_o, jI_i, jcpy_out, w32_id, jdiv_nn, *] <;> first | done | omega) | (intros; simp (disch := omega) only [jst_eq, jst_ne, jst_ni, jst_o, jI_i, jcpy_out, w32_id, jdiv_nn] at * <;> first | done | omega | assumption) | (intros; first | rfl | (exfalso; omega) | ((repeat' apply And.intro) <;> first | assumption | rfl | omega | trivial))) -- o7 init.1
    · (rw [show (a40 - a40).toNat = 0 by omega]; exact apB_nil) -- o8 init.2
theorem vX14_apply_l81 (a10 : Int) {h0 : AH} {f : Int → Int} {l : List (Int × Int)} {n : Int} (hk : (h0 473 (-2) = 101 ∧ h0 473 (-1) = 2000) ∧ h0 454 25 = n ∧ 0 ≤ n ∧ n ≤ 10) (hf : ∀ k, 0 ≤ k → k < n → h0 473 k = f k ∧ 0 ≤ f k ∧ f k < 26) (hc : h0 454 19 = 0) (hl : h0 454 125 = (l.length : Nat) ∧ l.length ≤ 4) (hi : itsM h0 0 l) (ho : ∀ it ∈ l, itO it) (h4 : a10 = 0) : OK (gX14_apply_l81 a10 h0) (Sum.elim (fun h' => (apL f n l = none) ∧ (∀ a s, ¬ (a = 454 ∧ s = 19) → ¬ (a = 471 ∧ 0 ≤ s) → h' a s = h0 a s)) (fun h' => ∃ o, apL f n l = some o ∧ apB 454 19 471 o h0 h' ∧ o.length ≤ 40)) := by
  unfold gX14_apply_l81
  refine OK_jit (I := (fun (s : Int × AH) => jt2 s fun a1 h => (0 ≤ a1 ∧ a1 ≤ (l.length : Nat)) ∧ (∃ (l1 l2 : List (Int × Int)) (o1 : List Int), l = l1 ++ l2 ∧ (l1.length : Int) = a1 ∧ apB 454 19 471 o1 h0 h ∧ apL f n l = omapA o1 (apL f n l2) ∧ itsM h0 a1 l2 ∧ o1.length ≤ 10 * l1.length))) (m := (fun (s : Int × AH) => jt2 s fun a1 h => ((l.length : Nat) - a1).toNat)) ?_ ?_
  · intro s hs
    obtain ⟨a1, h⟩ := s
    dsimp only [Sum.elim_inl, Sum.elim_inr, jt2, jt3, jt4, jt5, jt6, jt7, jt8] at hs
    obtain ⟨q0, q1⟩ := hs
    unfold gX14_apply_b81
    refine OK_jt2 ?_
    obtain ⟨l1, l2, o1, e1, e2, AB, AL, IX, OL⟩ := q1
    have LL : l.length = l1.length + l2.length := by rw [e1, List.length_append]
    have A0 : ∀ a s, ¬ (a = 454 ∧ s = 19) → ¬ (a = 471 ∧ 0 ≤ s) → h a s = h0 a s := fun a s y1 y2 => AB.2.2 a s y1 (by omega)
    have A1 := AB.1
    have F125 : h 454 125 = h0 454 125 := A0 _ _ (by omega) (by omega)
    have F25 : h 454 25 = n := by rw [A0 _ _ (by omega) (by omega)]; exact hk.2.1
    have F841 : ∀ s, h 841 s = h0 841 s := fun s => A0 _ _ (by omega) (by omega)
    have F842 : ∀ s, h 842 s = h0 842 s := fun s => A0 _ _ (by omega) (by omega)
    refine OK_if (fun c1 => ?_) (fun c1 => ?_)
    · skip
      try simp (disch := omega) only [jst_eq, jst_ne, jst_ni, jI_i, jcmp_lt, jcmp_gt, w32_id, jcpy_out, Sum.elim_inl, Sum.elim_inr, jt2, jt3, jt4, jt5, jt6, jt7, jt8] at c1
      refine OK_ir ?_
      (have z : l2 = [] := List.eq_nil_of_length_eq_zero (by omega); refine ⟨o1, ?_, AB, by omega⟩; rw [AL, z]; show some (o1 ++ []) = _; rw [List.append_nil]) -- o1 e1
    · skip
      try simp (disch := omega) only [jst_eq, jst_ne, jst_ni, jI_i, jcmp_lt, jcmp_gt, w32_id, jcpy_out, Sum.elim_inl, Sum.elim_inr, jt2, jt3, jt4, jt5, jt6, jt7, jt8] at c1
      obtain ⟨it, l3, e3⟩ : ∃ it l3, l2 = it :: l3 := by { cases l2 with | nil => { have z : ([] : List (Int × Int)).length = 0 := rfl; omega } | cons a b => { exact ⟨a, b, rfl⟩ } }
      have IT : itM h0 a1 it ∧ itsM h0 (a1 + 1) l3 := by { rw [e3] at IX; exact IX }
      have ITO : itO it := ho it (by rw [e1, e3]; exact List.mem_append_right _ List.mem_cons_self)
      have FL : a1 < (l.length : Nat) := by omega
      rw [F841, F842, F25]
      refine OK_jg (by (first | assumption | omega | ((try dsimp only [jt2, jt3, jt4]); first | omega | (simp (disch := omega) only [jst_eq, jst_ne, jst_ni, jst_o, jI_i, jcpy_out, w32_id, jdiv_nn, jshr_k, jand_255] <;> first | done | omega | assumption)) | (intros; simp (disch := omega) only [jst_eq, jst_ne, jst_ni, jst_o, jI_i, jcpy_out, w32_id, jdiv_nn, *] <;> first | done | omega) | (intros; simp (disch := omega) only [jst_eq, jst_ne, jst_ni, jst_o, jI_i, jcpy_out, w32_id, jdiv_nn] at * <;> first | done | omega | assumption) | (intros; first | rfl | (exfalso; omega) | ((repeat' apply And.intro) <;> first | assumption | rfl | omega | trivial)))) ?_ -- o2
      refine OK_if (fun c2 => ?_) (fun c2 => ?_)
      · skip
        try simp (disch := omega) only [jst_eq, jst_ne, jst_ni, jI_i, jcmp_lt, jcmp_gt, w32_id, jcpy_out, Sum.elim_inl, Sum.elim_inr, jt2, jt3, jt4, jt5, jt6, jt7, jt8] at c2
        have IC := IT.1.resolve_right (fun z => by omega)
        have IW : h0 842 a1 ≤ 19682 := by { rcases ITO with z | ⟨a, b, z1, z2, z3⟩; { rw [IC.2.2] at z; exact z.2.2 }; { rw [IC.2.2] at z3; have q := congrArg Prod.fst z3; have q1 : (0 : Int) = 1 + 200 * a + b := q; omega } }
        have AP : ap1 f n it = some (lts 9 (h0 842 a1)) := by { unfold ap1; rw [IC.2.2]; exact if_pos rfl }
        refine OK_jb (vX14_say _ (by omega) (by omega)) (fun h28 r1 => ?_)
        try dsimp only [Sum.elim_inl, Sum.elim_inr, jt2, jt3, jt4, jt5, jt6, jt7, jt8] at r1
        have ab1 := r1
        clear r1
        try simp (disch := omega) only [jst_eq, jst_ne, jst_ni, jI_i, jcmp_lt, jcmp_gt, w32_id, jcpy_out, Sum.elim_inl, Sum.elim_inr, jt2, jt3, jt4, jt5, jt6, jt7, jt8] at ab1
        unfold gX14_apply_j204_81
        refine OK_jlx (fun x37 ex37 => ?_)
        try simp (disch := omega) only [jst_eq, jst_ne, jst_ni, jI_i, jcmp_lt, jcmp_gt, w32_id, jcpy_out, Sum.elim_inl, Sum.elim_inr, jt2, jt3, jt4, jt5, jt6, jt7, jt8] at ex37
        refine OK_il ?_ ?_
        · try dsimp only [Sum.elim_inl, Sum.elim_inr, jt2, jt3, jt4, jt5, jt6, jt7, jt8]
          refine ⟨?_, ?_⟩
          · omega -- o5 e2i.1
          · (have ll := lts_len 9 (h0 842 a1); refine ⟨l1 ++ [it], l3, o1 ++ lts 9 (h0 842 a1), by rw [e1, e3, List.append_assoc]; rfl, by rw [List.length_append]; show ((l1.length + 1 : Nat) : Int) = _; omega, apB_app (by decide) AB (by assumption), by rw [AL, e3, apL_s AP, omapA_a], by rw [show x37 = a1 + 1 by omega]; exact IT.2, ?_⟩; rw [List.length_append, List.length_append]; show _ ≤ 10 * (l1.length + 1); omega) -- o6 e2i.2
        · (first | assumption | omega | ((try dsimp only [jt2, jt3, jt4]); first | omega | (simp (disch := omega) only [jst_eq, jst_ne, jst_ni, jst_o, jI_i, jcpy_out, w32_id, jdiv_nn, jshr_k, jand_255] <;> first | done | omega | assumption)) | (intros; simp (disch := omega) only [jst_eq, jst_ne, jst_ni, jst_o, jI_i, jcpy_out, w32_id, jdiv_nn, *] <;> first | done | omega) | (intros; simp (disch := omega) only [jst_eq, jst_ne, jst_ni, jst_o, jI_i, jcpy_out, w32_id, jdiv_nn] at * <;> first | done | omega | assumption) | (intros; first | rfl | (exfalso; omega) | ((repeat' apply And.intro) <;> first | assumption | rfl | omega | trivial))) -- o7 e2m
      · skip
        try simp (disch := omega) only [jst_eq, jst_ne, jst_ni, jI_i, jcmp_lt, jcmp_gt, w32_id, jcpy_out, Sum.elim_inl, Sum.elim_inr, jt2, jt3, jt4, jt5, jt6, jt7, jt8] at c2
        have IC := IT.1.resolve_left (fun z => c2 z.1)
        obtain ⟨ca, cb, z1, z2, z3⟩ := ITO.resolve_left (fun z => by rw [IC.2] at z; have := z.1; dsimp only at this; omega)
        have ZE : h0 841 a1 = 1 + 200 * ca + cb := by { have := congrArg Prod.fst z3; rw [IC.2] at this; exact this }
        have WA : jdiv (w32 (h0 841 a1 - 1)) 200 = ca := by { rw [w32_id (by omega) (by omega), jdiv_nn (by omega) (by omega) (by decide) (by decide)]; omega }
        have WB : jrem (w32 (h0 841 a1 - 1)) 200 = cb := by { rw [w32_id (by omega) (by omega), jrem_nn (by omega) (by omega) (by decide) (by decide)]; omega }
        rw [WA, WB]
        have AP : ap1 f n it = if spP f n ca < 0 then none else if spP f n ca < spP f n cb then some (nml (fun k => f (spP f n ca + k) + 97) (spP f n cb - spP f n ca).toNat) else none := by { unfold ap1; rw [z3]; dsimp only; rw [if_neg (by omega), show (1 + 200 * ca + cb - 1) / 200 = ca by omega, show (1 + 200 * ca + cb - 1) % 200 = cb by omega] }
        have S9 := spP_b (f := f) (n := n) (s := ca) (by omega) (by omega)
        have S11 := spP_b (f := f) (n := n) (s := cb) (by omega) (by omega)
        refine OK_jb (vX14_spot (f := f) _ _ _ _ (by (rw [A0 _ _ (by omega) (by omega), A0 _ _ (by omega) (by omega)]; omega)) (by (intro k k0 k1; rw [Int.zero_add, A0 _ _ (by omega) (by omega)]; exact (hf k (by omega) (by omega)).1)) (by omega)) (fun v30 r2 => ?_)
        try dsimp only [Sum.elim_inl, Sum.elim_inr, jt2, jt3, jt4, jt5, jt6, jt7, jt8] at r2
        have v2 := r2
        clear r2
        try simp (disch := omega) only [jst_eq, jst_ne, jst_ni, jI_i, jcmp_lt, jcmp_gt, w32_id, jcpy_out, Sum.elim_inl, Sum.elim_inr, jt2, jt3, jt4, jt5, jt6, jt7, jt8] at v2
        refine OK_jb (vX14_spot (f := f) _ _ _ _ (by (rw [A0 _ _ (by omega) (by omega), A0 _ _ (by omega) (by omega)]; omega)) (by (intro k k0 k1; rw [Int.zero_add, A0 _ _ (by omega) (by omega)]; exact (hf k (by omega) (by omega)).1)) (by omega)) (fun v32 r3 => ?_)
        try dsimp only [Sum.elim_inl, Sum.elim_inr, jt2, jt3, jt4, jt5, jt6, jt7, jt8] at r3
        have v3 := r3
        clear r3
        try simp (disch := omega) only [jst_eq, jst_ne, jst_ni, jI_i, jcmp_lt, jcmp_gt, w32_id, jcpy_out, Sum.elim_inl, Sum.elim_inr, jt2, jt3, jt4, jt5, jt6, jt7, jt8] at v3
        have V30 : v30 = spP f n ca := by assumption
        have V32 : v32 = spP f n cb := by assumption
        refine OK_if (fun c3 => ?_) (fun c3 => ?_)
        · skip
          try simp (disch := omega) only [jst_eq, jst_ne, jst_ni, jI_i, jcmp_lt, jcmp_gt, w32_id, jcpy_out, Sum.elim_inl, Sum.elim_inr, jt2, jt3, jt4, jt5, jt6, jt7, jt8] at c3
          refine OK_ir ?_
          try dsimp only [Sum.elim_inl, Sum.elim_inr, jt2, jt3, jt4, jt5, jt6, jt7, jt8]
          refine ⟨?_, ?_⟩
          · (rw [AL, e3, apL_n (by rw [AP, if_pos (by omega)])]; rfl) -- o14 e3.1
          · exact A0 -- o15 e3.2
        · skip
          try simp (disch := omega) only [jst_eq, jst_ne, jst_ni, jI_i, jcmp_lt, jcmp_gt, w32_id, jcpy_out, Sum.elim_inl, Sum.elim_inr, jt2, jt3, jt4, jt5, jt6, jt7, jt8] at c3
          refine OK_if (fun c4 => ?_) (fun c4 => ?_)
          · skip
            try simp (disch := omega) only [jst_eq, jst_ne, jst_ni, jI_i, jcmp_lt, jcmp_gt, w32_id, jcpy_out, Sum.elim_inl, Sum.elim_inr, jt2, jt3, jt4, jt5, jt6, jt7, jt8] at c4
            refine OK_jb (vX14_apply_l178 (f := f) _ _ _ (by (intro k k0 k1; rw [A0 _ _ (by omega) (by omega)]; exact hf k (by omega) (by omega))) (by omega) (by omega)) (fun o35 r4 => ?_)
            try dsimp only [Sum.elim_inl, Sum.elim_inr, jt2, jt3, jt4, jt5, jt6, jt7, jt8] at r4
            have ab4 := r4
            clear r4
            try simp (disch := omega) only [jst_eq, jst_ne, jst_ni, jI_i, jcmp_lt, jcmp_gt, w32_id, jcpy_out, Sum.elim_inl, Sum.elim_inr, jt2, jt3, jt4, jt5, jt6, jt7, jt8] at ab4
            unfold gX14_apply_j204_81
            refine OK_jlx (fun x37 ex37 => ?_)
            try simp (disch := omega) only [jst_eq, jst_ne, jst_ni, jI_i, jcmp_lt, jcmp_gt, w32_id, jcpy_out, Sum.elim_inl, Sum.elim_inr, jt2, jt3, jt4, jt5, jt6, jt7, jt8] at ex37
            refine OK_il ?_ ?_
            · try dsimp only [Sum.elim_inl, Sum.elim_inr, jt2, jt3, jt4, jt5, jt6, jt7, jt8]
              refine ⟨?_, ?_⟩
              · omega -- o19 e4i.1
              · (have AP2 : ap1 f n it = some (nml (fun k => f (v30 + k) + 97) (v32 - v30).toNat) := (by rw [AP, if_neg (by omega), if_pos (by omega), V30, V32]); refine ⟨l1 ++ [it], l3, o1 ++ nml (fun k => f (v30 + k) + 97) (v32 - v30).toNat, by rw [e1, e3, List.append_assoc]; rfl, by rw [List.length_append]; show ((l1.length + 1 : Nat) : Int) = _; omega, apB_app (by decide) AB (by assumption), by rw [AL, e3, apL_s AP2, omapA_a], by rw [show x37 = a1 + 1 by omega]; exact IT.2, ?_⟩; rw [List.length_append, List.length_append, nml_l]; show _ ≤ 10 * (l1.length + 1); omega) -- o20 e4i.2
            · (first | assumption | omega | ((try dsimp only [jt2, jt3, jt4]); first | omega | (simp (disch := omega) only [jst_eq, jst_ne, jst_ni, jst_o, jI_i, jcpy_out, w32_id, jdiv_nn, jshr_k, jand_255] <;> first | done | omega | assumption)) | (intros; simp (disch := omega) only [jst_eq, jst_ne, jst_ni, jst_o, jI_i, jcpy_out, w32_id, jdiv_nn, *] <;> first | done | omega) | (intros; simp (disch := omega) only [jst_eq, jst_ne, jst_ni, jst_o, jI_i, jcpy_out, w32_id, jdiv_nn] at * <;> first | done | omega | assumption) | (intros; first | rfl | (exfalso; omega) | ((repeat' apply And.intro) <;> first | assumption | rfl | omega | trivial))) -- o21 e4m
          · skip
            try simp (disch := omega) only [jst_eq, jst_ne, jst_ni, jI_i, jcmp_lt, jcmp_gt, w32_id, jcpy_out, Sum.elim_inl, Sum.elim_inr, jt2, jt3, jt4, jt5, jt6, jt7, jt8] at c4
            refine OK_ir ?_
            try dsimp only [Sum.elim_inl, Sum.elim_inr, jt2, jt3, jt4, jt5, jt6, jt7, jt8]
            refine ⟨?_, ?_⟩
            · (rw [AL, e3, apL_n (by rw [AP, if_neg (by omega), if_neg (by omega)])]; rfl) -- o22 e5.1
            · exact A0 -- o23 e5.2
  · try dsimp only [Sum.elim_inl, Sum.elim_inr, jt2, jt3, jt4, jt5, jt6, jt7, jt8]
    refine ⟨?_, ?_⟩
    · (first | assumption | omega | ((try dsimp only [jt2, jt3, jt4]); first | omega | (simp (disch := omega) only [jst_eq, jst_ne, jst_ni, jst_o, jI_i, jcpy_out, w32_id, jdiv_nn, jshr_k, jand_255] <;> first | done | omega | assumption)) | (intros; simp (disch := omega) only [jst_eq, jst_ne, jst_ni, jst_o, jI_i, jcpy_out, w32_id, jdiv_nn, *] <;> first | done | omega) | (intros; simp (disch := omega) only [jst_eq, jst_ne, jst_ni, jst_o, jI_i, jcpy_out, w32_id, jdiv_nn] at * <;> first | done | omega | assumption) | (intros; first | rfl | (exfalso; omega) | ((repeat' apply And.intro) <;> first | assumption | rfl | omega | trivial))) -- o24 init.1
    · (rw [h4]; refine ⟨[], l, [], rfl, rfl, apB_nil, ?_, hi, Nat.le_refl _⟩; cases apL f n l with | none => { rfl } | some r => { rfl }) -- o25 init.2
theorem vX14_apply_l212 (a10 : Int) {h0 : AH} (hn : 0 ≤ h0 454 19 ∧ h0 454 19 ≤ 2000) (h1 : a10 = 0) : OK (gX14_apply_l212 a10 h0) (fun h' => (∀ k, 0 ≤ k → k < h0 454 19 → h' 790 k = h0 471 k) ∧ (∀ a x, ¬ (a = 790 ∧ 0 ≤ x) → h' a x = h0 a x)) := by
  unfold gX14_apply_l212
  refine OK_jit (I := (fun (s : Int × AH) => jt2 s fun a1 h => (0 ≤ a1 ∧ a1 ≤ h0 454 19) ∧ (∀ k, 0 ≤ k → k < a1 → h 790 k = h0 471 k) ∧ (∀ a x, ¬ (a = 790 ∧ 0 ≤ x) → h a x = h0 a x))) (m := (fun (s : Int × AH) => jt2 s fun a1 h => (h0 454 19 - a1).toNat)) ?_ ?_
  · intro s hs
    obtain ⟨a1, h⟩ := s
    dsimp only [Sum.elim_inl, Sum.elim_inr, jt2, jt3, jt4, jt5, jt6, jt7, jt8] at hs
    obtain ⟨q0, q1, fr⟩ := hs
    unfold gX14_apply_b212
    refine OK_jt2 ?_
    have F19 : h 454 19 = h0 454 19 := fr _ _ (by omega)
    refine OK_if (fun c1 => ?_) (fun c1 => ?_)
    · skip
      try simp (disch := omega) only [jst_eq, jst_ne, jst_ni, jI_i, jcmp_lt, jcmp_gt, w32_id, jcpy_out, Sum.elim_inl, Sum.elim_inr, jt2, jt3, jt4, jt5, jt6, jt7, jt8] at c1
      refine OK_ir ?_
      try dsimp only [Sum.elim_inl, Sum.elim_inr, jt2, jt3, jt4, jt5, jt6, jt7, jt8]
      refine ⟨?_, ?_⟩
      · exact fun k k0 k1 => q1 k k0 (by omega) -- o1 e1.1
      · (first | assumption | omega | ((try dsimp only [jt2, jt3, jt4]); first | omega | (simp (disch := omega) only [jst_eq, jst_ne, jst_ni, jst_o, jI_i, jcpy_out, w32_id, jdiv_nn, jshr_k, jand_255] <;> first | done | omega | assumption)) | (intros; simp (disch := omega) only [jst_eq, jst_ne, jst_ni, jst_o, jI_i, jcpy_out, w32_id, jdiv_nn, *] <;> first | done | omega) | (intros; simp (disch := omega) only [jst_eq, jst_ne, jst_ni, jst_o, jI_i, jcpy_out, w32_id, jdiv_nn] at * <;> first | done | omega | assumption) | (intros; first | rfl | (exfalso; omega) | ((repeat' apply And.intro) <;> first | assumption | rfl | omega | trivial))) -- o2 e1.2
    · skip
      try simp (disch := omega) only [jst_eq, jst_ne, jst_ni, jI_i, jcmp_lt, jcmp_gt, w32_id, jcpy_out, Sum.elim_inl, Sum.elim_inr, jt2, jt3, jt4, jt5, jt6, jt7, jt8] at c1
      rw [fr 471 a1 (by omega)]
      refine OK_jg (by (first | assumption | omega | ((try dsimp only [jt2, jt3, jt4]); first | omega | (simp (disch := omega) only [jst_eq, jst_ne, jst_ni, jst_o, jI_i, jcpy_out, w32_id, jdiv_nn, jshr_k, jand_255] <;> first | done | omega | assumption)) | (intros; simp (disch := omega) only [jst_eq, jst_ne, jst_ni, jst_o, jI_i, jcpy_out, w32_id, jdiv_nn, *] <;> first | done | omega) | (intros; simp (disch := omega) only [jst_eq, jst_ne, jst_ni, jst_o, jI_i, jcpy_out, w32_id, jdiv_nn] at * <;> first | done | omega | assumption) | (intros; first | rfl | (exfalso; omega) | ((repeat' apply And.intro) <;> first | assumption | rfl | omega | trivial)))) ?_ -- o3
      refine OK_jg (by (first | assumption | omega | ((try dsimp only [jt2, jt3, jt4]); first | omega | (simp (disch := omega) only [jst_eq, jst_ne, jst_ni, jst_o, jI_i, jcpy_out, w32_id, jdiv_nn, jshr_k, jand_255] <;> first | done | omega | assumption)) | (intros; simp (disch := omega) only [jst_eq, jst_ne, jst_ni, jst_o, jI_i, jcpy_out, w32_id, jdiv_nn, *] <;> first | done | omega) | (intros; simp (disch := omega) only [jst_eq, jst_ne, jst_ni, jst_o, jI_i, jcpy_out, w32_id, jdiv_nn] at * <;> first | done | omega | assumption) | (intros; first | rfl | (exfalso; omega) | ((repeat' apply And.intro) <;> first | assumption | rfl | omega | trivial)))) ?_ -- o4
      refine OK_jl ?_
      refine OK_jlx (fun x44 ex44 => ?_)
      try simp (disch := omega) only [jst_eq, jst_ne, jst_ni, jI_i, jcmp_lt, jcmp_gt, w32_id, jcpy_out, Sum.elim_inl, Sum.elim_inr, jt2, jt3, jt4, jt5, jt6, jt7, jt8] at ex44
      refine OK_il ?_ ?_
      · try dsimp only [Sum.elim_inl, Sum.elim_inr, jt2, jt3, jt4, jt5, jt6, jt7, jt8]
        refine ⟨?_, ?_, ?_⟩
        · (first | assumption | omega | ((try dsimp only [jt2, jt3, jt4]); first | omega | (simp (disch := omega) only [jst_eq, jst_ne, jst_ni, jst_o, jI_i, jcpy_out, w32_id, jdiv_nn, jshr_k, jand_255] <;> first | done | omega | assumption)) | (intros; simp (disch := omega) only [jst_eq, jst_ne, jst_ni, jst_o, jI_i, jcpy_out, w32_id, jdiv_nn, *] <;> first | done | omega) | (intros; simp (disch := omega) only [jst_eq, jst_ne, jst_ni, jst_o, jI_i, jcpy_out, w32_id, jdiv_nn] at * <;> first | done | omega | assumption) | (intros; first | rfl | (exfalso; omega) | ((repeat' apply And.intro) <;> first | assumption | rfl | omega | trivial))) -- o5 e2i.1
        · (intro k k0 k1; by_cases y : k = a1; { rw [y, jst_eq] }; { rw [jst_ni y]; exact q1 k k0 (by omega) }) -- o6 e2i.2
        · exact fun a x y => by rw [jst_o (by omega)]; exact fr a x y -- o7 e2i.3
      · (first | assumption | omega | ((try dsimp only [jt2, jt3, jt4]); first | omega | (simp (disch := omega) only [jst_eq, jst_ne, jst_ni, jst_o, jI_i, jcpy_out, w32_id, jdiv_nn, jshr_k, jand_255] <;> first | done | omega | assumption)) | (intros; simp (disch := omega) only [jst_eq, jst_ne, jst_ni, jst_o, jI_i, jcpy_out, w32_id, jdiv_nn, *] <;> first | done | omega) | (intros; simp (disch := omega) only [jst_eq, jst_ne, jst_ni, jst_o, jI_i, jcpy_out, w32_id, jdiv_nn] at * <;> first | done | omega | assumption) | (intros; first | rfl | (exfalso; omega) | ((repeat' apply And.intro) <;> first | assumption | rfl | omega | trivial))) -- o8 e2m
  · try dsimp only [Sum.elim_inl, Sum.elim_inr, jt2, jt3, jt4, jt5, jt6, jt7, jt8]
    refine ⟨?_, ?_, ?_⟩
    · (first | assumption | omega | ((try dsimp only [jt2, jt3, jt4]); first | omega | (simp (disch := omega) only [jst_eq, jst_ne, jst_ni, jst_o, jI_i, jcpy_out, w32_id, jdiv_nn, jshr_k, jand_255] <;> first | done | omega | assumption)) | (intros; simp (disch := omega) only [jst_eq, jst_ne, jst_ni, jst_o, jI_i, jcpy_out, w32_id, jdiv_nn, *] <;> first | done | omega) | (intros; simp (disch := omega) only [jst_eq, jst_ne, jst_ni, jst_o, jI_i, jcpy_out, w32_id, jdiv_nn] at * <;> first | done | omega | assumption) | (intros; first | rfl | (exfalso; omega) | ((repeat' apply And.intro) <;> first | assumption | rfl | omega | trivial))) -- o9 init.1
    · (intro k k0 k1; omega) -- o10 init.2
    · exact fun _ _ _ => rfl -- o11 init.3
theorem vX14_apply {h : AH} {l : List (Int × Int)} (hd : h 454 54 = 0 ∨ h 454 54 = 1) (hn : 0 ≤ h 454 53 ∧ h 454 53 ≤ 2000) (hk : h 473 (-2) = 101 ∧ h 473 (-1) = 2000) (hl : h 454 125 = (l.length : Nat) ∧ l.length ≤ 4) (hi : itsM h 0 l) (ho : ∀ it ∈ l, itO it) : OK (gX14_apply h) (fun r => jt2 r fun v h' => ((h 454 54 = 1 ∧ v = -5 ∧ h' = jst h 454 51 0) ∨ (h 454 54 = 0 ∧ (((10 < h 454 53 ∨ ¬ wtA (h 790) 0 (h 454 53)) ∧ v = -1 ∧ h' 454 53 = 0) ∨ ((h 454 53 ≤ 10 ∧ wtA (h 790) 0 (h 454 53)) ∧ ((l = [] ∧ v = -2 ∧ h' 454 53 = 0) ∨ (l ≠ [] ∧ ((apL (fun k => h 790 k - 97) (h 454 53) l = none ∧ v = -1 ∧ h' 454 53 = 0) ∨ ∃ o, apL (fun k => h 790 k - 97) (h 454 53) l = some o ∧ o.length ≤ 40 ∧ v = (o.length : Nat) ∧ h' 454 53 = (o.length : Nat) ∧ ∀ i : Nat, i < o.length → h' 790 i = o.getD i 0))))))) ∧ (∀ a x, ¬ (a = 454 ∧ (x = 19 ∨ x = 25 ∨ x = 51 ∨ x = 53)) → ¬ ((a = 473 ∨ a = 471 ∨ a = 790) ∧ 0 ≤ x) → h' a x = h a x) ∧ (h' 454 51 = 0)) := by
  have HD := hd
  unfold gX14_apply
  refine OK_jb2 (vX14_isDown (by (first | assumption | omega | ((try dsimp only [jt2, jt3, jt4]); first | omega | (simp (disch := omega) only [jst_eq, jst_ne, jst_ni, jst_o, jI_i, jcpy_out, w32_id, jdiv_nn, jshr_k, jand_255] <;> first | done | omega | assumption)) | (intros; simp (disch := omega) only [jst_eq, jst_ne, jst_ni, jst_o, jI_i, jcpy_out, w32_id, jdiv_nn, *] <;> first | done | omega) | (intros; simp (disch := omega) only [jst_eq, jst_ne, jst_ni, jst_o, jI_i, jcpy_out, w32_id, jdiv_nn] at * <;> first | done | omega | assumption) | (intros; first | rfl | (exfalso; omega) | ((repeat' apply And.intro) <;> first | assumption | rfl | omega | trivial))))) (fun v2 h3 r1 => ?_)
  try dsimp only [Sum.elim_inl, Sum.elim_inr, jt2, jt3, jt4, jt5, jt6, jt7, jt8] at r1
  obtain ⟨dv1, dh1⟩ := r1
  try simp (disch := omega) only [jst_eq, jst_ne, jst_ni, jI_i, jcmp_lt, jcmp_gt, w32_id, jcpy_out, Sum.elim_inl, Sum.elim_inr, jt2, jt3, jt4, jt5, jt6, jt7, jt8] at dv1
  try simp (disch := omega) only [jst_eq, jst_ne, jst_ni, jI_i, jcmp_lt, jcmp_gt, w32_id, jcpy_out, Sum.elim_inl, Sum.elim_inr, jt2, jt3, jt4, jt5, jt6, jt7, jt8] at dh1
  have F3 : ∀ a x, ¬ (a = 454 ∧ x = 51) → h3 a x = h a x := fun a x y => by { rw [dh1]; exact jst_o y }
  refine OK_if (fun c1 => ?_) (fun c1 => ?_)
  · skip
    try simp (disch := omega) only [jst_eq, jst_ne, jst_ni, jI_i, jcmp_lt, jcmp_gt, w32_id, jcpy_out, Sum.elim_inl, Sum.elim_inr, jt2, jt3, jt4, jt5, jt6, jt7, jt8] at c1
    refine OK_jb (vX14_takeTape (by (rw [F3 _ _ (by omega)]; exact hn))) (fun h6 r2 => ?_)
    try dsimp only [Sum.elim_inl, Sum.elim_inr, jt2, jt3, jt4, jt5, jt6, jt7, jt8] at r2
    obtain ⟨z2, b2, fr2⟩ := r2
    try simp (disch := omega) only [jst_eq, jst_ne, jst_ni, jI_i, jcmp_lt, jcmp_gt, w32_id, jcpy_out, Sum.elim_inl, Sum.elim_inr, jt2, jt3, jt4, jt5, jt6, jt7, jt8] at z2
    try simp (disch := omega) only [jst_eq, jst_ne, jst_ni, jI_i, jcmp_lt, jcmp_gt, w32_id, jcpy_out, Sum.elim_inl, Sum.elim_inr, jt2, jt3, jt4, jt5, jt6, jt7, jt8] at b2
    try simp (disch := omega) only [jst_eq, jst_ne, jst_ni, jI_i, jcmp_lt, jcmp_gt, w32_id, jcpy_out, Sum.elim_inl, Sum.elim_inr, jt2, jt3, jt4, jt5, jt6, jt7, jt8] at fr2
    have F6 : ∀ a x, ¬ (a = 454 ∧ (x = 25 ∨ x = 51 ∨ x = 53)) → ¬ (a = 473 ∧ 0 ≤ x) → h6 a x = h a x := fun a x y1 y2 => by { rw [fr2 a x y1 (by omega)]; exact F3 a x (by omega) }
    have N3 : h3 454 53 = h 454 53 := F3 _ _ (by omega)
    have N6 : h6 454 25 = h 454 53 := by omega
    have Z53 : h6 454 53 = 0 := by { have := z2; omega }
    have Z51 : h6 454 51 = 0 := by { have := z2; omega }
    have B6 : ∀ k, 0 ≤ k → k < h 454 53 → h6 473 k = h 790 k := fun k k0 k1 => by { rw [b2 k k0 (by omega)]; exact F3 _ _ (by omega) }
    have WT : wtA (h6 473) 0 (h 454 53) ↔ wtA (h 790) 0 (h 454 53) := ⟨fun z k k0 k1 => by (rw [← B6 k k0 k1]; exact z k k0 k1), fun z k k0 k1 => by (rw [B6 k k0 k1]; exact z k k0 k1)⟩
    refine OK_if (fun c2 => ?_) (fun c2 => ?_)
    · skip
      try simp (disch := omega) only [jst_eq, jst_ne, jst_ni, jI_i, jcmp_lt, jcmp_gt, w32_id, jcpy_out, Sum.elim_inl, Sum.elim_inr, jt2, jt3, jt4, jt5, jt6, jt7, jt8] at c2
      refine OK_some ?_
      try dsimp only [Sum.elim_inl, Sum.elim_inr, jt2, jt3, jt4, jt5, jt6, jt7, jt8]
      try dsimp only [Sum.elim_inl, Sum.elim_inr, jt2, jt3, jt4, jt5, jt6, jt7, jt8]
      refine ⟨?_, ?_, ?_⟩
      · exact Or.inr ⟨by omega, Or.inl ⟨Or.inl (by omega), rfl, Z53⟩⟩ -- o3 e1.1
      · exact fun a x y1 y2 => F6 a x (by omega) (by omega) -- o4 e1.2
      · exact Z51 -- o5 e1.3
    · skip
      try simp (disch := omega) only [jst_eq, jst_ne, jst_ni, jI_i, jcmp_lt, jcmp_gt, w32_id, jcpy_out, Sum.elim_inl, Sum.elim_inr, jt2, jt3, jt4, jt5, jt6, jt7, jt8] at c2
      refine OK_jb (vX14_isWordText _ _ (by omega)) (fun v9 r3 => ?_)
      try dsimp only [Sum.elim_inl, Sum.elim_inr, jt2, jt3, jt4, jt5, jt6, jt7, jt8] at r3
      have wt3 := r3
      clear r3
      try simp (disch := omega) only [jst_eq, jst_ne, jst_ni, jI_i, jcmp_lt, jcmp_gt, w32_id, jcpy_out, Sum.elim_inl, Sum.elim_inr, jt2, jt3, jt4, jt5, jt6, jt7, jt8] at wt3
      have W9 : (v9 = 1 ∧ wtA (h 790) 0 (h 454 53)) ∨ (v9 = 0 ∧ ¬ wtA (h 790) 0 (h 454 53)) := by { rw [N6] at wt3; rw [← WT]; exact wt3 }
      refine OK_if (fun c3 => ?_) (fun c3 => ?_)
      · skip
        try simp (disch := omega) only [jst_eq, jst_ne, jst_ni, jI_i, jcmp_lt, jcmp_gt, w32_id, jcpy_out, Sum.elim_inl, Sum.elim_inr, jt2, jt3, jt4, jt5, jt6, jt7, jt8] at c3
        refine OK_some ?_
        try dsimp only [Sum.elim_inl, Sum.elim_inr, jt2, jt3, jt4, jt5, jt6, jt7, jt8]
        try dsimp only [Sum.elim_inl, Sum.elim_inr, jt2, jt3, jt4, jt5, jt6, jt7, jt8]
        refine ⟨?_, ?_, ?_⟩
        · exact Or.inr ⟨by omega, Or.inl ⟨Or.inr (by rcases W9 with z | z; { omega }; { exact z.2 }), rfl, Z53⟩⟩ -- o7 e2.1
        · exact fun a x y1 y2 => F6 a x (by omega) (by omega) -- o8 e2.2
        · exact Z51 -- o9 e2.3
      · skip
        try simp (disch := omega) only [jst_eq, jst_ne, jst_ni, jI_i, jcmp_lt, jcmp_gt, w32_id, jcpy_out, Sum.elim_inl, Sum.elim_inr, jt2, jt3, jt4, jt5, jt6, jt7, jt8] at c3
        have WY := (W9.resolve_right (fun z => c3 z.1)).2
        refine OK_if (fun c4 => ?_) (fun c4 => ?_)
        · skip
          try simp (disch := omega) only [jst_eq, jst_ne, jst_ni, jI_i, jcmp_lt, jcmp_gt, w32_id, jcpy_out, Sum.elim_inl, Sum.elim_inr, jt2, jt3, jt4, jt5, jt6, jt7, jt8] at c4
          refine OK_some ?_
          try dsimp only [Sum.elim_inl, Sum.elim_inr, jt2, jt3, jt4, jt5, jt6, jt7, jt8]
          try dsimp only [Sum.elim_inl, Sum.elim_inr, jt2, jt3, jt4, jt5, jt6, jt7, jt8]
          refine ⟨?_, ?_, ?_⟩
          · (have z : h6 454 125 = h 454 125 := F6 _ _ (by omega) (by omega); exact Or.inr ⟨by omega, Or.inr ⟨⟨by omega, WY⟩, Or.inl ⟨List.eq_nil_of_length_eq_zero (by omega), rfl, Z53⟩⟩⟩) -- o10 e3.1
          · exact fun a x y1 y2 => F6 a x (by omega) (by omega) -- o11 e3.2
          · exact Z51 -- o12 e3.3
        · skip
          try simp (disch := omega) only [jst_eq, jst_ne, jst_ni, jI_i, jcmp_lt, jcmp_gt, w32_id, jcpy_out, Sum.elim_inl, Sum.elim_inr, jt2, jt3, jt4, jt5, jt6, jt7, jt8] at c4
          have F125 : h6 454 125 = h 454 125 := F6 _ _ (by omega) (by omega)
          refine OK_jb (vX14_apply_l49 (f := fun k => h 790 k - 97) (n := h 454 53) _ (by omega) (by (intro k k0 k1; have := isL_r (WY k k0 k1); rw [B6 k k0 k1]; (try dsimp only); omega)) (by rfl)) (fun o12 r4 => ?_)
          try dsimp only [Sum.elim_inl, Sum.elim_inr, jt2, jt3, jt4, jt5, jt6, jt7, jt8] at r4
          obtain ⟨q14, fr4⟩ := r4
          try simp (disch := omega) only [jst_eq, jst_ne, jst_ni, jI_i, jcmp_lt, jcmp_gt, w32_id, jcpy_out, Sum.elim_inl, Sum.elim_inr, jt2, jt3, jt4, jt5, jt6, jt7, jt8] at q14
          try simp (disch := omega) only [jst_eq, jst_ne, jst_ni, jI_i, jcmp_lt, jcmp_gt, w32_id, jcpy_out, Sum.elim_inl, Sum.elim_inr, jt2, jt3, jt4, jt5, jt6, jt7, jt8] at fr4
          refine OK_jl ?_
          have F12 : ∀ a x, ¬ (a = 473 ∧ 0 ≤ x) → o12 a x = h6 a x := fun a x y => by { have z : ∀ a x, ¬ (a = 473 ∧ 0 ≤ x ∧ x < h 454 53) → o12 a x = h6 a x := (by assumption); exact z a x (by omega) }
          have T12 : ∀ k, 0 ≤ k → k < h 454 53 → o12 473 k = (fun k => h 790 k - 97) k := by assumption
          have F14 : ∀ a x, ¬ (a = 454 ∧ (x = 19 ∨ x = 25 ∨ x = 51 ∨ x = 53)) → ¬ (a = 473 ∧ 0 ≤ x) → jst o12 454 19 0 a x = h a x := fun a x y1 y2 => by { rw [jst_o (by omega), F12 a x y2]; exact F6 a x (by omega) y2 }
          refine OK_jb (vX14_apply_l81 (f := fun k => h 790 k - 97) (n := h 454 53) (l := l) _ (by (rw [F14 _ _ (by omega) (by omega), F14 _ _ (by omega) (by omega), jst_ni (by decide), F12 _ _ (by omega)]; omega)) (by (intro k k0 k1; have := isL_r (WY k k0 k1); rw [jst_ne (by decide), T12 k k0 k1]; dsimp only; omega)) (by exact jst_eq) (by (rw [F14 _ _ (by omega) (by omega)]; exact hl)) (by exact itsM_f hi (fun a s a0 a1 _ _ => F14 a s (by omega) (by omega))) (by exact ho) (by rfl)) (fun o15 r5 => ?_)
          rcases o15 with o17 | o18
          · skip
            have r6 := r5; clear r5
            dsimp only [Sum.elim_inl, Sum.elim_inr] at r6
            try dsimp only [Sum.elim_inl, Sum.elim_inr, jt2, jt3, jt4, jt5, jt6, jt7, jt8] at r6
            obtain ⟨no5, fr5⟩ := r6
            try simp (disch := omega) only [jst_eq, jst_ne, jst_ni, jI_i, jcmp_lt, jcmp_gt, w32_id, jcpy_out, Sum.elim_inl, Sum.elim_inr, jt2, jt3, jt4, jt5, jt6, jt7, jt8] at no5
            try simp (disch := omega) only [jst_eq, jst_ne, jst_ni, jI_i, jcmp_lt, jcmp_gt, w32_id, jcpy_out, Sum.elim_inl, Sum.elim_inr, jt2, jt3, jt4, jt5, jt6, jt7, jt8] at fr5
            refine OK_jml ?_
            refine OK_some ?_
            try dsimp only [Sum.elim_inl, Sum.elim_inr, jt2, jt3, jt4, jt5, jt6, jt7, jt8]
            try dsimp only [Sum.elim_inl, Sum.elim_inr, jt2, jt3, jt4, jt5, jt6, jt7, jt8]
            refine ⟨?_, ?_, ?_⟩
            · (have no : apL (fun k => h 790 k - 97) (h 454 53) l = none := (by assumption); have FE : ∀ a s, ¬ (a = 454 ∧ s = 19) → ¬ (a = 471 ∧ 0 ≤ s) → o17 a s = jst o12 454 19 0 a s := (by assumption); refine Or.inr ⟨by omega, Or.inr ⟨⟨by omega, WY⟩, Or.inr ⟨fun z => ?_, Or.inl ⟨no, rfl, ?_⟩⟩⟩⟩; { rw [z] at hl; have : h 454 125 = 0 := hl.1; omega }; { rw [FE _ _ (by omega) (by omega), jst_ni (by decide), F12 _ _ (by omega)]; exact Z53 }) -- o23 e4.1
            · (have FE : ∀ a s, ¬ (a = 454 ∧ s = 19) → ¬ (a = 471 ∧ 0 ≤ s) → o17 a s = jst o12 454 19 0 a s := (by assumption); exact fun a x y1 y2 => by rw [FE a x (by omega) (by omega)]; exact F14 a x y1 (by omega)) -- o24 e4.2
            · (have FE : ∀ a s, ¬ (a = 454 ∧ s = 19) → ¬ (a = 471 ∧ 0 ≤ s) → o17 a s = jst o12 454 19 0 a s := (by assumption); rw [FE _ _ (by omega) (by omega), jst_ni (by decide), F12 _ _ (by omega)]; exact Z51) -- o25 e4.3
          · skip
            have r7 := r5; clear r5
            dsimp only [Sum.elim_inl, Sum.elim_inr] at r7
            try dsimp only [Sum.elim_inl, Sum.elim_inr, jt2, jt3, jt4, jt5, jt6, jt7, jt8] at r7
            have ye6 := r7
            clear r7
            try simp (disch := omega) only [jst_eq, jst_ne, jst_ni, jI_i, jcmp_lt, jcmp_gt, w32_id, jcpy_out, Sum.elim_inl, Sum.elim_inr, jt2, jt3, jt4, jt5, jt6, jt7, jt8] at ye6
            refine OK_jmr ?_
            have YE : ∃ o, apL (fun k => h 790 k - 97) (h 454 53) l = some o ∧ apB 454 19 471 o (jst o12 454 19 0) o18 ∧ o.length ≤ 40 := by assumption
            obtain ⟨o, O1, O2, O3⟩ := YE
            have O4 := O2.1
            have O5 := O2.2.1
            rw [jst_eq] at O4 O5
            have F18 : ∀ a x, ¬ (a = 454 ∧ (x = 19 ∨ x = 25 ∨ x = 51 ∨ x = 53)) → ¬ ((a = 473 ∨ a = 471) ∧ 0 ≤ x) → o18 a x = h a x := fun a x y1 y2 => by { rw [O2.2.2 a x (by omega) (by rw [jst_eq]; omega)]; exact F14 a x y1 (by omega) }
            have Z18 : o18 454 51 = 0 := by { rw [O2.2.2 _ _ (by omega) (by rw [jst_eq]; omega), jst_ni (by decide), F12 _ _ (by omega)]; exact Z51 }
            refine OK_jb (vX14_apply_l212 _ (by omega) (by rfl)) (fun o19 r8 => ?_)
            try dsimp only [Sum.elim_inl, Sum.elim_inr, jt2, jt3, jt4, jt5, jt6, jt7, jt8] at r8
            obtain ⟨q17, fr7⟩ := r8
            try simp (disch := omega) only [jst_eq, jst_ne, jst_ni, jI_i, jcmp_lt, jcmp_gt, w32_id, jcpy_out, Sum.elim_inl, Sum.elim_inr, jt2, jt3, jt4, jt5, jt6, jt7, jt8] at q17
            try simp (disch := omega) only [jst_eq, jst_ne, jst_ni, jI_i, jcmp_lt, jcmp_gt, w32_id, jcpy_out, Sum.elim_inl, Sum.elim_inr, jt2, jt3, jt4, jt5, jt6, jt7, jt8] at fr7
            have Q19 : ∀ k, 0 ≤ k → k < o18 454 19 → o19 790 k = o18 471 k := by assumption
            have F19 : ∀ a x, ¬ (a = 790 ∧ 0 ≤ x) → o19 a x = o18 a x := by assumption
            have N19 : o19 454 19 = (o.length : Nat) := by { rw [F19 _ _ (by omega)]; omega }
            rw [N19]
            refine OK_jl ?_
            refine OK_some ?_
            try dsimp only [Sum.elim_inl, Sum.elim_inr, jt2, jt3, jt4, jt5, jt6, jt7, jt8]
            try dsimp only [Sum.elim_inl, Sum.elim_inr, jt2, jt3, jt4, jt5, jt6, jt7, jt8]
            refine ⟨?_, ?_, ?_⟩
            · (refine Or.inr ⟨by omega, Or.inr ⟨⟨by omega, WY⟩, Or.inr ⟨fun z => ?_, Or.inr ⟨o, O1, O3, by rw [jst_eq], jst_eq, fun i hi => ?_⟩⟩⟩⟩; { rw [z] at hl; have : h 454 125 = 0 := hl.1; omega }; { rw [jst_ne (by decide), Q19 _ (by omega) (by omega)]; have := O5 i hi; rw [Int.zero_add] at this; exact this }) -- o28 e5.1
            · exact fun a x y1 y2 => by rw [jst_o (by omega), F19 _ _ (by omega)]; exact F18 a x y1 (by omega) -- o29 e5.2
            · (rw [jst_ni (by decide), F19 _ _ (by omega)]; exact Z18) -- o30 e5.3
  · skip
    try simp (disch := omega) only [jst_eq, jst_ne, jst_ni, jI_i, jcmp_lt, jcmp_gt, w32_id, jcpy_out, Sum.elim_inl, Sum.elim_inr, jt2, jt3, jt4, jt5, jt6, jt7, jt8] at c1
    refine OK_some ?_
    try dsimp only [Sum.elim_inl, Sum.elim_inr, jt2, jt3, jt4, jt5, jt6, jt7, jt8]
    try dsimp only [Sum.elim_inl, Sum.elim_inr, jt2, jt3, jt4, jt5, jt6, jt7, jt8]
    refine ⟨?_, ?_, ?_⟩
    · exact Or.inl ⟨by omega, rfl, dh1⟩ -- o31 e6.1
    · exact fun a x y1 y2 => F3 a x (by omega) -- o32 e6.2
    · (rw [dh1, jst_eq]) -- o33 e6.3

