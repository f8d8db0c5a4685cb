/-! x: a cheaper term -/
theorem vX1_isLikeNow_l4 (i1 : Int) (a20 : Int) (a30 : Int) {h : AH} {pts : Int} {x u : Int → Int} (b : h (h 200 16) 18 = pts ∧ 0 ≤ pts ∧ pts ≤ 256 ∧ 0 ≤ i1 ∧ i1 < 121) (cc : ∀ p, 0 ≤ p → p < pts → h 312 (256 * i1 + p) = x p ∧ h 323 p = u p) (z : a20 = 1 ∧ a30 = 0) : OK (gX1_isLikeNow_l4 i1 a20 a30 h) (fun v => (v = 1 ∧ eqV pts x u) ∨ (v = 0 ∧ ¬ eqV pts x u)) := by
  unfold gX1_isLikeNow_l4
  refine OK_jit (I := (fun (s : Int × Int) => jt2 s fun a2 a3 => (0 ≤ a3 ∧ a3 ≤ pts ∧ (a2 = 0 ∨ a2 = 1)) ∧ (a2 = 1 → ∀ p, 0 ≤ p → p < a3 → x p = u p) ∧ (a2 = 0 → ¬ eqV pts x u))) (m := (fun (s : Int × Int) => jt2 s fun a2 a3 => (pts - a3).toNat)) ?_ ?_
  · intro s hs
    obtain ⟨a2, a3⟩ := s
    dsimp only [Sum.elim_inl, Sum.elim_inr, jt2, jt3, jt4, jt5, jt6, jt7, jt8] at hs
    obtain ⟨q0, q1, q2⟩ := hs
    unfold gX1_isLikeNow_b4
    refine OK_jt2 ?_
    have e31 : w32 (i1 * 256) = 256 * i1 := by { rw [w32_id (by omega) (by omega)]; omega }
    have iw : a3 < 256 → w32 (w32 (i1 * 256) + a3) = 256 * i1 + a3 := fun y => by { rw [e31, w32_id (by omega) (by omega)] }
    have im : i1 * 256 = 256 * i1 := Int.mul_comm _ _
    refine OK_if (fun c1 => ?_) (fun c1 => ?_)
    · skip
      try simp (disch := omega) only [jst_eq, jst_ne, jst_ni, jI_i, jcmp_lt, jcmp_gt, w32_id, jcpy_out, Sum.elim_inl, Sum.elim_inr, jt2, jt3, jt4, jt5, jt6, jt7, jt8] at c1
      refine OK_ir ?_
      (rcases q0.2.2 with y | y; { exact .inr ⟨y, q2 y⟩ }; { exact .inl ⟨y, fun p p0 p1 => q1 y p p0 (by omega)⟩ }) -- o1 e1
    · skip
      try simp (disch := omega) only [jst_eq, jst_ne, jst_ni, jI_i, jcmp_lt, jcmp_gt, w32_id, jcpy_out, Sum.elim_inl, Sum.elim_inr, jt2, jt3, jt4, jt5, jt6, jt7, jt8] at c1
      refine OK_if (fun c2 => ?_) (fun c2 => ?_)
      · skip
        try simp (disch := omega) only [jst_eq, jst_ne, jst_ni, jI_i, jcmp_lt, jcmp_gt, w32_id, jcpy_out, Sum.elim_inl, Sum.elim_inr, jt2, jt3, jt4, jt5, jt6, jt7, jt8] at c2
        refine OK_ir ?_
        exact .inr ⟨c2, q2 c2⟩ -- o2 e2
      · skip
        try simp (disch := omega) only [jst_eq, jst_ne, jst_ni, jI_i, jcmp_lt, jcmp_gt, w32_id, jcpy_out, Sum.elim_inl, Sum.elim_inr, jt2, jt3, jt4, jt5, jt6, jt7, jt8] at c2
        have iw2 := iw (by omega)
        have ck := cc a3 q0.1 (by omega)
        refine OK_jg (by (first | assumption | omega | ((try dsimp only [jt2, jt3, jt4]); first | omega | (simp (disch := omega) only [jst_eq, jst_ne, jst_ni, jst_o, jI_i, jcpy_out, w32_id, jdiv_nn, jshr_k, jand_255] <;> first | done | omega | assumption)) | (intros; simp (disch := omega) only [jst_eq, jst_ne, jst_ni, jst_o, jI_i, jcpy_out, w32_id, jdiv_nn, *] <;> first | done | omega) | (intros; simp (disch := omega) only [jst_eq, jst_ne, jst_ni, jst_o, jI_i, jcpy_out, w32_id, jdiv_nn] at * <;> first | done | omega | assumption) | (intros; first | rfl | (exfalso; omega) | ((repeat' apply And.intro) <;> first | assumption | rfl | omega | trivial)))) ?_ -- o3
        refine OK_jg (by (first | assumption | omega | ((try dsimp only [jt2, jt3, jt4]); first | omega | (simp (disch := omega) only [jst_eq, jst_ne, jst_ni, jst_o, jI_i, jcpy_out, w32_id, jdiv_nn, jshr_k, jand_255] <;> first | done | omega | assumption)) | (intros; simp (disch := omega) only [jst_eq, jst_ne, jst_ni, jst_o, jI_i, jcpy_out, w32_id, jdiv_nn, *] <;> first | done | omega) | (intros; simp (disch := omega) only [jst_eq, jst_ne, jst_ni, jst_o, jI_i, jcpy_out, w32_id, jdiv_nn] at * <;> first | done | omega | assumption) | (intros; first | rfl | (exfalso; omega) | ((repeat' apply And.intro) <;> first | assumption | rfl | omega | trivial)))) ?_ -- o4
        refine OK_if (fun c3 => ?_) (fun c3 => ?_)
        · skip
          try simp (disch := omega) only [jst_eq, jst_ne, jst_ni, jI_i, jcmp_lt, jcmp_gt, w32_id, jcpy_out, Sum.elim_inl, Sum.elim_inr, jt2, jt3, jt4, jt5, jt6, jt7, jt8] at c3
          have cx : x a3 = u a3 := by { rw [← ck.1, ← ck.2, ← im]; exact c3 }
          unfold gX1_isLikeNow_j48_4
          refine OK_jlx (fun x6 ex6 => ?_)
          try simp (disch := omega) only [jst_eq, jst_ne, jst_ni, jI_i, jcmp_lt, jcmp_gt, w32_id, jcpy_out, Sum.elim_inl, Sum.elim_inr, jt2, jt3, jt4, jt5, jt6, jt7, jt8] at ex6
          refine OK_il ?_ ?_
          · try dsimp only [Sum.elim_inl, Sum.elim_inr, jt2, jt3, jt4, jt5, jt6, jt7, jt8]
            refine ⟨?_, ?_, ?_⟩
            · (first | assumption | omega | ((try dsimp only [jt2, jt3, jt4]); first | omega | (simp (disch := omega) only [jst_eq, jst_ne, jst_ni, jst_o, jI_i, jcpy_out, w32_id, jdiv_nn, jshr_k, jand_255] <;> first | done | omega | assumption)) | (intros; simp (disch := omega) only [jst_eq, jst_ne, jst_ni, jst_o, jI_i, jcpy_out, w32_id, jdiv_nn, *] <;> first | done | omega) | (intros; simp (disch := omega) only [jst_eq, jst_ne, jst_ni, jst_o, jI_i, jcpy_out, w32_id, jdiv_nn] at * <;> first | done | omega | assumption) | (intros; first | rfl | (exfalso; omega) | ((repeat' apply And.intro) <;> first | assumption | rfl | omega | trivial))) -- o5 e3i.1
            · (intro _ p p0 p1; by_cases y : p = a3; { rw [y]; exact cx }; { exact q1 (by omega) p p0 (by omega) }) -- o6 e3i.2
            · (intro y; exfalso; omega) -- o7 e3i.3
          · (first | assumption | omega | ((try dsimp only [jt2, jt3, jt4]); first | omega | (simp (disch := omega) only [jst_eq, jst_ne, jst_ni, jst_o, jI_i, jcpy_out, w32_id, jdiv_nn, jshr_k, jand_255] <;> first | done | omega | assumption)) | (intros; simp (disch := omega) only [jst_eq, jst_ne, jst_ni, jst_o, jI_i, jcpy_out, w32_id, jdiv_nn, *] <;> first | done | omega) | (intros; simp (disch := omega) only [jst_eq, jst_ne, jst_ni, jst_o, jI_i, jcpy_out, w32_id, jdiv_nn] at * <;> first | done | omega | assumption) | (intros; first | rfl | (exfalso; omega) | ((repeat' apply And.intro) <;> first | assumption | rfl | omega | trivial))) -- o8 e3m
        · skip
          try simp (disch := omega) only [jst_eq, jst_ne, jst_ni, jI_i, jcmp_lt, jcmp_gt, w32_id, jcpy_out, Sum.elim_inl, Sum.elim_inr, jt2, jt3, jt4, jt5, jt6, jt7, jt8] at c3
          have cx : ¬ x a3 = u a3 := by { rw [← ck.1, ← ck.2, ← im]; exact c3 }
          unfold gX1_isLikeNow_j48_4
          refine OK_jlx (fun x6 ex6 => ?_)
          try simp (disch := omega) only [jst_eq, jst_ne, jst_ni, jI_i, jcmp_lt, jcmp_gt, w32_id, jcpy_out, Sum.elim_inl, Sum.elim_inr, jt2, jt3, jt4, jt5, jt6, jt7, jt8] at ex6
          refine OK_il ?_ ?_
          · try dsimp only [Sum.elim_inl, Sum.elim_inr, jt2, jt3, jt4, jt5, jt6, jt7, jt8]
            refine ⟨?_, ?_, ?_⟩
            · (first | assumption | omega | ((try dsimp only [jt2, jt3, jt4]); first | omega | (simp (disch := omega) only [jst_eq, jst_ne, jst_ni, jst_o, jI_i, jcpy_out, w32_id, jdiv_nn, jshr_k, jand_255] <;> first | done | omega | assumption)) | (intros; simp (disch := omega) only [jst_eq, jst_ne, jst_ni, jst_o, jI_i, jcpy_out, w32_id, jdiv_nn, *] <;> first | done | omega) | (intros; simp (disch := omega) only [jst_eq, jst_ne, jst_ni, jst_o, jI_i, jcpy_out, w32_id, jdiv_nn] at * <;> first | done | omega | assumption) | (intros; first | rfl | (exfalso; omega) | ((repeat' apply And.intro) <;> first | assumption | rfl | omega | trivial))) -- o9 e4i.1
            · (intro y; exfalso; omega) -- o10 e4i.2
            · (intro _ y; exact cx (y a3 q0.1 (by omega))) -- o11 e4i.3
          · (first | assumption | omega | ((try dsimp only [jt2, jt3, jt4]); first | omega | (simp (disch := omega) only [jst_eq, jst_ne, jst_ni, jst_o, jI_i, jcpy_out, w32_id, jdiv_nn, jshr_k, jand_255] <;> first | done | omega | assumption)) | (intros; simp (disch := omega) only [jst_eq, jst_ne, jst_ni, jst_o, jI_i, jcpy_out, w32_id, jdiv_nn, *] <;> first | done | omega) | (intros; simp (disch := omega) only [jst_eq, jst_ne, jst_ni, jst_o, jI_i, jcpy_out, w32_id, jdiv_nn] at * <;> first | done | omega | assumption) | (intros; first | rfl | (exfalso; omega) | ((repeat' apply And.intro) <;> first | assumption | rfl | omega | trivial))) -- o12 e4m
  · try dsimp only [Sum.elim_inl, Sum.elim_inr, jt2, jt3, jt4, jt5, jt6, jt7, jt8]
    refine ⟨?_, ?_, ?_⟩
    · (first | assumption | omega | ((try dsimp only [jt2, jt3, jt4]); first | omega | (simp (disch := omega) only [jst_eq, jst_ne, jst_ni, jst_o, jI_i, jcpy_out, w32_id, jdiv_nn, jshr_k, jand_255] <;> first | done | omega | assumption)) | (intros; simp (disch := omega) only [jst_eq, jst_ne, jst_ni, jst_o, jI_i, jcpy_out, w32_id, jdiv_nn, *] <;> first | done | omega) | (intros; simp (disch := omega) only [jst_eq, jst_ne, jst_ni, jst_o, jI_i, jcpy_out, w32_id, jdiv_nn] at * <;> first | done | omega | assumption) | (intros; first | rfl | (exfalso; omega) | ((repeat' apply And.intro) <;> first | assumption | rfl | omega | trivial))) -- o13 init.1
    · (intro _ p p0 p1; omega) -- o14 init.2
    · (intro y; exfalso; omega) -- o15 init.3
theorem vX1_isLikeNow (a1 : Int) {h : AH} {pts : Int} {x u : Int → Int} (b : h (h 200 16) 18 = pts ∧ 0 ≤ pts ∧ pts ≤ 256 ∧ 0 ≤ a1 ∧ a1 < 121) (cc : ∀ p, 0 ≤ p → p < pts → h 312 (256 * a1 + p) = x p ∧ h 323 p = u p) : OK (gX1_isLikeNow a1 h) (fun v => (v = 1 ∧ eqV pts x u) ∨ (v = 0 ∧ ¬ eqV pts x u)) := by
  unfold gX1_isLikeNow
  refine OK_jb (vX1_isLikeNow_l4 (x := x) (u := u) _ _ _ (by (first | ((unfold jZ; omega)) | (first | assumption | omega | ((try dsimp only [jt2, jt3, jt4]); first | omega | (simp (disch := omega) only [jst_eq, jst_ne, jst_ni, jst_o, jI_i, jcpy_out, w32_id, jdiv_nn, jshr_k, jand_255] <;> first | done | omega | assumption)) | (intros; simp (disch := omega) only [jst_eq, jst_ne, jst_ni, jst_o, jI_i, jcpy_out, w32_id, jdiv_nn, *] <;> first | done | omega) | (intros; simp (disch := omega) only [jst_eq, jst_ne, jst_ni, jst_o, jI_i, jcpy_out, w32_id, jdiv_nn] at * <;> first | done | omega | assumption) | (intros; first | rfl | (exfalso; omega) | ((repeat' apply And.intro) <;> first | assumption | rfl | omega | trivial))))) (by (first | ((unfold jZ; omega)) | (first | assumption | omega | ((try dsimp only [jt2, jt3, jt4]); first | omega | (simp (disch := omega) only [jst_eq, jst_ne, jst_ni, jst_o, jI_i, jcpy_out, w32_id, jdiv_nn, jshr_k, jand_255] <;> first | done | omega | assumption)) | (intros; simp (disch := omega) only [jst_eq, jst_ne, jst_ni, jst_o, jI_i, jcpy_out, w32_id, jdiv_nn, *] <;> first | done | omega) | (intros; simp (disch := omega) only [jst_eq, jst_ne, jst_ni, jst_o, jI_i, jcpy_out, w32_id, jdiv_nn] at * <;> first | done | omega | assumption) | (intros; first | rfl | (exfalso; omega) | ((repeat' apply And.intro) <;> first | assumption | rfl | omega | trivial))))) (by (first | ((unfold jZ; omega)) | (first | assumption | omega | ((try dsimp only [jt2, jt3, jt4]); first | omega | (simp (disch := omega) only [jst_eq, jst_ne, jst_ni, jst_o, jI_i, jcpy_out, w32_id, jdiv_nn, jshr_k, jand_255] <;> first | done | omega | assumption)) | (intros; simp (disch := omega) only [jst_eq, jst_ne, jst_ni, jst_o, jI_i, jcpy_out, w32_id, jdiv_nn, *] <;> first | done | omega) | (intros; simp (disch := omega) only [jst_eq, jst_ne, jst_ni, jst_o, jI_i, jcpy_out, w32_id, jdiv_nn] at * <;> first | done | omega | assumption) | (intros; first | rfl | (exfalso; omega) | ((repeat' apply And.intro) <;> first | assumption | rfl | omega | trivial)))))) (fun o1 r1 => ?_)
  try dsimp only [Sum.elim_inl, Sum.elim_inr, jt2, jt3, jt4, jt5, jt6, jt7, jt8] at r1
  have is1 := r1
  clear r1
  try simp (disch := omega) only [jst_eq, jst_ne, jst_ni, jI_i, jcmp_lt, jcmp_gt, w32_id, jcpy_out, Sum.elim_inl, Sum.elim_inr, jt2, jt3, jt4, jt5, jt6, jt7, jt8] at is1
  refine OK_jg (by (first | ((unfold jZ; omega)) | (first | assumption | omega | ((try dsimp only [jt2, jt3, jt4]); first | omega | (simp (disch := omega) only [jst_eq, jst_ne, jst_ni, jst_o, jI_i, jcpy_out, w32_id, jdiv_nn, jshr_k, jand_255] <;> first | done | omega | assumption)) | (intros; simp (disch := omega) only [jst_eq, jst_ne, jst_ni, jst_o, jI_i, jcpy_out, w32_id, jdiv_nn, *] <;> first | done | omega) | (intros; simp (disch := omega) only [jst_eq, jst_ne, jst_ni, jst_o, jI_i, jcpy_out, w32_id, jdiv_nn] at * <;> first | done | omega | assumption) | (intros; first | rfl | (exfalso; omega) | ((repeat' apply And.intro) <;> first | assumption | rfl | omega | trivial))))) ?_ -- o4
  refine OK_some ?_
  try dsimp only [Sum.elim_inl, Sum.elim_inr, jt2, jt3, jt4, jt5, jt6, jt7, jt8]
  (first | ((unfold jZ; omega)) | (first | assumption | omega | ((try dsimp only [jt2, jt3, jt4]); first | omega | (simp (disch := omega) only [jst_eq, jst_ne, jst_ni, jst_o, jI_i, jcpy_out, w32_id, jdiv_nn, jshr_k, jand_255] <;> first | done | omega | assumption)) | (intros; simp (disch := omega) only [jst_eq, jst_ne, jst_ni, jst_o, jI_i, jcpy_out, w32_id, jdiv_nn, *] <;> first | done | omega) | (intros; simp (disch := omega) only [jst_eq, jst_ne, jst_ni, jst_o, jI_i, jcpy_out, w32_id, jdiv_nn] at * <;> first | done | omega | assumption) | (intros; first | rfl | (exfalso; omega) | ((repeat' apply And.intro) <;> first | assumption | rfl | omega | trivial)))) -- o5 e1
theorem vX1_cheaper_l85 (i1 : Int) (a30 : Int) {h : AH} {N o k pts : Int} {kd wt hd : Int → Int} {op vl : Int → Int → Int} {u : Int → Int} (t : tbX h N kd wt hd op vl pts) (i : 0 ≤ i1 ∧ i1 < 2200 ∧ h 327 i1 = k) (cc : ∀ p, 0 ≤ p → p < pts → h 323 p = u p) (o0 : 0 ≤ o ∧ o < N ∧ kd o = k ∧ eqV pts (vl o) u) (ob : ∀ b, 0 ≤ b → b < o → ¬ (kd b = k ∧ eqV pts (vl b) u)) (z : a30 = 0) : OK (gX1_cheaper_l85 i1 a30 h) (fun v => v = o) := by
  unfold gX1_cheaper_l85
  refine OK_jit (I := (fun (a3 : Int) => 0 ≤ a3 ∧ a3 ≤ o)) (m := (fun (a3 : Int) => (o - a3).toNat)) ?_ ?_
  · intro a3 hs
    try dsimp only at hs
    have q0 := hs; clear hs
    unfold gX1_cheaper_b85
    obtain ⟨t1, t2, t3, t4, t5, t6, t7, t8⟩ := t
    obtain ⟨r1, r2, r3, r4, r5, r6⟩ := t8 a3 q0.1 (by omega)
    have w25 : w32 (a3 + 1) = a3 + 1 := w32_id (by omega) (by omega)
    refine OK_jg (by (first | assumption | omega | ((try dsimp only [jt2, jt3, jt4]); first | omega | (simp (disch := omega) only [jst_eq, jst_ne, jst_ni, jst_o, jI_i, jcpy_out, w32_id, jdiv_nn, jshr_k, jand_255] <;> first | done | omega | assumption)) | (intros; simp (disch := omega) only [jst_eq, jst_ne, jst_ni, jst_o, jI_i, jcpy_out, w32_id, jdiv_nn, *] <;> first | done | omega) | (intros; simp (disch := omega) only [jst_eq, jst_ne, jst_ni, jst_o, jI_i, jcpy_out, w32_id, jdiv_nn] at * <;> first | done | omega | assumption) | (intros; first | rfl | (exfalso; omega) | ((repeat' apply And.intro) <;> first | assumption | rfl | omega | trivial)))) ?_ -- o1
    refine OK_jg (by (first | assumption | omega | ((try dsimp only [jt2, jt3, jt4]); first | omega | (simp (disch := omega) only [jst_eq, jst_ne, jst_ni, jst_o, jI_i, jcpy_out, w32_id, jdiv_nn, jshr_k, jand_255] <;> first | done | omega | assumption)) | (intros; simp (disch := omega) only [jst_eq, jst_ne, jst_ni, jst_o, jI_i, jcpy_out, w32_id, jdiv_nn, *] <;> first | done | omega) | (intros; simp (disch := omega) only [jst_eq, jst_ne, jst_ni, jst_o, jI_i, jcpy_out, w32_id, jdiv_nn] at * <;> first | done | omega | assumption) | (intros; first | rfl | (exfalso; omega) | ((repeat' apply And.intro) <;> first | assumption | rfl | omega | trivial)))) ?_ -- o2
    refine OK_if (fun c1 => ?_) (fun c1 => ?_)
    · skip
      try simp (disch := omega) only [jst_eq, jst_ne, jst_ni, jI_i, jcmp_lt, jcmp_gt, w32_id, jcpy_out, Sum.elim_inl, Sum.elim_inr, jt2, jt3, jt4, jt5, jt6, jt7, jt8] at c1
      refine OK_jb (vX1_isLikeNow (x := vl a3) (u := u) _ (by exact ⟨t2, t3, t4, q0.1, by omega⟩) (by exact fun p p0 p1 => ⟨r5 p p0 p1, cc p p0 p1⟩)) (fun v23 r1 => ?_)
      try dsimp only [Sum.elim_inl, Sum.elim_inr, jt2, jt3, jt4, jt5, jt6, jt7, jt8] at r1
      have is1 := r1
      clear r1
      try simp (disch := omega) only [jst_eq, jst_ne, jst_ni, jI_i, jcmp_lt, jcmp_gt, w32_id, jcpy_out, Sum.elim_inl, Sum.elim_inr, jt2, jt3, jt4, jt5, jt6, jt7, jt8] at is1
      have NE : v23 = 0 → a3 ≠ o := fun y e => by { rcases is1 with w | w; { omega }; { rw [e] at w; exact w.2 o0.2.2.2 } }
      have EQ : v23 ≠ 0 → a3 = o := fun y => by { rcases is1 with w | w; { by_cases e : a3 = o; { exact e }; { exact absurd ⟨by omega, w.2⟩ (ob a3 q0.1 (by omega)) } }; { omega } }
      refine OK_if (fun c2 => ?_) (fun c2 => ?_)
      · skip
        try simp (disch := omega) only [jst_eq, jst_ne, jst_ni, jI_i, jcmp_lt, jcmp_gt, w32_id, jcpy_out, Sum.elim_inl, Sum.elim_inr, jt2, jt3, jt4, jt5, jt6, jt7, jt8] at c2
        unfold gX1_cheaper_j114_85
        refine OK_jlx (fun x25 ex25 => ?_)
        try simp (disch := omega) only [jst_eq, jst_ne, jst_ni, jI_i, jcmp_lt, jcmp_gt, w32_id, jcpy_out, Sum.elim_inl, Sum.elim_inr, jt2, jt3, jt4, jt5, jt6, jt7, jt8] at ex25
        refine OK_il ?_ ?_
        · (have := NE c2; omega) -- o5 e1i
        · (have := NE c2; omega) -- o6 e1m
      · skip
        try simp (disch := omega) only [jst_eq, jst_ne, jst_ni, jI_i, jcmp_lt, jcmp_gt, w32_id, jcpy_out, Sum.elim_inl, Sum.elim_inr, jt2, jt3, jt4, jt5, jt6, jt7, jt8] at c2
        refine OK_ir ?_
        exact EQ c2 -- o7 e2
    · skip
      try simp (disch := omega) only [jst_eq, jst_ne, jst_ni, jI_i, jcmp_lt, jcmp_gt, w32_id, jcpy_out, Sum.elim_inl, Sum.elim_inr, jt2, jt3, jt4, jt5, jt6, jt7, jt8] at c1
      have NE : a3 ≠ o := fun e => by { rw [e] at r1; apply c1; rw [e, r1, o0.2.2.1, i.2.2] }
      unfold gX1_cheaper_j114_85
      refine OK_jlx (fun x25 ex25 => ?_)
      try simp (disch := omega) only [jst_eq, jst_ne, jst_ni, jI_i, jcmp_lt, jcmp_gt, w32_id, jcpy_out, Sum.elim_inl, Sum.elim_inr, jt2, jt3, jt4, jt5, jt6, jt7, jt8] at ex25
      refine OK_il ?_ ?_
      · (first | assumption | omega | ((try dsimp only [jt2, jt3, jt4]); first | omega | (simp (disch := omega) only [jst_eq, jst_ne, jst_ni, jst_o, jI_i, jcpy_out, w32_id, jdiv_nn, jshr_k, jand_255] <;> first | done | omega | assumption)) | (intros; simp (disch := omega) only [jst_eq, jst_ne, jst_ni, jst_o, jI_i, jcpy_out, w32_id, jdiv_nn, *] <;> first | done | omega) | (intros; simp (disch := omega) only [jst_eq, jst_ne, jst_ni, jst_o, jI_i, jcpy_out, w32_id, jdiv_nn] at * <;> first | done | omega | assumption) | (intros; first | rfl | (exfalso; omega) | ((repeat' apply And.intro) <;> first | assumption | rfl | omega | trivial))) -- o8 e3i
      · (first | assumption | omega | ((try dsimp only [jt2, jt3, jt4]); first | omega | (simp (disch := omega) only [jst_eq, jst_ne, jst_ni, jst_o, jI_i, jcpy_out, w32_id, jdiv_nn, jshr_k, jand_255] <;> first | done | omega | assumption)) | (intros; simp (disch := omega) only [jst_eq, jst_ne, jst_ni, jst_o, jI_i, jcpy_out, w32_id, jdiv_nn, *] <;> first | done | omega) | (intros; simp (disch := omega) only [jst_eq, jst_ne, jst_ni, jst_o, jI_i, jcpy_out, w32_id, jdiv_nn] at * <;> first | done | omega | assumption) | (intros; first | rfl | (exfalso; omega) | ((repeat' apply And.intro) <;> first | assumption | rfl | omega | trivial))) -- o9 e3m
  · (first | assumption | omega | ((try dsimp only [jt2, jt3, jt4]); first | omega | (simp (disch := omega) only [jst_eq, jst_ne, jst_ni, jst_o, jI_i, jcpy_out, w32_id, jdiv_nn, jshr_k, jand_255] <;> first | done | omega | assumption)) | (intros; simp (disch := omega) only [jst_eq, jst_ne, jst_ni, jst_o, jI_i, jcpy_out, w32_id, jdiv_nn, *] <;> first | done | omega) | (intros; simp (disch := omega) only [jst_eq, jst_ne, jst_ni, jst_o, jI_i, jcpy_out, w32_id, jdiv_nn] at * <;> first | done | omega | assumption) | (intros; first | rfl | (exfalso; omega) | ((repeat' apply And.intro) <;> first | assumption | rfl | omega | trivial))) -- o10 init
theorem ix_first {pts : Int} {T : TB} {k : Int} {u : Int → Int} (d : dsT pts T) (h : hasT pts T k u) : ∀ b, 0 ≤ b → b < ixT pts T k u → ¬ (T.2.1 b = k ∧ eqV pts (T.2.2.2.2.2 b) u) := fun b b0 b1 y => by
  have q := ixT_h h
  have e := ixT_u d b0 (by omega) y.1 y.2
  omega
/-- what a told term answers at a point -/
noncomputable def evQ (W : Int → Int → Int → VW) (K : AK) (hl : Int → Int) (R : TR) (p : Int) : Int := (evT W (fun _ _ _ => 0) ((kA K).2.2.1 p) hl R).1
noncomputable def ixR (E : EV) (W : Int → Int → Int → VW) (K : AK) (R : TR) : Int := ixT (kP K) (LV E W (kP K) (kA K) (cosT (kA K) R).toNat) (inf R).2.2.1 (evQ W K (fun _ => 0) R)
def chR (E : EV) (W : Int → Int → Int → VW) (K : AK) (R : TR) (v y : Int) : Prop := (¬ (1 ≤ cosT (kA K) R ∧ cosT (kA K) R ≤ 12) ∧ v = -2 ∧ y = -1) ∨ ((1 ≤ cosT (kA K) R ∧ cosT (kA K) R ≤ 12) ∧ ¬ lvK E W (kP K) (kA K) (cosT (kA K) R).toNat ∧ v = -3 ∧ y = -1) ∨ ((1 ≤ cosT (kA K) R ∧ cosT (kA K) R ≤ 12) ∧ lvK E W (kP K) (kA K) (cosT (kA K) R).toNat ∧ 0 ≤ y ∧ y = ixR E W K R ∧ v = (LV E W (kP K) (kA K) (cosT (kA K) R).toNat).2.2.1 y)
/-- the term of a cheaper function -/
noncomputable def chT (E : EV) (W : Int → Int → Int → VW) (K : AK) (R : TR) : TR := tm (kA K) (LV E W (kP K) (kA K) (cosT (kA K) R).toNat) (ixR E W K R)
def outCh (E EP : EV) (W : Int → Int → Int → VW) (K : AK) (th : Prop) (P : Int ⊕ TR) (p0 v p1 y : Int) (fd : TR → Prop) : Prop := match P with
  | .inl z => v = -11 ∧ p1 = z ∧ y = -1
  | .inr t => (keyE EP (-1) t = 1000000 → p1 = p0 ∧ (¬ th → v = -2 ∧ y = -1) ∧ (th → chR E W K (rsE EP t 0) v y ∧ (0 ≤ y → fd (chT E W K (rsE EP t 0))))) ∧ (keyE EP (-1) t ≠ 1000000 → v = -10 - keyE EP (-1) t % 8 ∧ p1 = keyE EP (-1) t / 8 ∧ y = -1)
/-- a reading that succeeds -/
theorem outX_ok {EP : EV} {w : Int} {P : Int ⊕ TR} {p0 v : Int} {h' : AH} (o : outX EP w P p0 v h') (v0 : 0 ≤ v) : ∃ t, P = .inr t ∧ keyE EP w t = 1000000 ∧ v = 0 ∧ rXc h' 324 (rsE EP t 0) 0 0 1 ∧ h' 324 0 = sz t ∧ h' 441 16 = hlT t ∧ h' 200 56 = p0 := by
  cases P with
  | inl z => have := o.1; omega
  | inr t =>
    have o1 := o.1
    have o2 := o.2
    by_cases k : keyE EP w t = 1000000
    · obtain ⟨a, b, c, d, e⟩ := o1 k
      exact ⟨t, rfl, k, a, b, c, d, e⟩
    · have := o2 k; omega
theorem outX_ng {EP : EV} {w : Int} {P : Int ⊕ TR} {p0 v : Int} {h' : AH} (o : outX EP w P p0 v h') (v0 : ¬ 0 ≤ v) : (∃ z, P = .inl z ∧ v = -11 ∧ h' 200 56 = z) ∨ (∃ t, P = .inr t ∧ keyE EP w t ≠ 1000000 ∧ v = -10 - keyE EP w t % 8 ∧ h' 200 56 = keyE EP w t / 8) := by
  cases P with
  | inl z => exact .inl ⟨z, rfl, o⟩
  | inr t =>
    have o1 := o.1
    have o2 := o.2
    by_cases k : keyE EP w t = 1000000
    · have := (o1 k).1; omega
    · exact .inr ⟨t, rfl, k, (o2 k).1, (o2 k).2.1⟩
theorem outCh_ng {E EP : EV} {W : Int → Int → Int → VW} {K : AK} {th : Prop} {P : Int ⊕ TR} {p0 v : Int} {h' : AH} {fd : TR → Prop} (o : outX EP (-1) P p0 v h') (v0 : ¬ 0 ≤ v) : outCh E EP W K th P p0 v (h' 200 56) (-1) fd := by
  rcases outX_ng o v0 with ⟨z, e, o1⟩ | ⟨t, e, k, o1⟩
  · subst e; exact ⟨o1.1, o1.2, rfl⟩
  · subst e; exact ⟨fun y => absurd y k, fun _ => ⟨o1.1, o1.2, rfl⟩⟩
/-- what reading and looking change -/
def fRd (h h' : AH) : Prop := ∀ a s, ¬ (a = 200 ∧ (s = 9 ∨ s = 10 ∨ s = 11 ∨ s = 12 ∨ s = 14 ∨ s = 15 ∨ s = 55 ∨ s = 56 ∨ s = 58)) → ¬ ((a = 269 ∨ a = 270) ∧ 0 ≤ s) → ¬ (307 ≤ a ∧ a ≤ 329 ∧ 0 ≤ s) → ¬ (a = 441 ∧ 0 ≤ s ∧ s ≤ 18) → ¬ ((a = 442 ∨ a = 444) ∧ 0 ≤ s ∧ s < 3) → ¬ ((a = 340 ∨ a = 445) ∧ 0 ≤ s) → h' a s = h a s
theorem fRd_r (h : AH) : fRd h h := fun _ _ _ _ _ _ _ _ => rfl
theorem fRd_t {h h1 h2 : AH} (x : fRd h h1) (y : fRd h1 h2) : fRd h h2 := fun a s z1 z2 z3 z4 z5 z6 => (y a s z1 z2 z3 z4 z5 z6).trans (x a s z1 z2 z3 z4 z5 z6)
theorem frXr_Rd {h h' : AH} (f : frXr h h') : fRd h h' := fun a s y1 y2 y3 y4 y5 y6 => f a s (by omega) (by omega) (by omega) y4 y5 (by omega)
theorem fS_Rd {h h' : AH} (f : fS h h') : fRd h h' := fun a s y1 y2 y3 y4 y5 y6 => f a s (by omega) (by omega) (by omega) (by omega)
/-- .. and finding -/
def fRf (h h' : AH) : Prop := ∀ a s, ¬ (a = 200 ∧ (s = 9 ∨ s = 10 ∨ s = 11 ∨ s = 12 ∨ s = 14 ∨ s = 15 ∨ s = 22 ∨ s = 23 ∨ s = 26 ∨ s = 27 ∨ s = 29 ∨ s = 31 ∨ s = 55 ∨ s = 56 ∨ s = 58)) → ¬ ((a = 269 ∨ a = 270) ∧ 0 ≤ s) → ¬ (307 ≤ a ∧ a ≤ 339 ∧ 0 ≤ s) → ¬ (a = 441 ∧ 0 ≤ s ∧ s ≤ 18) → ¬ ((a = 442 ∨ a = 444) ∧ 0 ≤ s ∧ s < 3) → ¬ ((a = 340 ∨ a = 445) ∧ 0 ≤ s) → h' a s = h a s
theorem fRd_F {h h1 h2 : AH} (x : fRd h h1) (y : fB h1 h2) : fRf h h2 := fun a s z1 z2 z3 z4 z5 z6 => (y a s (by omega) (by omega) (by omega) (by omega)).trans (x a s (by omega) z2 (by omega) z4 z5 z6)
theorem fRd_BF {h h1 h2 : AH} (x : fRd h h1) (y : fBF h1 h2) : fRf h h2 := fun a s z1 z2 z3 z4 z5 z6 => (y a s (by omega) (by omega) (by omega) (by omega)).trans (x a s (by omega) z2 (by omega) z4 z5 z6)
theorem frXr_A {h h' : AH} (f : frXr h h') : agX h h' := fun a s y => by
  unfold nA at y
  exact f a s (by omega) (by omega) (by omega) (by omega) (by omega) (by omega)
theorem frXr_S {h h' : AH} (f : frXr h h') : agS h h' := fun a s y => by
  unfold sA at y
  exact f a s (by omega) (by omega) (by omega) (by omega) (by omega) (by omega)
theorem f323_A {h h' : AH} {pts : Int} (f : fr323 pts h h') (p0 : 0 ≤ pts) : (∀ a s, ¬ (a = 200 ∧ (s = 9 ∨ s = 10)) → ¬ (a = 269 ∧ 0 ≤ s) → ¬ (a = 323 ∧ 0 ≤ s) → h' a s = h a s) := fun a s y1 y2 y3 => f a s y1 y2 (by omega)

