/-! m: a function is of an operand's kind -/
theorem vX14_isOf (a1 : Int) (a2 : Int) (a3 : Int) {h : AH} {E : EV} {N pts : Int} {kd wt nd : Int → Int} {vl : Int → Int → Int} (t : tbN h N kd wt nd vl pts) (e : actM h E) (a : 0 ≤ a1 ∧ a1 < N ∧ 0 ≤ a2 ∧ a2 < E.1.1 ∧ 0 ≤ a3 ∧ a3 < E.1.2.2.1 a2) (k : 0 ≤ kd a1 ∧ kd a1 ≤ 2 ∧ 0 ≤ E.1.2.2.2.2 a2 a3 ∧ E.1.2.2.2.2 a2 a3 ≤ 2) : OK (gX14_isOf a1 a2 a3 h) (fun v => (v = 0 ∧ ¬ kd a1 = E.1.2.2.2.2 a2 a3) ∨ (v = 1 ∧ kd a1 = E.1.2.2.2.2 a2 a3)) := by
  obtain ⟨t1, t2, t3, t4, t6, t7, t8⟩ := t
  have xx : h 454 38 = 476 ∨ h 454 38 = 615 := t1
  have T8 := (t8 a1 a.1 a.2.1).1
  obtain ⟨e1, e2, e3, e4⟩ := e
  have E4 := e4 a2 a.2.2.1 a.2.2.2.1
  have o3 := E4.2.2.2.1
  have E5 := E4.2.2.2.2.1 a3 a.2.2.2.2.1 a.2.2.2.2.2
  have w1 : w32 (3 * a2) = 3 * a2 := w32_id (by omega) (by omega)
  have w2 : w32 (3 * a2 + a3) = 3 * a2 + a3 := w32_id (by omega) (by omega)
  unfold gX14_isOf
  refine OK_jg (by (first | assumption | omega | ((try dsimp only [jt2, jt3, jt4]); first | omega | (simp (disch := omega) only [jst_eq, jst_ne, jst_ni, jst_o, jI_i, jcpy_out, w32_id, jdiv_nn, jshr_k, jand_255] <;> first | done | omega | assumption)) | (intros; simp (disch := omega) only [jst_eq, jst_ne, jst_ni, jst_o, jI_i, jcpy_out, w32_id, jdiv_nn, *] <;> first | done | omega) | (intros; simp (disch := omega) only [jst_eq, jst_ne, jst_ni, jst_o, jI_i, jcpy_out, w32_id, jdiv_nn] at * <;> first | done | omega | assumption) | (intros; first | rfl | (exfalso; omega) | ((repeat' apply And.intro) <;> first | assumption | rfl | omega | trivial)))) ?_ -- o1
  refine OK_jg (by (first | assumption | omega | ((try dsimp only [jt2, jt3, jt4]); first | omega | (simp (disch := omega) only [jst_eq, jst_ne, jst_ni, jst_o, jI_i, jcpy_out, w32_id, jdiv_nn, jshr_k, jand_255] <;> first | done | omega | assumption)) | (intros; simp (disch := omega) only [jst_eq, jst_ne, jst_ni, jst_o, jI_i, jcpy_out, w32_id, jdiv_nn, *] <;> first | done | omega) | (intros; simp (disch := omega) only [jst_eq, jst_ne, jst_ni, jst_o, jI_i, jcpy_out, w32_id, jdiv_nn] at * <;> first | done | omega | assumption) | (intros; first | rfl | (exfalso; omega) | ((repeat' apply And.intro) <;> first | assumption | rfl | omega | trivial)))) ?_ -- o2
  refine OK_jg (by (first | assumption | omega | ((try dsimp only [jt2, jt3, jt4]); first | omega | (simp (disch := omega) only [jst_eq, jst_ne, jst_ni, jst_o, jI_i, jcpy_out, w32_id, jdiv_nn, jshr_k, jand_255] <;> first | done | omega | assumption)) | (intros; simp (disch := omega) only [jst_eq, jst_ne, jst_ni, jst_o, jI_i, jcpy_out, w32_id, jdiv_nn, *] <;> first | done | omega) | (intros; simp (disch := omega) only [jst_eq, jst_ne, jst_ni, jst_o, jI_i, jcpy_out, w32_id, jdiv_nn] at * <;> first | done | omega | assumption) | (intros; first | rfl | (exfalso; omega) | ((repeat' apply And.intro) <;> first | assumption | rfl | omega | trivial)))) ?_ -- o3
  refine OK_if (fun c1 => ?_) (fun c1 => ?_)
  · skip
    try simp (disch := omega) only [jst_eq, jst_ne, jst_ni, jI_i, jcmp_lt, jcmp_gt, w32_id, jcpy_out, Sum.elim_inl, Sum.elim_inr, jt2, jt3, jt4, jt5, jt6, jt7, jt8] at c1
    have ck : kch (kd a1) = kch (E.1.2.2.2.2 a2 a3) := by { rw [← T8, ← E5]; first | exact c1 | (rw [w1, w2] at c1; exact c1) }
    refine OK_some ?_
    try dsimp only [Sum.elim_inl, Sum.elim_inr, jt2, jt3, jt4, jt5, jt6, jt7, jt8]
    exact Or.inr ⟨rfl, kch_ij ⟨k.1, k.2.1⟩ k.2.2 ck⟩ -- o4 e1
  · skip
    try simp (disch := omega) only [jst_eq, jst_ne, jst_ni, jI_i, jcmp_lt, jcmp_gt, w32_id, jcpy_out, Sum.elim_inl, Sum.elim_inr, jt2, jt3, jt4, jt5, jt6, jt7, jt8] at c1
    have ck : ¬ kch (kd a1) = kch (E.1.2.2.2.2 a2 a3) := by { rw [← T8, ← E5]; first | exact c1 | (rw [w1, w2] at c1; exact c1) }
    refine OK_some ?_
    try dsimp only [Sum.elim_inl, Sum.elim_inr, jt2, jt3, jt4, jt5, jt6, jt7, jt8]
    exact Or.inl ⟨rfl, fun y => ck (by rw [y])⟩ -- o5 e2

