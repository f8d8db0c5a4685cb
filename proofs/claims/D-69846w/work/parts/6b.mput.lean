/-! m: a function is put into the table, whole -/
def frQ (X N pts : Int) (h h' : AH) : Prop := ∀ a s, ¬ (a = 454 ∧ s = 40) → ¬ ((a = X + 12 ∨ a = X + 13 ∨ a = X + 14 ∨ a = X + 15) ∧ s = N) → ¬ (a = X + 17 + N ∧ 0 ≤ s ∧ s < pts) → h' a s = h a s
theorem tbN_add {h h' : AH} {N pts k w d : Int} {kd wt nd : Int → Int} {vl : Int → Int → Int} {u : Int → Int} (t : tbN h N kd wt nd vl pts) (hn : hsN h N vl pts) (n : N ≤ 120) (f : frQ (h 454 38) N pts h h') (e1 : h' (h 454 38 + 12) N = kch k) (e2 : h' (h 454 38 + 14) N = w) (e3 : h' (h 454 38 + 13) N = d) (e5 : ∀ p, 0 ≤ p → p < pts → h' (h 454 38 + 17 + N) p = u p) (e6 : h' (h 454 38 + 15) N = hsT u 1 pts.toNat) : tbN h' (N + 1) (up1 kd N k) (up1 wt N w) (up1 nd N d) (up1 vl N u) pts ∧ hsN h' (N + 1) (up1 vl N u) pts := by
  obtain ⟨t1, t2, t3, t4, t6, t7, t8⟩ := t
  have x : h 454 38 = 476 ∨ h 454 38 = 615 := t1
  have e : h' 454 38 = h 454 38 := f _ _ (by omega) (by omega) (by omega)
  unfold tbN hsN
  rw [e]
  refine ⟨⟨t1, by rw [f _ _ (by omega) (by omega) (by omega)]; exact t2, t3, t4, by omega, by omega, fun a a0 a1 => ?_⟩, fun a a0 a1 => ?_⟩
  · by_cases y : a = N
    · rw [y, up1_e, up1_e, up1_e, up1_e]
      exact ⟨e1, e2, e3, e5⟩
    · rw [up1_o y, up1_o y, up1_o y, up1_o y]
      obtain ⟨c1, c2, c3, c4⟩ := t8 a a0 (by omega)
      refine ⟨?_, ?_, ?_, fun p p0 p1 => ?_⟩
      · rw [f _ _ (by omega) (by omega) (by omega)]; exact c1
      · rw [f _ _ (by omega) (by omega) (by omega)]; exact c2
      · rw [f _ _ (by omega) (by omega) (by omega)]; exact c3
      · rw [f _ _ (by omega) (by omega) (by omega)]; exact c4 p p0 p1
  · by_cases y : a = N
    · rw [y, up1_e]; exact e6
    · rw [up1_o y, f _ _ (by omega) (by omega) (by omega)]; exact hn a a0 (by omega)
theorem vX14_put (a1 : Int) (a2 : Int) {h : AH} {N pts k : Int} {kd wt nd : Int → Int} {vl : Int → Int → Int} {u : Int → Int} (t : tbN h N kd wt nd vl pts) (hn : hsN h N vl pts) (n : h 454 40 = N ∧ N ≤ 120) (cc : ∀ p, 0 ≤ p → p < pts → h 754 p = u p) (i : a2 = kch k ∧ 0 ≤ a1 ∧ a1 < 8800) : OK (gX14_put a1 a2 h) (fun h' => (tbN h' (N + 1) (up1 kd N k) (up1 wt N (h 469 a1)) (up1 nd N a1) (up1 vl N u) pts ∧ hsN h' (N + 1) (up1 vl N u) pts) ∧ (frQ (h 454 38) N pts h h' ∧ h' 454 40 = N + 1)) := by
  obtain ⟨t1, t2, t3, t4, t6, t7, t8⟩ := t
  have t : tbN h N kd wt nd vl pts := ⟨t1, t2, t3, t4, t6, t7, t8⟩
  have xx : h 454 38 = 476 ∨ h 454 38 = 615 := t1
  have n1 := n.1
  unfold gX14_put
  refine OK_jg (by (first | assumption | omega | ((try dsimp only [jt2, jt3, jt4]); first | omega | (simp (disch := omega) only [jst_eq, jst_ne, jst_ni, jst_o, jI_i, jcpy_out, w32_id, jdiv_nn, jshr_k, jand_255] <;> first | done | omega | assumption)) | (intros; simp (disch := omega) only [jst_eq, jst_ne, jst_ni, jst_o, jI_i, jcpy_out, w32_id, jdiv_nn, *] <;> first | done | omega) | (intros; simp (disch := omega) only [jst_eq, jst_ne, jst_ni, jst_o, jI_i, jcpy_out, w32_id, jdiv_nn] at * <;> first | done | omega | assumption) | (intros; first | rfl | (exfalso; omega) | ((repeat' apply And.intro) <;> first | assumption | rfl | omega | trivial)))) ?_ -- o1
  refine OK_jg (by (first | assumption | omega | ((try dsimp only [jt2, jt3, jt4]); first | omega | (simp (disch := omega) only [jst_eq, jst_ne, jst_ni, jst_o, jI_i, jcpy_out, w32_id, jdiv_nn, jshr_k, jand_255] <;> first | done | omega | assumption)) | (intros; simp (disch := omega) only [jst_eq, jst_ne, jst_ni, jst_o, jI_i, jcpy_out, w32_id, jdiv_nn, *] <;> first | done | omega) | (intros; simp (disch := omega) only [jst_eq, jst_ne, jst_ni, jst_o, jI_i, jcpy_out, w32_id, jdiv_nn] at * <;> first | done | omega | assumption) | (intros; first | rfl | (exfalso; omega) | ((repeat' apply And.intro) <;> first | assumption | rfl | omega | trivial)))) ?_ -- o2
  refine OK_jl ?_
  refine OK_jg (by (first | assumption | omega | ((try dsimp only [jt2, jt3, jt4]); first | omega | (simp (disch := omega) only [jst_eq, jst_ne, jst_ni, jst_o, jI_i, jcpy_out, w32_id, jdiv_nn, jshr_k, jand_255] <;> first | done | omega | assumption)) | (intros; simp (disch := omega) only [jst_eq, jst_ne, jst_ni, jst_o, jI_i, jcpy_out, w32_id, jdiv_nn, *] <;> first | done | omega) | (intros; simp (disch := omega) only [jst_eq, jst_ne, jst_ni, jst_o, jI_i, jcpy_out, w32_id, jdiv_nn] at * <;> first | done | omega | assumption) | (intros; first | rfl | (exfalso; omega) | ((repeat' apply And.intro) <;> first | assumption | rfl | omega | trivial)))) ?_ -- o3
  refine OK_jg (by (first | assumption | omega | ((try dsimp only [jt2, jt3, jt4]); first | omega | (simp (disch := omega) only [jst_eq, jst_ne, jst_ni, jst_o, jI_i, jcpy_out, w32_id, jdiv_nn, jshr_k, jand_255] <;> first | done | omega | assumption)) | (intros; simp (disch := omega) only [jst_eq, jst_ne, jst_ni, jst_o, jI_i, jcpy_out, w32_id, jdiv_nn, *] <;> first | done | omega) | (intros; simp (disch := omega) only [jst_eq, jst_ne, jst_ni, jst_o, jI_i, jcpy_out, w32_id, jdiv_nn] at * <;> first | done | omega | assumption) | (intros; first | rfl | (exfalso; omega) | ((repeat' apply And.intro) <;> first | assumption | rfl | omega | trivial)))) ?_ -- o4
  refine OK_jl ?_
  refine OK_jg (by (first | assumption | omega | ((try dsimp only [jt2, jt3, jt4]); first | omega | (simp (disch := omega) only [jst_eq, jst_ne, jst_ni, jst_o, jI_i, jcpy_out, w32_id, jdiv_nn, jshr_k, jand_255] <;> first | done | omega | assumption)) | (intros; simp (disch := omega) only [jst_eq, jst_ne, jst_ni, jst_o, jI_i, jcpy_out, w32_id, jdiv_nn, *] <;> first | done | omega) | (intros; simp (disch := omega) only [jst_eq, jst_ne, jst_ni, jst_o, jI_i, jcpy_out, w32_id, jdiv_nn] at * <;> first | done | omega | assumption) | (intros; first | rfl | (exfalso; omega) | ((repeat' apply And.intro) <;> first | assumption | rfl | omega | trivial)))) ?_ -- o5
  refine OK_jg (by (first | assumption | omega | ((try dsimp only [jt2, jt3, jt4]); first | omega | (simp (disch := omega) only [jst_eq, jst_ne, jst_ni, jst_o, jI_i, jcpy_out, w32_id, jdiv_nn, jshr_k, jand_255] <;> first | done | omega | assumption)) | (intros; simp (disch := omega) only [jst_eq, jst_ne, jst_ni, jst_o, jI_i, jcpy_out, w32_id, jdiv_nn, *] <;> first | done | omega) | (intros; simp (disch := omega) only [jst_eq, jst_ne, jst_ni, jst_o, jI_i, jcpy_out, w32_id, jdiv_nn] at * <;> first | done | omega | assumption) | (intros; first | rfl | (exfalso; omega) | ((repeat' apply And.intro) <;> first | assumption | rfl | omega | trivial)))) ?_ -- o6
  refine OK_jg (by (first | assumption | omega | ((try dsimp only [jt2, jt3, jt4]); first | omega | (simp (disch := omega) only [jst_eq, jst_ne, jst_ni, jst_o, jI_i, jcpy_out, w32_id, jdiv_nn, jshr_k, jand_255] <;> first | done | omega | assumption)) | (intros; simp (disch := omega) only [jst_eq, jst_ne, jst_ni, jst_o, jI_i, jcpy_out, w32_id, jdiv_nn, *] <;> first | done | omega) | (intros; simp (disch := omega) only [jst_eq, jst_ne, jst_ni, jst_o, jI_i, jcpy_out, w32_id, jdiv_nn] at * <;> first | done | omega | assumption) | (intros; first | rfl | (exfalso; omega) | ((repeat' apply And.intro) <;> first | assumption | rfl | omega | trivial)))) ?_ -- o7
  refine OK_jl ?_
  simp (disch := omega) only [jst_ne, n1]
  have F3 : ∀ a s, ¬ ((a = h 454 38 + 12 ∨ a = h 454 38 + 13 ∨ a = h 454 38 + 14) ∧ s = N) → (jst (jst (jst h (h 454 38 + 12) N a2) (h 454 38 + 13) N a1) (h 454 38 + 14) N (h 469 a1)) a s = h a s := fun a s y => by { rw [jst_o (by omega), jst_o (by omega), jst_o (by omega)] }
  have K0 : (jst (jst (jst h (h 454 38 + 12) N a2) (h 454 38 + 13) N a1) (h 454 38 + 14) N (h 469 a1)) (h 454 38 + 12) N = a2 := by { rw [jst_o (by omega), jst_o (by omega)]; exact jst_eq }
  have K1 : (jst (jst (jst h (h 454 38 + 12) N a2) (h 454 38 + 13) N a1) (h 454 38 + 14) N (h 469 a1)) (h 454 38 + 13) N = a1 := by { rw [jst_o (by omega)]; exact jst_eq }
  have K2 : (jst (jst (jst h (h 454 38 + 12) N a2) (h 454 38 + 13) N a1) (h 454 38 + 14) N (h 469 a1)) (h 454 38 + 14) N = h 469 a1 := jst_eq
  generalize e3 : jst (jst (jst h (h 454 38 + 12) N a2) (h 454 38 + 13) N a1) (h 454 38 + 14) N (h 469 a1) = hq at *
  have q38 : hq 454 38 = h 454 38 := F3 _ _ (by omega)
  have q40 : hq 454 40 = N := by { rw [F3 _ _ (by omega)]; exact n1 }
  have q18 : hq (h 454 38) 18 = pts := by { rw [F3 _ _ (by omega)]; exact t2 }
  have q7 : ∀ p, 0 ≤ p → p < pts → hq 754 p = u p := fun p p0 p1 => by { rw [F3 _ _ (by omega)]; exact cc p p0 p1 }
  refine OK_jg (by (first | assumption | omega | ((try dsimp only [jt2, jt3, jt4]); first | omega | (simp (disch := omega) only [jst_eq, jst_ne, jst_ni, jst_o, jI_i, jcpy_out, w32_id, jdiv_nn, jshr_k, jand_255] <;> first | done | omega | assumption)) | (intros; simp (disch := omega) only [jst_eq, jst_ne, jst_ni, jst_o, jI_i, jcpy_out, w32_id, jdiv_nn, *] <;> first | done | omega) | (intros; simp (disch := omega) only [jst_eq, jst_ne, jst_ni, jst_o, jI_i, jcpy_out, w32_id, jdiv_nn] at * <;> first | done | omega | assumption) | (intros; first | rfl | (exfalso; omega) | ((repeat' apply And.intro) <;> first | assumption | rfl | omega | trivial)))) ?_ -- o8
  refine OK_jb (vX14_hash (pts := pts) (u := u) (by exact ⟨by rw [q38]; exact t1, by rw [q38]; exact q18, t3, t4⟩) (by exact q7)) (fun v5 r1 => ?_)
  try dsimp only [Sum.elim_inl, Sum.elim_inr, jt2, jt3, jt4, jt5, jt6, jt7, jt8] at r1
  have hh1 := r1
  clear r1
  try simp (disch := omega) only [jst_eq, jst_ne, jst_ni, jI_i, jcmp_lt, jcmp_gt, w32_id, jcpy_out, Sum.elim_inl, Sum.elim_inr, jt2, jt3, jt4, jt5, jt6, jt7, jt8] at hh1
  refine OK_jg (by (first | assumption | omega | ((try dsimp only [jt2, jt3, jt4]); first | omega | (simp (disch := omega) only [jst_eq, jst_ne, jst_ni, jst_o, jI_i, jcpy_out, w32_id, jdiv_nn, jshr_k, jand_255] <;> first | done | omega | assumption)) | (intros; simp (disch := omega) only [jst_eq, jst_ne, jst_ni, jst_o, jI_i, jcpy_out, w32_id, jdiv_nn, *] <;> first | done | omega) | (intros; simp (disch := omega) only [jst_eq, jst_ne, jst_ni, jst_o, jI_i, jcpy_out, w32_id, jdiv_nn] at * <;> first | done | omega | assumption) | (intros; first | rfl | (exfalso; omega) | ((repeat' apply And.intro) <;> first | assumption | rfl | omega | trivial)))) ?_ -- o11
  refine OK_jl ?_
  have F6 : ∀ a s, ¬ (a = h 454 38 + 15 ∧ s = N) → jst hq (h 454 38 + 15) N v5 a s = hq a s := fun a s y => jst_o y
  have K3 : jst hq (h 454 38 + 15) N v5 (h 454 38 + 15) N = v5 := jst_eq
  generalize e6 : jst hq (h 454 38 + 15) N v5 = hr at *
  have r38 : hr 454 38 = h 454 38 := by { rw [F6 _ _ (by omega)]; exact q38 }
  refine OK_jb (vX14_put_l62 (N := N) (pts := pts) (u := u) _ (by exact ⟨by rw [r38]; exact t1, by rw [r38, F6 _ _ (by omega)]; exact q18, t3, t4, by rw [F6 _ _ (by omega)]; exact q40, t6, n.2⟩) (by exact fun p p0 p1 => by rw [F6 _ _ (by omega)]; exact q7 p p0 p1) (by (first | assumption | omega | ((try dsimp only [jt2, jt3, jt4]); first | omega | (simp (disch := omega) only [jst_eq, jst_ne, jst_ni, jst_o, jI_i, jcpy_out, w32_id, jdiv_nn, jshr_k, jand_255] <;> first | done | omega | assumption)) | (intros; simp (disch := omega) only [jst_eq, jst_ne, jst_ni, jst_o, jI_i, jcpy_out, w32_id, jdiv_nn, *] <;> first | done | omega) | (intros; simp (disch := omega) only [jst_eq, jst_ne, jst_ni, jst_o, jI_i, jcpy_out, w32_id, jdiv_nn] at * <;> first | done | omega | assumption) | (intros; first | rfl | (exfalso; omega) | ((repeat' apply And.intro) <;> first | assumption | rfl | omega | trivial))))) (fun o7 r2 => ?_)
  try dsimp only [Sum.elim_inl, Sum.elim_inr, jt2, jt3, jt4, jt5, jt6, jt7, jt8] at r2
  have hp2 := r2
  clear r2
  try simp (disch := omega) only [jst_eq, jst_ne, jst_ni, jI_i, jcmp_lt, jcmp_gt, w32_id, jcpy_out, Sum.elim_inl, Sum.elim_inr, jt2, jt3, jt4, jt5, jt6, jt7, jt8] at hp2
  have G7 : ∀ a s, ¬ (a = h 454 38 + 17 + N ∧ 0 ≤ s ∧ s < pts) → o7 a s = hr a s := fun a s y => by { rw [hp2, r38, if_neg y] }
  have K7 : ∀ p, 0 ≤ p → p < pts → o7 (h 454 38 + 17 + N) p = u p := fun p p0 p1 => by { rw [hp2, r38, if_pos ⟨rfl, p0, p1⟩] }
  have o40 : o7 454 40 = N := by { rw [G7 _ _ (by omega), F6 _ _ (by omega)]; exact q40 }
  have w40 : w32 (N + 1) = N + 1 := w32_id (by omega) (by omega)
  refine OK_jl ?_
  rw [o40, w40]
  have F9 : ∀ a s, ¬ (a = 454 ∧ s = 40) → jst o7 454 40 (N + 1) a s = o7 a s := fun a s y => jst_o y
  have K9 : jst o7 454 40 (N + 1) 454 40 = N + 1 := jst_eq
  generalize e9 : jst o7 454 40 (N + 1) = hs at *
  have FR : frQ (h 454 38) N pts h hs := fun a s y1 y2 y3 => by { rw [F9 a s y1, G7 a s y3, F6 a s (by omega), F3 a s (by omega)] }
  refine OK_some ?_
  try dsimp only [Sum.elim_inl, Sum.elim_inr, jt2, jt3, jt4, jt5, jt6, jt7, jt8]
  try dsimp only [Sum.elim_inl, Sum.elim_inr, jt2, jt3, jt4, jt5, jt6, jt7, jt8]
  refine ⟨?_, ?_⟩
  · (refine tbN_add t hn n.2 FR ?_ ?_ ?_ ?_ ?_; { rw [F9 _ _ (by omega), G7 _ _ (by omega), F6 _ _ (by omega), K0]; exact i.1 }; { rw [F9 _ _ (by omega), G7 _ _ (by omega), F6 _ _ (by omega)]; exact K2 }; { rw [F9 _ _ (by omega), G7 _ _ (by omega), F6 _ _ (by omega)]; exact K1 }; { intro p p0 p1; rw [F9 _ _ (by omega)]; exact K7 p p0 p1 }; { rw [F9 _ _ (by omega), G7 _ _ (by omega), K3]; exact hh1 }) -- o15 e1.1
  · exact ⟨FR, K9⟩ -- o16 e1.2

