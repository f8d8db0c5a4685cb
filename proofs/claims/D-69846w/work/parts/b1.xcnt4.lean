/-! x: the counts of a price, whole; of all prices up to one -/
theorem cif_st {g : Int → Int} {f a : Int} : cif (f < a + 1) (g f) 0 = cif (f < a) (g f) 0 + (if f = a then g a else 0) := by
  by_cases y : f < a
  · rw [cif_y y, cif_y (by omega), if_neg (by omega)]; omega
  · by_cases y2 : f = a
    · rw [cif_n y, cif_y (by omega), if_pos y2, y2]; omega
    · rw [cif_n y, cif_n (by omega), if_neg y2]; rfl
theorem vX5_countOnce_l2 (i1 : Int) (a20 : Int) {h0 : AH} {E : EV} {Rf : Int → TR} {W : Int → Int → Int → VW} {A : AD} {pts wh : Int} {rv : Int → Int} {M : Int → (Int → Int) → Prop} {T : TB} {n : Nat} (cs : CS h0 E Rf W A pts wh rv M T n (fun _ => 0)) (tq : TQ E W pts A n T) (k : i1 = n ∧ h0 314 i1 = (LV E W pts A n).1) (z : a20 = 0) : OK (gX5_countOnce_l2 i1 a20 h0) (fun h' => (CS h' E Rf W A pts wh rv M T n (paC E W pts A n 0)) ∧ (fC h0 h' ∧ b10 h')) := by
  unfold gX5_countOnce_l2
  refine OK_jit (I := (fun (s : Int × AH) => jt2 s fun a2 h => (0 ≤ a2 ∧ a2 ≤ (LV E W pts A n).1) ∧ (CS h E Rf W A pts wh rv M T n (fun f => cif (f < a2) (paC E W pts A n 0 f) 0)) ∧ (fC h0 h ∧ b10 h))) (m := (fun (s : Int × AH) => jt2 s fun a2 h => ((LV E W pts A n).1 - a2).toNat)) ?_ ?_
  · intro s hs
    obtain ⟨a2, h⟩ := s
    dsimp only [Sum.elim_inl, Sum.elim_inr, jt2, jt3, jt4, jt5, jt6, jt7, jt8] at hs
    obtain ⟨q0, q1, fr⟩ := hs
    unfold gX5_countOnce_b2
    refine OK_jt2 ?_
    obtain ⟨SE, XX, CN⟩ := q1
    have Q1 : CS h E Rf W A pts wh rv M T n (fun f => cif (f < a2) (paC E W pts A n 0 f) 0) := ⟨SE, XX, CN⟩
    obtain ⟨H1, H2, H3, H4⟩ := XI_h XX
    have n12 := tq.1.1
    have A3 := SE.2.1
    have NP := SE.2.2.2.1.2.2.1
    have NP0 := SE.2.2.2.1.2.1
    have ex0 := tq.2.1.1
    have N120 := tq.1.2.2.1 n (Nat.le_refl _)
    have k314 : h 314 i1 = (LV E W pts A n).1 := by { rw [fr.1 _ _ (by omega) (by omega) (by omega) (by omega)]; exact k.2 }
    refine OK_jg (by (first | assumption | omega | ((try dsimp only [jt2, jt3, jt4]); first | omega | (simp (disch := omega) only [jst_eq, jst_ne, jst_ni, jst_o, jI_i, jcpy_out, w32_id, jdiv_nn, jshr_k, jand_255] <;> first | done | omega | assumption)) | (intros; simp (disch := omega) only [jst_eq, jst_ne, jst_ni, jst_o, jI_i, jcpy_out, w32_id, jdiv_nn, *] <;> first | done | omega) | (intros; simp (disch := omega) only [jst_eq, jst_ne, jst_ni, jst_o, jI_i, jcpy_out, w32_id, jdiv_nn] at * <;> first | done | omega | assumption) | (intros; first | rfl | (exfalso; omega) | ((repeat' apply And.intro) <;> first | assumption | rfl | omega | trivial)))) ?_ -- o1
    refine OK_if (fun c1 => ?_) (fun c1 => ?_)
    · skip
      try simp (disch := omega) only [jst_eq, jst_ne, jst_ni, jI_i, jcmp_lt, jcmp_gt, w32_id, jcpy_out, Sum.elim_inl, Sum.elim_inr, jt2, jt3, jt4, jt5, jt6, jt7, jt8] at c1
      refine OK_ir ?_
      try dsimp only [Sum.elim_inl, Sum.elim_inr, jt2, jt3, jt4, jt5, jt6, jt7, jt8]
      refine ⟨?_, ?_⟩
      · (refine CS_c Q1 (fun f f0 f1 => ?_); by_cases y : f < a2; { exact cif_y y }; { rw [cif_n y]; unfold paC; rw [fiC_hi (by omega)]; rfl }) -- o2 e1.1
      · exact fr -- o3 e1.2
    · skip
      try simp (disch := omega) only [jst_eq, jst_ne, jst_ni, jI_i, jcmp_lt, jcmp_gt, w32_id, jcpy_out, Sum.elim_inl, Sum.elim_inr, jt2, jt3, jt4, jt5, jt6, jt7, jt8] at c1
      have h2 := H4 a2 q0.1 (by omega)
      have hd := (XX.2.1.2.2.2.2.2.2.2 a2 q0.1 (by omega)).2.2.1
      have q := tq.2.1.2 a2 q0.1 (by omega)
      have w22 : w32 (a2 + 1) = a2 + 1 := w32_id (by omega) (by omega)
      have PA := fiC_0 tq.1 (f := a2) q0.1 (by omega)
      have g0 := (tq.1.2.1 n (Nat.le_refl _)).2.1 a2 q0.1 (by omega)
      have hr : 0 ≤ (LV E W pts A n).2.2.2.1 a2 ∧ (LV E W pts A n).2.2.2.1 a2 < A.1 + A.2.2.2.1 := by { rcases g0.2.2 with r | r | r; { omega }; { obtain ⟨j, r1, r2, r3, _⟩ := r; omega }; { obtain ⟨j, x, y, z, r1, r2, r3, _⟩ := r; omega } }
      have hde : h 310 a2 = (LV E W pts A n).2.2.2.1 a2 := by { rw [← q.2.2.1]; exact hd }
      have w66 : w32 (h 310 a2 - h (h 200 16) 1) = (LV E W pts A n).2.2.2.1 a2 - A.1 := by { rw [w32_id (by omega) (by omega)]; omega }
      have ST : ∀ f, 0 ≤ f → f < 120 → cif (f < a2 + 1) (paC E W pts A n 0 f) 0 = cif (f < a2) (paC E W pts A n 0 f) 0 + (if f = a2 then paC E W pts A n 0 a2 else 0) := fun f f0 f1 => cif_st
      have w9 : w32 (w32 (i1 * 120) + a2) = 120 * n + a2 := by { rw [w32_id (x := i1 * 120) (by omega) (by omega), w32_id (by omega) (by omega)]; try omega }
      have UP := CS_s (v := a2) (w := 1) (g := fun f => if f = a2 then 1 else 0) Q1 (fG_r h) XX SE.1.2.2.2.2 n12.2 (by omega) (fun f f0 f1 => rfl)
      refine OK_jg (by (first | assumption | omega | ((try dsimp only [jt2, jt3, jt4]); first | omega | (simp (disch := omega) only [jst_eq, jst_ne, jst_ni, jst_o, jI_i, jcpy_out, w32_id, jdiv_nn, jshr_k, jand_255] <;> first | done | omega | assumption)) | (intros; simp (disch := omega) only [jst_eq, jst_ne, jst_ni, jst_o, jI_i, jcpy_out, w32_id, jdiv_nn, *] <;> first | done | omega) | (intros; simp (disch := omega) only [jst_eq, jst_ne, jst_ni, jst_o, jI_i, jcpy_out, w32_id, jdiv_nn] at * <;> first | done | omega | assumption) | (intros; first | rfl | (exfalso; omega) | ((repeat' apply And.intro) <;> first | assumption | rfl | omega | trivial)))) ?_ -- o4
      refine OK_if (fun c2 => ?_) (fun c2 => ?_)
      · skip
        try simp (disch := omega) only [jst_eq, jst_ne, jst_ni, jI_i, jcmp_lt, jcmp_gt, w32_id, jcpy_out, Sum.elim_inl, Sum.elim_inr, jt2, jt3, jt4, jt5, jt6, jt7, jt8] at c2
        have LF : iLf A ((LV E W pts A n).2.2.2.1 a2) := Or.inl (by omega)
        unfold gX5_countOnce_j66_2
        refine OK_jg (by (first | assumption | omega | ((try dsimp only [jt2, jt3, jt4]); first | omega | (simp (disch := omega) only [jst_eq, jst_ne, jst_ni, jst_o, jI_i, jcpy_out, w32_id, jdiv_nn, jshr_k, jand_255] <;> first | done | omega | assumption)) | (intros; simp (disch := omega) only [jst_eq, jst_ne, jst_ni, jst_o, jI_i, jcpy_out, w32_id, jdiv_nn, *] <;> first | done | omega) | (intros; simp (disch := omega) only [jst_eq, jst_ne, jst_ni, jst_o, jI_i, jcpy_out, w32_id, jdiv_nn] at * <;> first | done | omega | assumption) | (intros; first | rfl | (exfalso; omega) | ((repeat' apply And.intro) <;> first | assumption | rfl | omega | trivial)))) ?_ -- o5
        refine OK_if (fun c3 => ?_) (fun c3 => ?_)
        · skip
          try simp (disch := omega) only [jst_eq, jst_ne, jst_ni, jI_i, jcmp_lt, jcmp_gt, w32_id, jcpy_out, Sum.elim_inl, Sum.elim_inr, jt2, jt3, jt4, jt5, jt6, jt7, jt8] at c3
          have PA1 : paC E W pts A n 0 a2 = 1 := PA.trans (cif_y ⟨LF, by rw [← q.2.1, ← h2.2]; omega⟩)
          refine OK_jg (by (first | assumption | omega | ((try dsimp only [jt2, jt3, jt4]); first | omega | (simp (disch := omega) only [jst_eq, jst_ne, jst_ni, jst_o, jI_i, jcpy_out, w32_id, jdiv_nn, jshr_k, jand_255] <;> first | done | omega | assumption)) | (intros; simp (disch := omega) only [jst_eq, jst_ne, jst_ni, jst_o, jI_i, jcpy_out, w32_id, jdiv_nn, *] <;> first | done | omega) | (intros; simp (disch := omega) only [jst_eq, jst_ne, jst_ni, jst_o, jI_i, jcpy_out, w32_id, jdiv_nn] at * <;> first | done | omega | assumption) | (intros; first | rfl | (exfalso; omega) | ((repeat' apply And.intro) <;> first | assumption | rfl | omega | trivial)))) ?_ -- o6
          refine OK_jl ?_
          unfold gX5_countOnce_j91_2
          refine OK_jlx (fun x22 ex22 => ?_)
          try simp (disch := omega) only [jst_eq, jst_ne, jst_ni, jI_i, jcmp_lt, jcmp_gt, w32_id, jcpy_out, Sum.elim_inl, Sum.elim_inr, jt2, jt3, jt4, jt5, jt6, jt7, jt8] at ex22
          refine OK_il ?_ ?_
          · try dsimp only [Sum.elim_inl, Sum.elim_inr, jt2, jt3, jt4, jt5, jt6, jt7, jt8]
            refine ⟨?_, ?_, ?_⟩
            · (first | assumption | omega | ((try dsimp only [jt2, jt3, jt4]); first | omega | (simp (disch := omega) only [jst_eq, jst_ne, jst_ni, jst_o, jI_i, jcpy_out, w32_id, jdiv_nn, jshr_k, jand_255] <;> first | done | omega | assumption)) | (intros; simp (disch := omega) only [jst_eq, jst_ne, jst_ni, jst_o, jI_i, jcpy_out, w32_id, jdiv_nn, *] <;> first | done | omega) | (intros; simp (disch := omega) only [jst_eq, jst_ne, jst_ni, jst_o, jI_i, jcpy_out, w32_id, jdiv_nn] at * <;> first | done | omega | assumption) | (intros; first | rfl | (exfalso; omega) | ((repeat' apply And.intro) <;> first | assumption | rfl | omega | trivial))) -- o7 e2i.1
            · (refine CS_c (by rw [w9]; exact UP.1) (fun f f0 f1 => ?_); rw [show x22 = a2 + 1 by omega, ST f f0 f1, PA1]) -- o8 e2i.2
            · (rw [w9]; exact ⟨fC_t fr.1 UP.2.1, UP.2.2⟩) -- o9 e2i.3
          · (first | assumption | omega | ((try dsimp only [jt2, jt3, jt4]); first | omega | (simp (disch := omega) only [jst_eq, jst_ne, jst_ni, jst_o, jI_i, jcpy_out, w32_id, jdiv_nn, jshr_k, jand_255] <;> first | done | omega | assumption)) | (intros; simp (disch := omega) only [jst_eq, jst_ne, jst_ni, jst_o, jI_i, jcpy_out, w32_id, jdiv_nn, *] <;> first | done | omega) | (intros; simp (disch := omega) only [jst_eq, jst_ne, jst_ni, jst_o, jI_i, jcpy_out, w32_id, jdiv_nn] at * <;> first | done | omega | assumption) | (intros; first | rfl | (exfalso; omega) | ((repeat' apply And.intro) <;> first | assumption | rfl | omega | trivial))) -- o10 e2m
        · skip
          try simp (disch := omega) only [jst_eq, jst_ne, jst_ni, jI_i, jcmp_lt, jcmp_gt, w32_id, jcpy_out, Sum.elim_inl, Sum.elim_inr, jt2, jt3, jt4, jt5, jt6, jt7, jt8] at c3
          have PA0 : paC E W pts A n 0 a2 = 0 := PA.trans (cif_n (fun y => by (have y2 := y.2; rw [← q.2.1, ← h2.2] at y2; omega)))
          unfold gX5_countOnce_j91_2
          refine OK_jlx (fun x22 ex22 => ?_)
          try simp (disch := omega) only [jst_eq, jst_ne, jst_ni, jI_i, jcmp_lt, jcmp_gt, w32_id, jcpy_out, Sum.elim_inl, Sum.elim_inr, jt2, jt3, jt4, jt5, jt6, jt7, jt8] at ex22
          refine OK_il ?_ ?_
          · try dsimp only [Sum.elim_inl, Sum.elim_inr, jt2, jt3, jt4, jt5, jt6, jt7, jt8]
            refine ⟨?_, ?_, ?_⟩
            · (first | assumption | omega | ((try dsimp only [jt2, jt3, jt4]); first | omega | (simp (disch := omega) only [jst_eq, jst_ne, jst_ni, jst_o, jI_i, jcpy_out, w32_id, jdiv_nn, jshr_k, jand_255] <;> first | done | omega | assumption)) | (intros; simp (disch := omega) only [jst_eq, jst_ne, jst_ni, jst_o, jI_i, jcpy_out, w32_id, jdiv_nn, *] <;> first | done | omega) | (intros; simp (disch := omega) only [jst_eq, jst_ne, jst_ni, jst_o, jI_i, jcpy_out, w32_id, jdiv_nn] at * <;> first | done | omega | assumption) | (intros; first | rfl | (exfalso; omega) | ((repeat' apply And.intro) <;> first | assumption | rfl | omega | trivial))) -- o11 e3i.1
            · (refine CS_c Q1 (fun f f0 f1 => ?_); rw [show x22 = a2 + 1 by omega, ST f f0 f1, PA0]; split <;> omega) -- o12 e3i.2
            · exact fr -- o13 e3i.3
          · (first | assumption | omega | ((try dsimp only [jt2, jt3, jt4]); first | omega | (simp (disch := omega) only [jst_eq, jst_ne, jst_ni, jst_o, jI_i, jcpy_out, w32_id, jdiv_nn, jshr_k, jand_255] <;> first | done | omega | assumption)) | (intros; simp (disch := omega) only [jst_eq, jst_ne, jst_ni, jst_o, jI_i, jcpy_out, w32_id, jdiv_nn, *] <;> first | done | omega) | (intros; simp (disch := omega) only [jst_eq, jst_ne, jst_ni, jst_o, jI_i, jcpy_out, w32_id, jdiv_nn] at * <;> first | done | omega | assumption) | (intros; first | rfl | (exfalso; omega) | ((repeat' apply And.intro) <;> first | assumption | rfl | omega | trivial))) -- o14 e3m
      · skip
        try simp (disch := omega) only [jst_eq, jst_ne, jst_ni, jI_i, jcmp_lt, jcmp_gt, w32_id, jcpy_out, Sum.elim_inl, Sum.elim_inr, jt2, jt3, jt4, jt5, jt6, jt7, jt8] at c2
        have w67 : h 310 a2 - h (h 200 16) 1 = (LV E W pts A n).2.2.2.1 a2 - A.1 := by omega
        have hge : ¬ (LV E W pts A n).2.2.2.1 a2 < A.1 := by omega
        refine OK_jg (by (first | assumption | omega | ((try dsimp only [jt2, jt3, jt4]); first | omega | (simp (disch := omega) only [jst_eq, jst_ne, jst_ni, jst_o, jI_i, jcpy_out, w32_id, jdiv_nn, jshr_k, jand_255] <;> first | done | omega | assumption)) | (intros; simp (disch := omega) only [jst_eq, jst_ne, jst_ni, jst_o, jI_i, jcpy_out, w32_id, jdiv_nn, *] <;> first | done | omega) | (intros; simp (disch := omega) only [jst_eq, jst_ne, jst_ni, jst_o, jI_i, jcpy_out, w32_id, jdiv_nn] at * <;> first | done | omega | assumption) | (intros; first | rfl | (exfalso; omega) | ((repeat' apply And.intro) <;> first | assumption | rfl | omega | trivial)))) ?_ -- o15
        refine OK_if (fun c4 => ?_) (fun c4 => ?_)
        · skip
          try simp (disch := omega) only [jst_eq, jst_ne, jst_ni, jI_i, jcmp_lt, jcmp_gt, w32_id, jcpy_out, Sum.elim_inl, Sum.elim_inr, jt2, jt3, jt4, jt5, jt6, jt7, jt8] at c4
          have LF : iLf A ((LV E W pts A n).2.2.2.1 a2) := Or.inr (by (rw [← (SE.2.2.2.1.2.2.2 ((LV E W pts A n).2.2.2.1 a2 - A.1) (by omega) (by omega)).1, ← w67]; assumption))
          unfold gX5_countOnce_j66_2
          refine OK_jg (by (first | assumption | omega | ((try dsimp only [jt2, jt3, jt4]); first | omega | (simp (disch := omega) only [jst_eq, jst_ne, jst_ni, jst_o, jI_i, jcpy_out, w32_id, jdiv_nn, jshr_k, jand_255] <;> first | done | omega | assumption)) | (intros; simp (disch := omega) only [jst_eq, jst_ne, jst_ni, jst_o, jI_i, jcpy_out, w32_id, jdiv_nn, *] <;> first | done | omega) | (intros; simp (disch := omega) only [jst_eq, jst_ne, jst_ni, jst_o, jI_i, jcpy_out, w32_id, jdiv_nn] at * <;> first | done | omega | assumption) | (intros; first | rfl | (exfalso; omega) | ((repeat' apply And.intro) <;> first | assumption | rfl | omega | trivial)))) ?_ -- o16
          refine OK_if (fun c5 => ?_) (fun c5 => ?_)
          · skip
            try simp (disch := omega) only [jst_eq, jst_ne, jst_ni, jI_i, jcmp_lt, jcmp_gt, w32_id, jcpy_out, Sum.elim_inl, Sum.elim_inr, jt2, jt3, jt4, jt5, jt6, jt7, jt8] at c5
            have PA1 : paC E W pts A n 0 a2 = 1 := PA.trans (cif_y ⟨LF, by rw [← q.2.1, ← h2.2]; omega⟩)
            refine OK_jg (by (first | assumption | omega | ((try dsimp only [jt2, jt3, jt4]); first | omega | (simp (disch := omega) only [jst_eq, jst_ne, jst_ni, jst_o, jI_i, jcpy_out, w32_id, jdiv_nn, jshr_k, jand_255] <;> first | done | omega | assumption)) | (intros; simp (disch := omega) only [jst_eq, jst_ne, jst_ni, jst_o, jI_i, jcpy_out, w32_id, jdiv_nn, *] <;> first | done | omega) | (intros; simp (disch := omega) only [jst_eq, jst_ne, jst_ni, jst_o, jI_i, jcpy_out, w32_id, jdiv_nn] at * <;> first | done | omega | assumption) | (intros; first | rfl | (exfalso; omega) | ((repeat' apply And.intro) <;> first | assumption | rfl | omega | trivial)))) ?_ -- o17
            refine OK_jl ?_
            unfold gX5_countOnce_j91_2
            refine OK_jlx (fun x22 ex22 => ?_)
            try simp (disch := omega) only [jst_eq, jst_ne, jst_ni, jI_i, jcmp_lt, jcmp_gt, w32_id, jcpy_out, Sum.elim_inl, Sum.elim_inr, jt2, jt3, jt4, jt5, jt6, jt7, jt8] at ex22
            refine OK_il ?_ ?_
            · try dsimp only [Sum.elim_inl, Sum.elim_inr, jt2, jt3, jt4, jt5, jt6, jt7, jt8]
              refine ⟨?_, ?_, ?_⟩
              · (first | assumption | omega | ((try dsimp only [jt2, jt3, jt4]); first | omega | (simp (disch := omega) only [jst_eq, jst_ne, jst_ni, jst_o, jI_i, jcpy_out, w32_id, jdiv_nn, jshr_k, jand_255] <;> first | done | omega | assumption)) | (intros; simp (disch := omega) only [jst_eq, jst_ne, jst_ni, jst_o, jI_i, jcpy_out, w32_id, jdiv_nn, *] <;> first | done | omega) | (intros; simp (disch := omega) only [jst_eq, jst_ne, jst_ni, jst_o, jI_i, jcpy_out, w32_id, jdiv_nn] at * <;> first | done | omega | assumption) | (intros; first | rfl | (exfalso; omega) | ((repeat' apply And.intro) <;> first | assumption | rfl | omega | trivial))) -- o18 e4i.1
              · (refine CS_c (by rw [w9]; exact UP.1) (fun f f0 f1 => ?_); rw [show x22 = a2 + 1 by omega, ST f f0 f1, PA1]) -- o19 e4i.2
              · (rw [w9]; exact ⟨fC_t fr.1 UP.2.1, UP.2.2⟩) -- o20 e4i.3
            · (first | assumption | omega | ((try dsimp only [jt2, jt3, jt4]); first | omega | (simp (disch := omega) only [jst_eq, jst_ne, jst_ni, jst_o, jI_i, jcpy_out, w32_id, jdiv_nn, jshr_k, jand_255] <;> first | done | omega | assumption)) | (intros; simp (disch := omega) only [jst_eq, jst_ne, jst_ni, jst_o, jI_i, jcpy_out, w32_id, jdiv_nn, *] <;> first | done | omega) | (intros; simp (disch := omega) only [jst_eq, jst_ne, jst_ni, jst_o, jI_i, jcpy_out, w32_id, jdiv_nn] at * <;> first | done | omega | assumption) | (intros; first | rfl | (exfalso; omega) | ((repeat' apply And.intro) <;> first | assumption | rfl | omega | trivial))) -- o21 e4m
          · skip
            try simp (disch := omega) only [jst_eq, jst_ne, jst_ni, jI_i, jcmp_lt, jcmp_gt, w32_id, jcpy_out, Sum.elim_inl, Sum.elim_inr, jt2, jt3, jt4, jt5, jt6, jt7, jt8] at c5
            have PA0 : paC E W pts A n 0 a2 = 0 := PA.trans (cif_n (fun y => by (have y2 := y.2; rw [← q.2.1, ← h2.2] at y2; omega)))
            unfold gX5_countOnce_j91_2
            refine OK_jlx (fun x22 ex22 => ?_)
            try simp (disch := omega) only [jst_eq, jst_ne, jst_ni, jI_i, jcmp_lt, jcmp_gt, w32_id, jcpy_out, Sum.elim_inl, Sum.elim_inr, jt2, jt3, jt4, jt5, jt6, jt7, jt8] at ex22
            refine OK_il ?_ ?_
            · try dsimp only [Sum.elim_inl, Sum.elim_inr, jt2, jt3, jt4, jt5, jt6, jt7, jt8]
              refine ⟨?_, ?_, ?_⟩
              · (first | assumption | omega | ((try dsimp only [jt2, jt3, jt4]); first | omega | (simp (disch := omega) only [jst_eq, jst_ne, jst_ni, jst_o, jI_i, jcpy_out, w32_id, jdiv_nn, jshr_k, jand_255] <;> first | done | omega | assumption)) | (intros; simp (disch := omega) only [jst_eq, jst_ne, jst_ni, jst_o, jI_i, jcpy_out, w32_id, jdiv_nn, *] <;> first | done | omega) | (intros; simp (disch := omega) only [jst_eq, jst_ne, jst_ni, jst_o, jI_i, jcpy_out, w32_id, jdiv_nn] at * <;> first | done | omega | assumption) | (intros; first | rfl | (exfalso; omega) | ((repeat' apply And.intro) <;> first | assumption | rfl | omega | trivial))) -- o22 e5i.1
              · (refine CS_c Q1 (fun f f0 f1 => ?_); rw [show x22 = a2 + 1 by omega, ST f f0 f1, PA0]; split <;> omega) -- o23 e5i.2
              · exact fr -- o24 e5i.3
            · (first | assumption | omega | ((try dsimp only [jt2, jt3, jt4]); first | omega | (simp (disch := omega) only [jst_eq, jst_ne, jst_ni, jst_o, jI_i, jcpy_out, w32_id, jdiv_nn, jshr_k, jand_255] <;> first | done | omega | assumption)) | (intros; simp (disch := omega) only [jst_eq, jst_ne, jst_ni, jst_o, jI_i, jcpy_out, w32_id, jdiv_nn, *] <;> first | done | omega) | (intros; simp (disch := omega) only [jst_eq, jst_ne, jst_ni, jst_o, jI_i, jcpy_out, w32_id, jdiv_nn] at * <;> first | done | omega | assumption) | (intros; first | rfl | (exfalso; omega) | ((repeat' apply And.intro) <;> first | assumption | rfl | omega | trivial))) -- o25 e5m
        · skip
          try simp (disch := omega) only [jst_eq, jst_ne, jst_ni, jI_i, jcmp_lt, jcmp_gt, w32_id, jcpy_out, Sum.elim_inl, Sum.elim_inr, jt2, jt3, jt4, jt5, jt6, jt7, jt8] at c4
          have NF : ¬ iLf A ((LV E W pts A n).2.2.2.1 a2) := fun y => by (rcases y with y | y; { omega }; { rw [← (SE.2.2.2.1.2.2.2 ((LV E W pts A n).2.2.2.1 a2 - A.1) (by omega) (by omega)).1, ← w67] at y; exact c4 y })
          have PA0 : paC E W pts A n 0 a2 = 0 := PA.trans (cif_n (fun y => NF y.1))
          unfold gX5_countOnce_j91_2
          refine OK_jlx (fun x22 ex22 => ?_)
          try simp (disch := omega) only [jst_eq, jst_ne, jst_ni, jI_i, jcmp_lt, jcmp_gt, w32_id, jcpy_out, Sum.elim_inl, Sum.elim_inr, jt2, jt3, jt4, jt5, jt6, jt7, jt8] at ex22
          refine OK_il ?_ ?_
          · try dsimp only [Sum.elim_inl, Sum.elim_inr, jt2, jt3, jt4, jt5, jt6, jt7, jt8]
            refine ⟨?_, ?_, ?_⟩
            · (first | assumption | omega | ((try dsimp only [jt2, jt3, jt4]); first | omega | (simp (disch := omega) only [jst_eq, jst_ne, jst_ni, jst_o, jI_i, jcpy_out, w32_id, jdiv_nn, jshr_k, jand_255] <;> first | done | omega | assumption)) | (intros; simp (disch := omega) only [jst_eq, jst_ne, jst_ni, jst_o, jI_i, jcpy_out, w32_id, jdiv_nn, *] <;> first | done | omega) | (intros; simp (disch := omega) only [jst_eq, jst_ne, jst_ni, jst_o, jI_i, jcpy_out, w32_id, jdiv_nn] at * <;> first | done | omega | assumption) | (intros; first | rfl | (exfalso; omega) | ((repeat' apply And.intro) <;> first | assumption | rfl | omega | trivial))) -- o26 e6i.1
            · (refine CS_c Q1 (fun f f0 f1 => ?_); rw [show x22 = a2 + 1 by omega, ST f f0 f1, PA0]; split <;> omega) -- o27 e6i.2
            · exact fr -- o28 e6i.3
          · (first | assumption | omega | ((try dsimp only [jt2, jt3, jt4]); first | omega | (simp (disch := omega) only [jst_eq, jst_ne, jst_ni, jst_o, jI_i, jcpy_out, w32_id, jdiv_nn, jshr_k, jand_255] <;> first | done | omega | assumption)) | (intros; simp (disch := omega) only [jst_eq, jst_ne, jst_ni, jst_o, jI_i, jcpy_out, w32_id, jdiv_nn, *] <;> first | done | omega) | (intros; simp (disch := omega) only [jst_eq, jst_ne, jst_ni, jst_o, jI_i, jcpy_out, w32_id, jdiv_nn] at * <;> first | done | omega | assumption) | (intros; first | rfl | (exfalso; omega) | ((repeat' apply And.intro) <;> first | assumption | rfl | omega | trivial))) -- o29 e6m
  · try dsimp only [Sum.elim_inl, Sum.elim_inr, jt2, jt3, jt4, jt5, jt6, jt7, jt8]
    refine ⟨?_, ?_, ?_⟩
    · (have l := LV_0 (E := E) (W := W) (pts := pts) (A := A) n; omega) -- o30 init.1
    · (refine CS_c cs (fun f f0 f1 => ?_); rw [z, cif_n (by omega)]) -- o31 init.2
    · exact ⟨fC_r _, cs.1.1.2.2.2.2⟩ -- o32 init.3
theorem paC_p {E : EV} {W : Int → Int → Int → VW} {pts : Int} {A : AD} {n : Nat} (cq : CQ E W pts A n) (n1 : n ≠ 1) {f : Int} : ∀ k : Nat, (k : Int) ≤ A.1 → paC E W pts A n k f = paC E W pts A n 0 f
  | 0, _ => rfl
  | k + 1, l => by
    have pr : prL A k = 1 := if_pos (by omega)
    rw [show ((k + 1 : Nat) : Int) = (k : Int) + 1 by omega, fiC_n cq (by omega) (fun z => by omega), paC_p cq n1 k (by omega)]
    have ch : chC E W pts A (LV E W pts A n) (ct E W pts A) n f k = 0 := by
      unfold chC
      rw [cif_y (show iLf A (k : Int) from Or.inl (by omega)), cif_n (fun z => by have := z.1; omega)]
    rw [ch, Int.add_zero]
theorem vX5_countOnce_l99 (i1 : Int) (a20 : Int) {h0 : AH} {E : EV} {Rf : Int → TR} {W : Int → Int → Int → VW} {A : AD} {pts wh : Int} {rv : Int → Int} {M : Int → (Int → Int) → Prop} {T : TB} {n : Nat} (cs : CS h0 E Rf W A pts wh rv M T n (paC E W pts A n 0)) (tq : TQ E W pts A n T) (k : i1 = n) (z : a20 = 0) : OK (gX5_countOnce_l99 i1 a20 h0) (fun h' => (CS h' E Rf W A pts wh rv M T n (paC E W pts A n A.1)) ∧ (fC h0 h' ∧ b10 h')) := by
  unfold gX5_countOnce_l99
  refine OK_jit (I := (fun (s : Int × AH) => jt2 s fun a2 h => (0 ≤ a2 ∧ a2 ≤ A.1) ∧ (CS h E Rf W A pts wh rv M T n (paC E W pts A n a2)) ∧ (fC h0 h ∧ b10 h))) (m := (fun (s : Int × AH) => jt2 s fun a2 h => (A.1 - a2).toNat)) ?_ ?_
  · intro s hs
    obtain ⟨a2, h⟩ := s
    dsimp only [Sum.elim_inl, Sum.elim_inr, jt2, jt3, jt4, jt5, jt6, jt7, jt8] at hs
    obtain ⟨q0, q1, fr⟩ := hs
    unfold gX5_countOnce_b99
    refine OK_jt2 ?_
    have A3 := q1.1.2.1
    have NP := q1.1.2.2.2.1.2.1
    have w27 : w32 (a2 + 1) = a2 + 1 := w32_id (by omega) (by omega)
    refine OK_if (fun c1 => ?_) (fun c1 => ?_)
    · skip
      try simp (disch := omega) only [jst_eq, jst_ne, jst_ni, jI_i, jcmp_lt, jcmp_gt, w32_id, jcpy_out, Sum.elim_inl, Sum.elim_inr, jt2, jt3, jt4, jt5, jt6, jt7, jt8] at c1
      refine OK_ir ?_
      try dsimp only [Sum.elim_inl, Sum.elim_inr, jt2, jt3, jt4, jt5, jt6, jt7, jt8]
      refine ⟨?_, ?_⟩
      · (rw [show A.1 = a2 by omega]; exact q1) -- o1 e1.1
      · exact fr -- o2 e1.2
    · skip
      try simp (disch := omega) only [jst_eq, jst_ne, jst_ni, jI_i, jcmp_lt, jcmp_gt, w32_id, jcpy_out, Sum.elim_inl, Sum.elim_inr, jt2, jt3, jt4, jt5, jt6, jt7, jt8] at c1
      refine OK_if (fun c2 => ?_) (fun c2 => ?_)
      · skip
        try simp (disch := omega) only [jst_eq, jst_ne, jst_ni, jI_i, jcmp_lt, jcmp_gt, w32_id, jcpy_out, Sum.elim_inl, Sum.elim_inr, jt2, jt3, jt4, jt5, jt6, jt7, jt8] at c2
        refine OK_jb (vX5_countLeaf (E := E) (Rf := Rf) (W := W) (A := A) (pts := pts) (wh := wh) (rv := rv) (M := M) (T := T) (n := n) _ _ (by exact q1) (by exact tq) (by exact ⟨k, q0.1, by omega, Or.inl (by omega), by (have e : prL A a2 = 1 := if_pos (by omega); omega)⟩)) (fun h26 r1 => ?_)
        try dsimp only [Sum.elim_inl, Sum.elim_inr, jt2, jt3, jt4, jt5, jt6, jt7, jt8] at r1
        obtain ⟨cs1, fs1⟩ := r1
        try simp (disch := omega) only [jst_eq, jst_ne, jst_ni, jI_i, jcmp_lt, jcmp_gt, w32_id, jcpy_out, Sum.elim_inl, Sum.elim_inr, jt2, jt3, jt4, jt5, jt6, jt7, jt8] at cs1
        try simp (disch := omega) only [jst_eq, jst_ne, jst_ni, jI_i, jcmp_lt, jcmp_gt, w32_id, jcpy_out, Sum.elim_inl, Sum.elim_inr, jt2, jt3, jt4, jt5, jt6, jt7, jt8] at fs1
        refine OK_jlx (fun x27 ex27 => ?_)
        try simp (disch := omega) only [jst_eq, jst_ne, jst_ni, jI_i, jcmp_lt, jcmp_gt, w32_id, jcpy_out, Sum.elim_inl, Sum.elim_inr, jt2, jt3, jt4, jt5, jt6, jt7, jt8] at ex27
        refine OK_il ?_ ?_
        · try dsimp only [Sum.elim_inl, Sum.elim_inr, jt2, jt3, jt4, jt5, jt6, jt7, jt8]
          refine ⟨?_, ?_, ?_⟩
          · (first | assumption | omega | ((try dsimp only [jt2, jt3, jt4]); first | omega | (simp (disch := omega) only [jst_eq, jst_ne, jst_ni, jst_o, jI_i, jcpy_out, w32_id, jdiv_nn, jshr_k, jand_255] <;> first | done | omega | assumption)) | (intros; simp (disch := omega) only [jst_eq, jst_ne, jst_ni, jst_o, jI_i, jcpy_out, w32_id, jdiv_nn, *] <;> first | done | omega) | (intros; simp (disch := omega) only [jst_eq, jst_ne, jst_ni, jst_o, jI_i, jcpy_out, w32_id, jdiv_nn] at * <;> first | done | omega | assumption) | (intros; first | rfl | (exfalso; omega) | ((repeat' apply And.intro) <;> first | assumption | rfl | omega | trivial))) -- o6 e2i.1
          · (rw [show x27 = a2 + 1 by omega]; exact cs1) -- o7 e2i.2
          · exact ⟨fC_t fr.1 fs1.1, fs1.2⟩ -- o8 e2i.3
        · (first | assumption | omega | ((try dsimp only [jt2, jt3, jt4]); first | omega | (simp (disch := omega) only [jst_eq, jst_ne, jst_ni, jst_o, jI_i, jcpy_out, w32_id, jdiv_nn, jshr_k, jand_255] <;> first | done | omega | assumption)) | (intros; simp (disch := omega) only [jst_eq, jst_ne, jst_ni, jst_o, jI_i, jcpy_out, w32_id, jdiv_nn, *] <;> first | done | omega) | (intros; simp (disch := omega) only [jst_eq, jst_ne, jst_ni, jst_o, jI_i, jcpy_out, w32_id, jdiv_nn] at * <;> first | done | omega | assumption) | (intros; first | rfl | (exfalso; omega) | ((repeat' apply And.intro) <;> first | assumption | rfl | omega | trivial))) -- o9 e2m
      · skip
        try simp (disch := omega) only [jst_eq, jst_ne, jst_ni, jI_i, jcmp_lt, jcmp_gt, w32_id, jcpy_out, Sum.elim_inl, Sum.elim_inr, jt2, jt3, jt4, jt5, jt6, jt7, jt8] at c2
        refine OK_ir ?_
        try dsimp only [Sum.elim_inl, Sum.elim_inr, jt2, jt3, jt4, jt5, jt6, jt7, jt8]
        refine ⟨?_, ?_⟩
        · (refine CS_c q1 (fun f f0 f1 => ?_); have e1 := paC_p tq.1 (f := f) (by omega) a2.toNat (by omega); have e2 := paC_p tq.1 (f := f) (by omega) A.1.toNat (by omega); rw [show ((a2.toNat : Nat) : Int) = a2 by omega] at e1; rw [show ((A.1.toNat : Nat) : Int) = A.1 by omega] at e2; rw [e1, e2]) -- o10 e3.1
        · exact fr -- o11 e3.2
  · try dsimp only [Sum.elim_inl, Sum.elim_inr, jt2, jt3, jt4, jt5, jt6, jt7, jt8]
    refine ⟨?_, ?_, ?_⟩
    · (have := cs.1.2.1; omega) -- o12 init.1
    · (rw [z]; exact cs) -- o13 init.2
    · exact ⟨fC_r _, cs.1.1.2.2.2.2⟩ -- o14 init.3
theorem vX5_countOnce_l132 (i1 : Int) (a20 : Int) {h0 : AH} {E : EV} {Rf : Int → TR} {W : Int → Int → Int → VW} {A : AD} {pts wh : Int} {rv : Int → Int} {M : Int → (Int → Int) → Prop} {T : TB} {n : Nat} (cs : CS h0 E Rf W A pts wh rv M T n (paC E W pts A n A.1)) (tq : TQ E W pts A n T) (k : i1 = n) (z : a20 = 0) : OK (gX5_countOnce_l132 i1 a20 h0) (fun h' => (CS h' E Rf W A pts wh rv M T n (rowC E W pts A (LV E W pts A n) (ct E W pts A) n)) ∧ (fC h0 h' ∧ b10 h')) := by
  unfold gX5_countOnce_l132
  refine OK_jit (I := (fun (s : Int × AH) => jt2 s fun a2 h => (0 ≤ a2 ∧ a2 ≤ A.2.2.2.1) ∧ (CS h E Rf W A pts wh rv M T n (paC E W pts A n (A.1 + a2))) ∧ (fC h0 h ∧ b10 h))) (m := (fun (s : Int × AH) => jt2 s fun a2 h => (A.2.2.2.1 - a2).toNat)) ?_ ?_
  · intro s hs
    obtain ⟨a2, h⟩ := s
    dsimp only [Sum.elim_inl, Sum.elim_inr, jt2, jt3, jt4, jt5, jt6, jt7, jt8] at hs
    obtain ⟨q0, q1, fr⟩ := hs
    unfold gX5_countOnce_b132
    refine OK_jt2 ?_
    have A3 := q1.1.2.1
    have NP := q1.1.2.2.2.1
    have n12 := tq.1.1
    have w16 : w32 (a2 + 1) = a2 + 1 := w32_id (by omega) (by omega)
    refine OK_if (fun c1 => ?_) (fun c1 => ?_)
    · skip
      try simp (disch := omega) only [jst_eq, jst_ne, jst_ni, jI_i, jcmp_lt, jcmp_gt, w32_id, jcpy_out, Sum.elim_inl, Sum.elim_inr, jt2, jt3, jt4, jt5, jt6, jt7, jt8] at c1
      refine OK_ir ?_
      try dsimp only [Sum.elim_inl, Sum.elim_inr, jt2, jt3, jt4, jt5, jt6, jt7, jt8]
      refine ⟨?_, ?_⟩
      · (refine CS_c q1 (fun f f0 f1 => ?_); rw [show a2 = A.2.2.2.1 by omega, fiC_end tq.1]) -- o1 e1.1
      · exact fr -- o2 e1.2
    · skip
      try simp (disch := omega) only [jst_eq, jst_ne, jst_ni, jI_i, jcmp_lt, jcmp_gt, w32_id, jcpy_out, Sum.elim_inl, Sum.elim_inr, jt2, jt3, jt4, jt5, jt6, jt7, jt8] at c1
      have pc := NP.2.2.2 a2 q0.1 (by omega)
      have vp := tq.1.2.2.2.1.2.2 a2 q0.1 (by omega)
      have w8 : w32 (i1 - h (h 200 16 + 5) a2) = i1 - A.2.2.2.2.2.2.2 a2 := by { rw [w32_id (by omega) (by omega)]; omega }
      have w12 : w32 (h (h 200 16) 1 + a2) = A.1 + a2 := by { rw [w32_id (by omega) (by omega)]; omega }
      have pE : prL A (A.1 + a2) = A.2.2.2.2.2.2.2 a2 := by { unfold prL; rw [if_neg (by omega), show A.1 + a2 - A.1 = a2 by omega] }
      have aE : A.2.2.2.2.1 (A.1 + a2 - A.1) = A.2.2.2.2.1 a2 := by { rw [show A.1 + a2 - A.1 = a2 by omega] }
      have sE : ∀ f, paC E W pts A n (A.1 + (a2 + 1)) f = paC E W pts A n (A.1 + a2 + 1) f := fun f => by { rw [Int.add_assoc] }
      refine OK_jg (by (first | assumption | omega | ((try dsimp only [jt2, jt3, jt4]); first | omega | (simp (disch := omega) only [jst_eq, jst_ne, jst_ni, jst_o, jI_i, jcpy_out, w32_id, jdiv_nn, jshr_k, jand_255] <;> first | done | omega | assumption)) | (intros; simp (disch := omega) only [jst_eq, jst_ne, jst_ni, jst_o, jI_i, jcpy_out, w32_id, jdiv_nn, *] <;> first | done | omega) | (intros; simp (disch := omega) only [jst_eq, jst_ne, jst_ni, jst_o, jI_i, jcpy_out, w32_id, jdiv_nn] at * <;> first | done | omega | assumption) | (intros; first | rfl | (exfalso; omega) | ((repeat' apply And.intro) <;> first | assumption | rfl | omega | trivial)))) ?_ -- o3
      refine OK_jlx (fun x8 ex8 => ?_)
      try simp (disch := omega) only [jst_eq, jst_ne, jst_ni, jI_i, jcmp_lt, jcmp_gt, w32_id, jcpy_out, Sum.elim_inl, Sum.elim_inr, jt2, jt3, jt4, jt5, jt6, jt7, jt8] at ex8
      refine OK_if (fun c2 => ?_) (fun c2 => ?_)
      · skip
        try simp (disch := omega) only [jst_eq, jst_ne, jst_ni, jI_i, jcmp_lt, jcmp_gt, w32_id, jcpy_out, Sum.elim_inl, Sum.elim_inr, jt2, jt3, jt4, jt5, jt6, jt7, jt8] at c2
        refine OK_if (fun c3 => ?_) (fun c3 => ?_)
        · skip
          try simp (disch := omega) only [jst_eq, jst_ne, jst_ni, jI_i, jcmp_lt, jcmp_gt, w32_id, jcpy_out, Sum.elim_inl, Sum.elim_inr, jt2, jt3, jt4, jt5, jt6, jt7, jt8] at c3
          refine OK_jb (vX5_countLeaf (E := E) (Rf := Rf) (W := W) (A := A) (pts := pts) (wh := wh) (rv := rv) (M := M) (T := T) (n := n) _ _ (by (rw [w12]; exact q1)) (by exact tq) (by (rw [w12]; exact ⟨k, by omega, by omega, Or.inr (by rw [aE, ← pc.1]; assumption), by (rw [pE]; omega)⟩))) (fun h12 r1 => ?_)
          try dsimp only [Sum.elim_inl, Sum.elim_inr, jt2, jt3, jt4, jt5, jt6, jt7, jt8] at r1
          obtain ⟨cs1, fs1⟩ := r1
          try simp (disch := omega) only [jst_eq, jst_ne, jst_ni, jI_i, jcmp_lt, jcmp_gt, w32_id, jcpy_out, Sum.elim_inl, Sum.elim_inr, jt2, jt3, jt4, jt5, jt6, jt7, jt8] at cs1
          try simp (disch := omega) only [jst_eq, jst_ne, jst_ni, jI_i, jcmp_lt, jcmp_gt, w32_id, jcpy_out, Sum.elim_inl, Sum.elim_inr, jt2, jt3, jt4, jt5, jt6, jt7, jt8] at fs1
          unfold gX5_countOnce_j212_132
          refine OK_jlx (fun x16 ex16 => ?_)
          try simp (disch := omega) only [jst_eq, jst_ne, jst_ni, jI_i, jcmp_lt, jcmp_gt, w32_id, jcpy_out, Sum.elim_inl, Sum.elim_inr, jt2, jt3, jt4, jt5, jt6, jt7, jt8] at ex16
          refine OK_il ?_ ?_
          · try dsimp only [Sum.elim_inl, Sum.elim_inr, jt2, jt3, jt4, jt5, jt6, jt7, jt8]
            refine ⟨?_, ?_, ?_⟩
            · (first | assumption | omega | ((try dsimp only [jt2, jt3, jt4]); first | omega | (simp (disch := omega) only [jst_eq, jst_ne, jst_ni, jst_o, jI_i, jcpy_out, w32_id, jdiv_nn, jshr_k, jand_255] <;> first | done | omega | assumption)) | (intros; simp (disch := omega) only [jst_eq, jst_ne, jst_ni, jst_o, jI_i, jcpy_out, w32_id, jdiv_nn, *] <;> first | done | omega) | (intros; simp (disch := omega) only [jst_eq, jst_ne, jst_ni, jst_o, jI_i, jcpy_out, w32_id, jdiv_nn] at * <;> first | done | omega | assumption) | (intros; first | rfl | (exfalso; omega) | ((repeat' apply And.intro) <;> first | assumption | rfl | omega | trivial))) -- o7 e2i.1
            · (refine CS_c (by (first | rw [w12] at cs1 | rw [A3.1] at cs1); exact cs1) (fun f f0 f1 => ?_); rw [show x16 = a2 + 1 by omega, sE f]) -- o8 e2i.2
            · exact ⟨fC_t fr.1 fs1.1, fs1.2⟩ -- o9 e2i.3
          · (first | assumption | omega | ((try dsimp only [jt2, jt3, jt4]); first | omega | (simp (disch := omega) only [jst_eq, jst_ne, jst_ni, jst_o, jI_i, jcpy_out, w32_id, jdiv_nn, jshr_k, jand_255] <;> first | done | omega | assumption)) | (intros; simp (disch := omega) only [jst_eq, jst_ne, jst_ni, jst_o, jI_i, jcpy_out, w32_id, jdiv_nn, *] <;> first | done | omega) | (intros; simp (disch := omega) only [jst_eq, jst_ne, jst_ni, jst_o, jI_i, jcpy_out, w32_id, jdiv_nn] at * <;> first | done | omega | assumption) | (intros; first | rfl | (exfalso; omega) | ((repeat' apply And.intro) <;> first | assumption | rfl | omega | trivial))) -- o10 e2m
        · skip
          try simp (disch := omega) only [jst_eq, jst_ne, jst_ni, jI_i, jcmp_lt, jcmp_gt, w32_id, jcpy_out, Sum.elim_inl, Sum.elim_inr, jt2, jt3, jt4, jt5, jt6, jt7, jt8] at c3
          unfold gX5_countOnce_j212_132
          refine OK_jlx (fun x16 ex16 => ?_)
          try simp (disch := omega) only [jst_eq, jst_ne, jst_ni, jI_i, jcmp_lt, jcmp_gt, w32_id, jcpy_out, Sum.elim_inl, Sum.elim_inr, jt2, jt3, jt4, jt5, jt6, jt7, jt8] at ex16
          refine OK_il ?_ ?_
          · try dsimp only [Sum.elim_inl, Sum.elim_inr, jt2, jt3, jt4, jt5, jt6, jt7, jt8]
            refine ⟨?_, ?_, ?_⟩
            · (first | assumption | omega | ((try dsimp only [jt2, jt3, jt4]); first | omega | (simp (disch := omega) only [jst_eq, jst_ne, jst_ni, jst_o, jI_i, jcpy_out, w32_id, jdiv_nn, jshr_k, jand_255] <;> first | done | omega | assumption)) | (intros; simp (disch := omega) only [jst_eq, jst_ne, jst_ni, jst_o, jI_i, jcpy_out, w32_id, jdiv_nn, *] <;> first | done | omega) | (intros; simp (disch := omega) only [jst_eq, jst_ne, jst_ni, jst_o, jI_i, jcpy_out, w32_id, jdiv_nn] at * <;> first | done | omega | assumption) | (intros; first | rfl | (exfalso; omega) | ((repeat' apply And.intro) <;> first | assumption | rfl | omega | trivial))) -- o11 e3i.1
            · (refine CS_c q1 (fun f f0 f1 => ?_); rw [show x16 = a2 + 1 by omega, sE f, fiC_n tq.1 (by omega) (fun z => by (have z2 := z.2; omega))]; have ch : chC E W pts A (LV E W pts A n) (ct E W pts A) n f (A.1 + a2) = 0 := (by unfold chC; rw [cif_y (show iLf A (A.1 + a2) from Or.inr (by rw [aE, ← pc.1]; assumption)), cif_n (fun z => by (have z1 := z.1; omega))]); rw [ch, Int.add_zero]) -- o12 e3i.2
            · (first | assumption | omega | ((try dsimp only [jt2, jt3, jt4]); first | omega | (simp (disch := omega) only [jst_eq, jst_ne, jst_ni, jst_o, jI_i, jcpy_out, w32_id, jdiv_nn, jshr_k, jand_255] <;> first | done | omega | assumption)) | (intros; simp (disch := omega) only [jst_eq, jst_ne, jst_ni, jst_o, jI_i, jcpy_out, w32_id, jdiv_nn, *] <;> first | done | omega) | (intros; simp (disch := omega) only [jst_eq, jst_ne, jst_ni, jst_o, jI_i, jcpy_out, w32_id, jdiv_nn] at * <;> first | done | omega | assumption) | (intros; first | rfl | (exfalso; omega) | ((repeat' apply And.intro) <;> first | assumption | rfl | omega | trivial))) -- o13 e3i.3
          · (first | assumption | omega | ((try dsimp only [jt2, jt3, jt4]); first | omega | (simp (disch := omega) only [jst_eq, jst_ne, jst_ni, jst_o, jI_i, jcpy_out, w32_id, jdiv_nn, jshr_k, jand_255] <;> first | done | omega | assumption)) | (intros; simp (disch := omega) only [jst_eq, jst_ne, jst_ni, jst_o, jI_i, jcpy_out, w32_id, jdiv_nn, *] <;> first | done | omega) | (intros; simp (disch := omega) only [jst_eq, jst_ne, jst_ni, jst_o, jI_i, jcpy_out, w32_id, jdiv_nn] at * <;> first | done | omega | assumption) | (intros; first | rfl | (exfalso; omega) | ((repeat' apply And.intro) <;> first | assumption | rfl | omega | trivial))) -- o14 e3m
      · skip
        try simp (disch := omega) only [jst_eq, jst_ne, jst_ni, jI_i, jcmp_lt, jcmp_gt, w32_id, jcpy_out, Sum.elim_inl, Sum.elim_inr, jt2, jt3, jt4, jt5, jt6, jt7, jt8] at c2
        refine OK_if (fun c4 => ?_) (fun c4 => ?_)
        · skip
          try simp (disch := omega) only [jst_eq, jst_ne, jst_ni, jI_i, jcmp_lt, jcmp_gt, w32_id, jcpy_out, Sum.elim_inl, Sum.elim_inr, jt2, jt3, jt4, jt5, jt6, jt7, jt8] at c4
          have c4w : i1 - A.2.2.2.2.2.2.2 a2 ≤ 0 := by omega
          unfold gX5_countOnce_j212_132
          refine OK_jlx (fun x16 ex16 => ?_)
          try simp (disch := omega) only [jst_eq, jst_ne, jst_ni, jI_i, jcmp_lt, jcmp_gt, w32_id, jcpy_out, Sum.elim_inl, Sum.elim_inr, jt2, jt3, jt4, jt5, jt6, jt7, jt8] at ex16
          refine OK_il ?_ ?_
          · try dsimp only [Sum.elim_inl, Sum.elim_inr, jt2, jt3, jt4, jt5, jt6, jt7, jt8]
            refine ⟨?_, ?_, ?_⟩
            · (first | assumption | omega | ((try dsimp only [jt2, jt3, jt4]); first | omega | (simp (disch := omega) only [jst_eq, jst_ne, jst_ni, jst_o, jI_i, jcpy_out, w32_id, jdiv_nn, jshr_k, jand_255] <;> first | done | omega | assumption)) | (intros; simp (disch := omega) only [jst_eq, jst_ne, jst_ni, jst_o, jI_i, jcpy_out, w32_id, jdiv_nn, *] <;> first | done | omega) | (intros; simp (disch := omega) only [jst_eq, jst_ne, jst_ni, jst_o, jI_i, jcpy_out, w32_id, jdiv_nn] at * <;> first | done | omega | assumption) | (intros; first | rfl | (exfalso; omega) | ((repeat' apply And.intro) <;> first | assumption | rfl | omega | trivial))) -- o15 e4i.1
            · (refine CS_c q1 (fun f f0 f1 => ?_); rw [show x16 = a2 + 1 by omega, sE f]; have nl : ¬ iLf A (A.1 + a2) := (fun y => by (rcases y with y | y; { omega }; { rw [aE, ← pc.1] at y; exact c2 y })); rw [fiC_n tq.1 (by omega) (fun z => nl z.1)]; have ch : chC E W pts A (LV E W pts A n) (ct E W pts A) n f (A.1 + a2) = 0 := (by unfold chC; rw [cif_n nl, cif_n (by omega)]); rw [ch, Int.add_zero]) -- o16 e4i.2
            · (first | assumption | omega | ((try dsimp only [jt2, jt3, jt4]); first | omega | (simp (disch := omega) only [jst_eq, jst_ne, jst_ni, jst_o, jI_i, jcpy_out, w32_id, jdiv_nn, jshr_k, jand_255] <;> first | done | omega | assumption)) | (intros; simp (disch := omega) only [jst_eq, jst_ne, jst_ni, jst_o, jI_i, jcpy_out, w32_id, jdiv_nn, *] <;> first | done | omega) | (intros; simp (disch := omega) only [jst_eq, jst_ne, jst_ni, jst_o, jI_i, jcpy_out, w32_id, jdiv_nn] at * <;> first | done | omega | assumption) | (intros; first | rfl | (exfalso; omega) | ((repeat' apply And.intro) <;> first | assumption | rfl | omega | trivial))) -- o17 e4i.3
          · (first | assumption | omega | ((try dsimp only [jt2, jt3, jt4]); first | omega | (simp (disch := omega) only [jst_eq, jst_ne, jst_ni, jst_o, jI_i, jcpy_out, w32_id, jdiv_nn, jshr_k, jand_255] <;> first | done | omega | assumption)) | (intros; simp (disch := omega) only [jst_eq, jst_ne, jst_ni, jst_o, jI_i, jcpy_out, w32_id, jdiv_nn, *] <;> first | done | omega) | (intros; simp (disch := omega) only [jst_eq, jst_ne, jst_ni, jst_o, jI_i, jcpy_out, w32_id, jdiv_nn] at * <;> first | done | omega | assumption) | (intros; first | rfl | (exfalso; omega) | ((repeat' apply And.intro) <;> first | assumption | rfl | omega | trivial))) -- o18 e4m
        · skip
          try simp (disch := omega) only [jst_eq, jst_ne, jst_ni, jI_i, jcmp_lt, jcmp_gt, w32_id, jcpy_out, Sum.elim_inl, Sum.elim_inr, jt2, jt3, jt4, jt5, jt6, jt7, jt8] at c4
          have c4w : ¬ i1 - A.2.2.2.2.2.2.2 a2 ≤ 0 := by omega
          refine OK_jb (vX5_countAct (E := E) (Rf := Rf) (W := W) (A := A) (pts := pts) (wh := wh) (rv := rv) (M := M) (T := T) (n := n) (r0 := paC E W pts A n (A.1 + a2)) _ _ _ (by exact q1) (by exact tq) (by exact ⟨k, ⟨q0.1, by omega⟩, fun y => c2 (by rw [pc.1]; exact y), by omega, by omega⟩)) (fun h15 r2 => ?_)
          try dsimp only [Sum.elim_inl, Sum.elim_inr, jt2, jt3, jt4, jt5, jt6, jt7, jt8] at r2
          obtain ⟨cs2, fs2⟩ := r2
          try simp (disch := omega) only [jst_eq, jst_ne, jst_ni, jI_i, jcmp_lt, jcmp_gt, w32_id, jcpy_out, Sum.elim_inl, Sum.elim_inr, jt2, jt3, jt4, jt5, jt6, jt7, jt8] at cs2
          try simp (disch := omega) only [jst_eq, jst_ne, jst_ni, jI_i, jcmp_lt, jcmp_gt, w32_id, jcpy_out, Sum.elim_inl, Sum.elim_inr, jt2, jt3, jt4, jt5, jt6, jt7, jt8] at fs2
          unfold gX5_countOnce_j212_132
          refine OK_jlx (fun x16 ex16 => ?_)
          try simp (disch := omega) only [jst_eq, jst_ne, jst_ni, jI_i, jcmp_lt, jcmp_gt, w32_id, jcpy_out, Sum.elim_inl, Sum.elim_inr, jt2, jt3, jt4, jt5, jt6, jt7, jt8] at ex16
          refine OK_il ?_ ?_
          · try dsimp only [Sum.elim_inl, Sum.elim_inr, jt2, jt3, jt4, jt5, jt6, jt7, jt8]
            refine ⟨?_, ?_, ?_⟩
            · (first | assumption | omega | ((try dsimp only [jt2, jt3, jt4]); first | omega | (simp (disch := omega) only [jst_eq, jst_ne, jst_ni, jst_o, jI_i, jcpy_out, w32_id, jdiv_nn, jshr_k, jand_255] <;> first | done | omega | assumption)) | (intros; simp (disch := omega) only [jst_eq, jst_ne, jst_ni, jst_o, jI_i, jcpy_out, w32_id, jdiv_nn, *] <;> first | done | omega) | (intros; simp (disch := omega) only [jst_eq, jst_ne, jst_ni, jst_o, jI_i, jcpy_out, w32_id, jdiv_nn] at * <;> first | done | omega | assumption) | (intros; first | rfl | (exfalso; omega) | ((repeat' apply And.intro) <;> first | assumption | rfl | omega | trivial))) -- o22 e5i.1
            · (refine CS_c (by first | exact cs2 | exact cs3) (fun f f0 f1 => ?_); rw [show x16 = a2 + 1 by omega, sE f]; have nl : ¬ iLf A (A.1 + a2) := (fun y => by (rcases y with y | y; { omega }; { rw [aE, ← pc.1] at y; exact c2 y })); rw [fiC_n tq.1 (by omega) (fun z => nl z.1)]; have ch : chC E W pts A (LV E W pts A n) (ct E W pts A) n f (A.1 + a2) = sumN (cxC E W pts (LV E W pts A n) (ct E W pts A) (A.2.2.2.2.1 a2) x8 f) (LV E W pts A n).1.toNat := (by unfold chC; rw [cif_n nl, cif_y (by omega), aE, pE, show x8 = n - A.2.2.2.2.2.2.2 a2 by omega]); rw [ch]) -- o23 e5i.2
            · exact ⟨fC_t fr.1 (by first | exact fs2.1 | exact fs3.1), by first | exact fs2.2 | exact fs3.2⟩ -- o24 e5i.3
          · (first | assumption | omega | ((try dsimp only [jt2, jt3, jt4]); first | omega | (simp (disch := omega) only [jst_eq, jst_ne, jst_ni, jst_o, jI_i, jcpy_out, w32_id, jdiv_nn, jshr_k, jand_255] <;> first | done | omega | assumption)) | (intros; simp (disch := omega) only [jst_eq, jst_ne, jst_ni, jst_o, jI_i, jcpy_out, w32_id, jdiv_nn, *] <;> first | done | omega) | (intros; simp (disch := omega) only [jst_eq, jst_ne, jst_ni, jst_o, jI_i, jcpy_out, w32_id, jdiv_nn] at * <;> first | done | omega | assumption) | (intros; first | rfl | (exfalso; omega) | ((repeat' apply And.intro) <;> first | assumption | rfl | omega | trivial))) -- o25 e5m
  · try dsimp only [Sum.elim_inl, Sum.elim_inr, jt2, jt3, jt4, jt5, jt6, jt7, jt8]
    refine ⟨?_, ?_, ?_⟩
    · (have := cs.1.2.2.2.1; omega) -- o26 init.1
    · (rw [z, Int.add_zero]; exact cs) -- o27 init.2
    · exact ⟨fC_r _, cs.1.1.2.2.2.2⟩ -- o28 init.3
theorem vX5_countOnce (a1 : Int) {h : AH} {E : EV} {Rf : Int → TR} {W : Int → Int → Int → VW} {A : AD} {pts wh : Int} {rv : Int → Int} {M : Int → (Int → Int) → Prop} {T : TB} {n : Nat} (cs : CS h E Rf W A pts wh rv M T n (fun _ => 0)) (tq : TQ E W pts A n T) (k : a1 = n ∧ h 314 a1 = (LV E W pts A n).1) : OK (gX5_countOnce a1 h) (fun h' => (CS h' E Rf W A pts wh rv M T n (rowC E W pts A (LV E W pts A n) (ct E W pts A) n)) ∧ (fC h h' ∧ b10 h')) := by
  unfold gX5_countOnce
  refine OK_jb (vX5_countOnce_l2 (E := E) (Rf := Rf) (W := W) (A := A) (pts := pts) (wh := wh) (rv := rv) (M := M) (T := T) (n := n) _ _ (by exact cs) (by exact tq) (by exact k) (by rfl)) (fun o1 r1 => ?_)
  try dsimp only [Sum.elim_inl, Sum.elim_inr, jt2, jt3, jt4, jt5, jt6, jt7, jt8] at r1
  obtain ⟨cs1, fs1⟩ := r1
  try simp (disch := omega) only [jst_eq, jst_ne, jst_ni, jI_i, jcmp_lt, jcmp_gt, w32_id, jcpy_out, Sum.elim_inl, Sum.elim_inr, jt2, jt3, jt4, jt5, jt6, jt7, jt8] at cs1
  try simp (disch := omega) only [jst_eq, jst_ne, jst_ni, jI_i, jcmp_lt, jcmp_gt, w32_id, jcpy_out, Sum.elim_inl, Sum.elim_inr, jt2, jt3, jt4, jt5, jt6, jt7, jt8] at fs1
  refine OK_jb (vX5_countOnce_l99 (E := E) (Rf := Rf) (W := W) (A := A) (pts := pts) (wh := wh) (rv := rv) (M := M) (T := T) (n := n) _ _ (by exact cs1) (by exact tq) (by exact k.1) (by rfl)) (fun o3 r2 => ?_)
  try dsimp only [Sum.elim_inl, Sum.elim_inr, jt2, jt3, jt4, jt5, jt6, jt7, jt8] at r2
  obtain ⟨cs2, fs2⟩ := r2
  try simp (disch := omega) only [jst_eq, jst_ne, jst_ni, jI_i, jcmp_lt, jcmp_gt, w32_id, jcpy_out, Sum.elim_inl, Sum.elim_inr, jt2, jt3, jt4, jt5, jt6, jt7, jt8] at cs2
  try simp (disch := omega) only [jst_eq, jst_ne, jst_ni, jI_i, jcmp_lt, jcmp_gt, w32_id, jcpy_out, Sum.elim_inl, Sum.elim_inr, jt2, jt3, jt4, jt5, jt6, jt7, jt8] at fs2
  unfold gX5_countOnce_j130
  refine OK_jb (vX5_countOnce_l132 (E := E) (Rf := Rf) (W := W) (A := A) (pts := pts) (wh := wh) (rv := rv) (M := M) (T := T) (n := n) _ _ (by exact cs2) (by exact tq) (by exact k.1) (by rfl)) (fun o5 r3 => ?_)
  try dsimp only [Sum.elim_inl, Sum.elim_inr, jt2, jt3, jt4, jt5, jt6, jt7, jt8] at r3
  obtain ⟨cs3, fs3⟩ := r3
  try simp (disch := omega) only [jst_eq, jst_ne, jst_ni, jI_i, jcmp_lt, jcmp_gt, w32_id, jcpy_out, Sum.elim_inl, Sum.elim_inr, jt2, jt3, jt4, jt5, jt6, jt7, jt8] at cs3
  try simp (disch := omega) only [jst_eq, jst_ne, jst_ni, jI_i, jcmp_lt, jcmp_gt, w32_id, jcpy_out, Sum.elim_inl, Sum.elim_inr, jt2, jt3, jt4, jt5, jt6, jt7, jt8] at fs3
  refine OK_some ?_
  try dsimp only [Sum.elim_inl, Sum.elim_inr, jt2, jt3, jt4, jt5, jt6, jt7, jt8]
  try dsimp only [Sum.elim_inl, Sum.elim_inr, jt2, jt3, jt4, jt5, jt6, jt7, jt8]
  refine ⟨?_, ?_⟩
  · exact cs3 -- o13 e1.1
  · exact ⟨fC_t fs1.1 (fC_t fs2.1 fs3.1), fs3.2⟩ -- o14 e1.2
/-- x's counts up to a price -/
def CT (h : AH) (E : EV) (Rf : Int → TR) (W : Int → Int → Int → VW) (A : AD) (pts wh : Int) (rv : Int → Int) (M : Int → (Int → Int) → Prop) (T : TB) (n : Nat) : Prop := seX h E Rf W (fun _ _ _ => 0) A pts wh rv ∧ XI h E W A pts M T ∧ h 307 17 = n ∧ cnX h (ct E W pts A)
theorem CT_CS {h : AH} {E : EV} {Rf : Int → TR} {W : Int → Int → Int → VW} {A : AD} {pts wh : Int} {rv : Int → Int} {M : Int → (Int → Int) → Prop} {T : TB} {n : Nat} (c : CT h E Rf W A pts wh rv M T n) : CS h E Rf W A pts wh rv M T (n + 1) (fun _ => 0) := ⟨c.1, c.2.1, fun i f a b d e => by
  rw [c.2.2.2 i f a b d e, c.2.2.1]
  by_cases y : 1 ≤ i ∧ i ≤ (n : Int)
  · rw [if_pos y, if_pos (by omega)]
  · rw [if_neg y]
    by_cases z : i < ((n + 1 : Nat) : Int)
    · rw [if_pos z, ct_n (by omega)]
    · rw [if_neg z]
      split <;> rfl⟩
theorem CS_CT {h : AH} {E : EV} {Rf : Int → TR} {W : Int → Int → Int → VW} {A : AD} {pts wh : Int} {rv : Int → Int} {M : Int → (Int → Int) → Prop} {T : TB} {n : Nat} (tq : TQ E W pts A (n + 1) T) (c : CS h E Rf W A pts wh rv M T (n + 1) (rowC E W pts A (LV E W pts A (n + 1)) (ct E W pts A) ((n + 1 : Nat) : Int))) : CT (jst h 307 17 ((n : Int) + 1)) E Rf W A pts wh rv M T (n + 1) := by
  have F : fS h (jst h 307 17 ((n : Int) + 1)) := fun a s y1 y2 y3 y4 => jst_o (by omega)
  have n12 := tq.1.1
  refine ⟨seX_S c.1 F ?_, XI_f (fun a s y1 y2 => jst_o (by omega)) c.2.1, jst_eq, fun i f a b d e => ?_⟩
  · show b10 _
    unfold b10
    rw [jst_o (by omega)]
    exact c.1.1.2.2.2.2
  · have e17 : jst h 307 17 ((n : Int) + 1) 307 17 = (n : Int) + 1 := jst_eq
    rw [jst_o (by omega), e17, c.2.2 i f a b d e]
    by_cases y : i < ((n + 1 : Nat) : Int)
    · rw [if_pos y]
      by_cases z : 1 ≤ i
      · rw [if_pos (by omega)]
      · rw [if_neg (by omega), ct_n (by omega)]
    · rw [if_neg y]
      by_cases z : i = ((n + 1 : Nat) : Int)
      · have cb := ct_b tq.1 (q := ((n + 1 : Nat) : Int)) (f := f) (Int.le_refl _) d
        have c0 := ct_0 (E := E) (W := W) (pts := pts) (A := A) ((n + 1 : Nat) : Int) f
        have cr := ct_row (E := E) (W := W) (pts := pts) (A := A) (f := f) (ppA_V tq.1.2.2.2.1) (n := n + 1) (by omega) (by omega)
        rw [if_pos z, if_pos (by omega), ← cr, w64_id (by omega) (by omega), z]
      · rw [if_neg z, if_neg (by omega)]
def f17 (h h' : AH) : Prop := ∀ a s, ¬ (a = 200 ∧ (s = 9 ∨ s = 10)) → ¬ (a = 269 ∧ 0 ≤ s) → ¬ (a = 307 ∧ (s = 0 ∨ s = 17)) → ¬ (308 ≤ a ∧ a ≤ 321 ∧ a ≠ 314 ∧ a ≠ 318 ∧ a ≠ 319 ∧ 0 ≤ s) → h' a s = h a s
theorem fC_17 {h h' : AH} (f : fC h h') : f17 h h' := fun a s y1 y2 y3 y4 => f a s y1 y2 (by omega) y4
theorem f17_t {h h1 h2 : AH} (a : f17 h h1) (b : f17 h1 h2) : f17 h h2 := fun x s y1 y2 y3 y4 => (b x s y1 y2 y3 y4).trans (a x s y1 y2 y3 y4)
theorem TQ_le {E : EV} {W : Int → Int → Int → VW} {pts : Int} {A : AD} {n m : Nat} {T : TB} (t : TQ E W pts A n T) (w : acE E ∧ wTy E W) (m1 : 1 ≤ m) (l : m ≤ n) : TQ E W pts A m T := ⟨CQ_le t.1 m1 l, extT_t (ext_LV n l) t.2.1, tyV_GT w.1 w.2 t.1.2.2.2.1 (t.1.2.1 m l), t.2.2.2⟩
theorem vX5_count_l0 (i1 : Int) {h0 : AH} {E : EV} {Rf : Int → TR} {W : Int → Int → Int → VW} {A : AD} {pts wh : Int} {rv : Int → Int} {M : Int → (Int → Int) → Prop} {T : TB} {p n0 : Nat} (ct : CT h0 E Rf W A pts wh rv M T n0) (tq : TQ E W pts A p T) (up : ∀ m : Nat, m ≤ p → h0 314 m = (LV E W pts A m).1) (k : i1 = p) : OK (gX5_count_l0 i1 h0) (fun h' => (∃ n : Nat, CT h' E Rf W A pts wh rv M T n ∧ p ≤ n ∧ (n = n0 ∨ n ≤ p)) ∧ (f17 h0 h' ∧ b10 h')) := by
  unfold gX5_count_l0
  refine OK_jit (I := (fun (h : AH) => (∃ n : Nat, CT h E Rf W A pts wh rv M T n ∧ ((n : Int) = n0 ∨ n ≤ p) ∧ n0 ≤ n) ∧ (f17 h0 h ∧ b10 h))) (m := (fun (h : AH) => (p - h 307 17).toNat)) ?_ ?_
  · intro h hs
    try dsimp only at hs
    obtain ⟨q1, fr⟩ := hs
    unfold gX5_count_b0
    obtain ⟨n, CTn, nl, nm⟩ := q1
    have p12 := tq.1.1
    have e17 := CTn.2.2.1
    refine OK_if (fun c1 => ?_) (fun c1 => ?_)
    · skip
      try simp (disch := omega) only [jst_eq, jst_ne, jst_ni, jI_i, jcmp_lt, jcmp_gt, w32_id, jcpy_out, Sum.elim_inl, Sum.elim_inr, jt2, jt3, jt4, jt5, jt6, jt7, jt8] at c1
      refine OK_ir ?_
      try dsimp only [Sum.elim_inl, Sum.elim_inr, jt2, jt3, jt4, jt5, jt6, jt7, jt8]
      refine ⟨?_, ?_⟩
      · exact ⟨n, CTn, by omega, by omega⟩ -- o1 e1.1
      · exact fr -- o2 e1.2
    · skip
      try simp (disch := omega) only [jst_eq, jst_ne, jst_ni, jI_i, jcmp_lt, jcmp_gt, w32_id, jcpy_out, Sum.elim_inl, Sum.elim_inr, jt2, jt3, jt4, jt5, jt6, jt7, jt8] at c1
      have TQn := TQ_le tq ⟨CTn.1.1.2.1.2.1, wOK_ty CTn.1.1.2.1.2.2.1⟩ (m := n + 1) (by omega) (by omega)
      have w1 : w32 (h 307 17 + 1) = ((n + 1 : Nat) : Int) := by { rw [e17, w32_id (by omega) (by omega)]; omega }
      refine OK_jb (vX5_countOnce (E := E) (Rf := Rf) (W := W) (A := A) (pts := pts) (wh := wh) (rv := rv) (M := M) (T := T) (n := n + 1) _ (by exact CT_CS CTn) (by exact TQn) (by (rw [w1]; exact ⟨rfl, by (rw [fr.1 _ _ (by omega) (by omega) (by omega) (by omega)]; exact up (n + 1) (by omega))⟩))) (fun h5 r1 => ?_)
      try dsimp only [Sum.elim_inl, Sum.elim_inr, jt2, jt3, jt4, jt5, jt6, jt7, jt8] at r1
      obtain ⟨cs1, fs1⟩ := r1
      try simp (disch := omega) only [jst_eq, jst_ne, jst_ni, jI_i, jcmp_lt, jcmp_gt, w32_id, jcpy_out, Sum.elim_inl, Sum.elim_inr, jt2, jt3, jt4, jt5, jt6, jt7, jt8] at cs1
      try simp (disch := omega) only [jst_eq, jst_ne, jst_ni, jI_i, jcmp_lt, jcmp_gt, w32_id, jcpy_out, Sum.elim_inl, Sum.elim_inr, jt2, jt3, jt4, jt5, jt6, jt7, jt8] at fs1
      have e5 : h5 307 17 = n := by { rw [fs1.1 _ _ (by omega) (by omega) (by omega) (by omega)]; exact e17 }
      have w5 : w32 (h5 307 17 + 1) = (n : Int) + 1 := by { rw [e5, w32_id (by omega) (by omega)] }
      rw [w5]
      refine OK_jl ?_
      refine OK_il ?_ ?_
      · try dsimp only [Sum.elim_inl, Sum.elim_inr, jt2, jt3, jt4, jt5, jt6, jt7, jt8]
        refine ⟨?_, ?_⟩
        · exact ⟨n + 1, CS_CT TQn cs1, Or.inr (by omega), by omega⟩ -- o6 e2i.1
        · (refine ⟨f17_t fr.1 (f17_t (fC_17 fs1.1) (fun a s y1 y2 y3 y4 => jst_o (by omega))), ?_⟩; unfold b10; rw [jst_o (by omega)]; exact fs1.2) -- o7 e2i.2
      · (have e6 : jst h5 307 17 ((n : Int) + 1) 307 17 = (n : Int) + 1 := jst_eq; rw [e6]; omega) -- o8 e2m
  · try dsimp only [Sum.elim_inl, Sum.elim_inr, jt2, jt3, jt4, jt5, jt6, jt7, jt8]
    refine ⟨?_, ?_⟩
    · exact ⟨n0, ct, Or.inl rfl, Nat.le_refl _⟩ -- o9 init.1
    · exact ⟨fun _ _ _ _ _ _ => rfl, ct.1.1.2.2.2.2⟩ -- o10 init.2
theorem vX5_count (a1 : Int) {h : AH} {E : EV} {Rf : Int → TR} {W : Int → Int → Int → VW} {A : AD} {pts wh : Int} {rv : Int → Int} {M : Int → (Int → Int) → Prop} {T : TB} {p n0 : Nat} (ct : CT h E Rf W A pts wh rv M T n0) (tq : TQ E W pts A p T) (up : ∀ m : Nat, m ≤ p → h 314 m = (LV E W pts A m).1) (k : a1 = p) : OK (gX5_count a1 h) (fun h' => (∃ n : Nat, CT h' E Rf W A pts wh rv M T n ∧ p ≤ n ∧ (n = n0 ∨ n ≤ p)) ∧ (f17 h h' ∧ b10 h')) := by
  unfold gX5_count
  refine OK_jb (vX5_count_l0 (E := E) (Rf := Rf) (W := W) (A := A) (pts := pts) (wh := wh) (rv := rv) (M := M) (T := T) (p := p) (n0 := n0) _ (by exact ct) (by exact tq) (by exact up) (by exact k)) (fun o1 r1 => ?_)
  try dsimp only [Sum.elim_inl, Sum.elim_inr, jt2, jt3, jt4, jt5, jt6, jt7, jt8] at r1
  obtain ⟨ct1, fs1⟩ := r1
  try simp (disch := omega) only [jst_eq, jst_ne, jst_ni, jI_i, jcmp_lt, jcmp_gt, w32_id, jcpy_out, Sum.elim_inl, Sum.elim_inr, jt2, jt3, jt4, jt5, jt6, jt7, jt8] at ct1
  try simp (disch := omega) only [jst_eq, jst_ne, jst_ni, jI_i, jcmp_lt, jcmp_gt, w32_id, jcpy_out, Sum.elim_inl, Sum.elim_inr, jt2, jt3, jt4, jt5, jt6, jt7, jt8] at fs1
  refine OK_some ?_
  try dsimp only [Sum.elim_inl, Sum.elim_inr, jt2, jt3, jt4, jt5, jt6, jt7, jt8]
  try dsimp only [Sum.elim_inl, Sum.elim_inr, jt2, jt3, jt4, jt5, jt6, jt7, jt8]
  refine ⟨?_, ?_⟩
  · (first | assumption | omega | ((try dsimp only [jt2, jt3, jt4]); first | omega | (simp (disch := omega) only [jst_eq, jst_ne, jst_ni, jst_o, jI_i, jcpy_out, w32_id, jdiv_nn, jshr_k, jand_255] <;> first | done | omega | assumption)) | (intros; simp (disch := omega) only [jst_eq, jst_ne, jst_ni, jst_o, jI_i, jcpy_out, w32_id, jdiv_nn, *] <;> first | done | omega) | (intros; simp (disch := omega) only [jst_eq, jst_ne, jst_ni, jst_o, jI_i, jcpy_out, w32_id, jdiv_nn] at * <;> first | done | omega | assumption) | (intros; first | rfl | (exfalso; omega) | ((repeat' apply And.intro) <;> first | assumption | rfl | omega | trivial))) -- o5 e1.1
  · (first | assumption | omega | ((try dsimp only [jt2, jt3, jt4]); first | omega | (simp (disch := omega) only [jst_eq, jst_ne, jst_ni, jst_o, jI_i, jcpy_out, w32_id, jdiv_nn, jshr_k, jand_255] <;> first | done | omega | assumption)) | (intros; simp (disch := omega) only [jst_eq, jst_ne, jst_ni, jst_o, jI_i, jcpy_out, w32_id, jdiv_nn, *] <;> first | done | omega) | (intros; simp (disch := omega) only [jst_eq, jst_ne, jst_ni, jst_o, jI_i, jcpy_out, w32_id, jdiv_nn] at * <;> first | done | omega | assumption) | (intros; first | rfl | (exfalso; omega) | ((repeat' apply And.intro) <;> first | assumption | rfl | omega | trivial))) -- o6 e1.2

