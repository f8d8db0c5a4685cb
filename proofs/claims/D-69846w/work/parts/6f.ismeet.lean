/-! x: whether a function of the table meets -/
def f315 (i : Int) (h h' : AH) : Prop := ∀ a s, ¬ (a = 200 ∧ (s = 9 ∨ s = 10 ∨ s = 14 ∨ s = 15)) → ¬ (a = 269 ∧ 0 ≤ s) → ¬ (a = 315 ∧ s = i) → h' a s = h a s
/-- what is kept of a function's meeting -/
def mkS (h : AH) (i : Int) (P : Prop) : Prop := (h 315 i = 1 ∧ P) ∨ (h 315 i = 0 ∧ ¬ P)
theorem vX5_isMeeting_j58 (a1 : Int) {h : AH} {P : Prop} (a : 0 ≤ a1 ∧ a1 < 121) (k : mkS h a1 P) : OK (gX5_isMeeting_j58 a1 h) (fun r => jt2 r fun v h' => ((v = 1 ∧ P) ∨ (v = 0 ∧ ¬ P)) ∧ (h' = h)) := by
  unfold gX5_isMeeting_j58
  refine OK_jg (by (first | assumption | omega | ((try dsimp only [jt2, jt3, jt4]); first | omega | (simp (disch := omega) only [jst_eq, jst_ne, jst_ni, jst_o, jI_i, jcpy_out, w32_id, jdiv_nn, jshr_k, jand_255] <;> first | done | omega | assumption)) | (intros; simp (disch := omega) only [jst_eq, jst_ne, jst_ni, jst_o, jI_i, jcpy_out, w32_id, jdiv_nn, *] <;> first | done | omega) | (intros; simp (disch := omega) only [jst_eq, jst_ne, jst_ni, jst_o, jI_i, jcpy_out, w32_id, jdiv_nn] at * <;> first | done | omega | assumption) | (intros; first | rfl | (exfalso; omega) | ((repeat' apply And.intro) <;> first | assumption | rfl | omega | trivial)))) ?_ -- o1
  refine OK_if (fun c1 => ?_) (fun c1 => ?_)
  · skip
    try simp (disch := omega) only [jst_eq, jst_ne, jst_ni, jI_i, jcmp_lt, jcmp_gt, w32_id, jcpy_out, Sum.elim_inl, Sum.elim_inr, jt2, jt3, jt4, jt5, jt6, jt7, jt8] at c1
    refine OK_some ?_
    try dsimp only [Sum.elim_inl, Sum.elim_inr, jt2, jt3, jt4, jt5, jt6, jt7, jt8]
    try dsimp only [Sum.elim_inl, Sum.elim_inr, jt2, jt3, jt4, jt5, jt6, jt7, jt8]
    refine ⟨?_, ?_⟩
    · (rcases k with z | z; { exact Or.inl ⟨rfl, z.2⟩ }; { exact absurd z.1 (by omega) }) -- o2 e1.1
    · (first | assumption | omega | ((try dsimp only [jt2, jt3, jt4]); first | omega | (simp (disch := omega) only [jst_eq, jst_ne, jst_ni, jst_o, jI_i, jcpy_out, w32_id, jdiv_nn, jshr_k, jand_255] <;> first | done | omega | assumption)) | (intros; simp (disch := omega) only [jst_eq, jst_ne, jst_ni, jst_o, jI_i, jcpy_out, w32_id, jdiv_nn, *] <;> first | done | omega) | (intros; simp (disch := omega) only [jst_eq, jst_ne, jst_ni, jst_o, jI_i, jcpy_out, w32_id, jdiv_nn] at * <;> first | done | omega | assumption) | (intros; first | rfl | (exfalso; omega) | ((repeat' apply And.intro) <;> first | assumption | rfl | omega | trivial))) -- o3 e1.2
  · skip
    try simp (disch := omega) only [jst_eq, jst_ne, jst_ni, jI_i, jcmp_lt, jcmp_gt, w32_id, jcpy_out, Sum.elim_inl, Sum.elim_inr, jt2, jt3, jt4, jt5, jt6, jt7, jt8] at c1
    refine OK_some ?_
    try dsimp only [Sum.elim_inl, Sum.elim_inr, jt2, jt3, jt4, jt5, jt6, jt7, jt8]
    try dsimp only [Sum.elim_inl, Sum.elim_inr, jt2, jt3, jt4, jt5, jt6, jt7, jt8]
    refine ⟨?_, ?_⟩
    · (rcases k with z | z; { exact absurd z.1 (by omega) }; { exact Or.inr ⟨rfl, z.2⟩ }) -- o4 e2.1
    · (first | assumption | omega | ((try dsimp only [jt2, jt3, jt4]); first | omega | (simp (disch := omega) only [jst_eq, jst_ne, jst_ni, jst_o, jI_i, jcpy_out, w32_id, jdiv_nn, jshr_k, jand_255] <;> first | done | omega | assumption)) | (intros; simp (disch := omega) only [jst_eq, jst_ne, jst_ni, jst_o, jI_i, jcpy_out, w32_id, jdiv_nn, *] <;> first | done | omega) | (intros; simp (disch := omega) only [jst_eq, jst_ne, jst_ni, jst_o, jI_i, jcpy_out, w32_id, jdiv_nn] at * <;> first | done | omega | assumption) | (intros; first | rfl | (exfalso; omega) | ((repeat' apply And.intro) <;> first | assumption | rfl | omega | trivial))) -- o5 e2.2
theorem vX5_isMeeting (a1 : Int) {h : AH} {E : EV} {Rf : Int → TR} {W : Int → Int → Int → VW} {hl ra : Int → Int} {n wh pts rn ln : Int} {kf rv nn : Int → Int} {lk : Int → Int → Int} {LL LR : Int → TR} {N : Int} {kd wt hd : Int → Int} {op vl : Int → Int → Int} (m : mtX h E Rf W hl n kf wh rv pts rn ra ln nn lk LL LR) (t : tbX h N kd wt hd op vl pts) (a : 0 ≤ a1 ∧ a1 < N) (kz : h (h 200 16) 2 = eK E (-2) (eO E (-2))) (l : h 312 (-2) = 101 ∧ h 312 (-1) = 30976) (st : h 315 a1 = -1 ∨ mkS h a1 (kd a1 = eK E (-2) (eO E (-2)) ∧ mtA E W hl rn (rpA n kf wh rv) ra ln nn lk LL LR (vl a1))) (o : kd a1 = eK E (-2) (eO E (-2)) → ∀ p, 0 ≤ p → p < pts → okV (eK E (-2) (eO E (-2))) (vl a1 p)) : OK (gX5_isMeeting a1 h) (fun r => jt2 r fun v h' => ((v = 1 ∧ (kd a1 = eK E (-2) (eO E (-2)) ∧ mtA E W hl rn (rpA n kf wh rv) ra ln nn lk LL LR (vl a1))) ∨ (v = 0 ∧ ¬ (kd a1 = eK E (-2) (eO E (-2)) ∧ mtA E W hl rn (rpA n kf wh rv) ra ln nn lk LL LR (vl a1)))) ∧ (mkS h' a1 (kd a1 = eK E (-2) (eO E (-2)) ∧ mtA E W hl rn (rpA n kf wh rv) ra ln nn lk LL LR (vl a1))) ∧ (f315 a1 h h' ∧ -2147483648 ≤ h' 200 10 ∧ h' 200 10 < 2147483648)) := by
  obtain ⟨t1, t2, t3, t4, t5, t6, t7, t8⟩ := t
  have xx : h 200 16 = 271 ∨ h 200 16 = 289 := t1
  have T8 := t8 a1 a.1 a.2
  have bb := m.1.2.2.2.2
  have w1 : w32 (a1 * 256) = a1 * 256 := w32_id (by omega) (by omega)
  unfold gX5_isMeeting
  refine OK_jg (by (first | assumption | omega | ((try dsimp only [jt2, jt3, jt4]); first | omega | (simp (disch := omega) only [jst_eq, jst_ne, jst_ni, jst_o, jI_i, jcpy_out, w32_id, jdiv_nn, jshr_k, jand_255] <;> first | done | omega | assumption)) | (intros; simp (disch := omega) only [jst_eq, jst_ne, jst_ni, jst_o, jI_i, jcpy_out, w32_id, jdiv_nn, *] <;> first | done | omega) | (intros; simp (disch := omega) only [jst_eq, jst_ne, jst_ni, jst_o, jI_i, jcpy_out, w32_id, jdiv_nn] at * <;> first | done | omega | assumption) | (intros; first | rfl | (exfalso; omega) | ((repeat' apply And.intro) <;> first | assumption | rfl | omega | trivial)))) ?_ -- o1
  refine OK_if (fun c1 => ?_) (fun c1 => ?_)
  · skip
    try simp (disch := omega) only [jst_eq, jst_ne, jst_ni, jI_i, jcmp_lt, jcmp_gt, w32_id, jcpy_out, Sum.elim_inl, Sum.elim_inr, jt2, jt3, jt4, jt5, jt6, jt7, jt8] at c1
    refine OK_mono (vX5_isMeeting_j58 (P := (kd a1 = eK E (-2) (eO E (-2)) ∧ mtA E W hl rn (rpA n kf wh rv) ra ln nn lk LL LR (vl a1))) _ (by (first | assumption | omega | ((try dsimp only [jt2, jt3, jt4]); first | omega | (simp (disch := omega) only [jst_eq, jst_ne, jst_ni, jst_o, jI_i, jcpy_out, w32_id, jdiv_nn, jshr_k, jand_255] <;> first | done | omega | assumption)) | (intros; simp (disch := omega) only [jst_eq, jst_ne, jst_ni, jst_o, jI_i, jcpy_out, w32_id, jdiv_nn, *] <;> first | done | omega) | (intros; simp (disch := omega) only [jst_eq, jst_ne, jst_ni, jst_o, jI_i, jcpy_out, w32_id, jdiv_nn] at * <;> first | done | omega | assumption) | (intros; first | rfl | (exfalso; omega) | ((repeat' apply And.intro) <;> first | assumption | rfl | omega | trivial)))) (by (rcases st with z | z; { exact absurd z (by omega) }; { exact z }))) (fun r r1 => ?_)
    obtain ⟨y1, y2⟩ := r
    try dsimp only [Sum.elim_inl, Sum.elim_inr, jt2, jt3, jt4, jt5, jt6, jt7, jt8] at r1
    obtain ⟨hv1, fs1⟩ := r1
    try simp (disch := omega) only [jst_eq, jst_ne, jst_ni, jI_i, jcmp_lt, jcmp_gt, w32_id, jcpy_out, Sum.elim_inl, Sum.elim_inr, jt2, jt3, jt4, jt5, jt6, jt7, jt8] at hv1
    try simp (disch := omega) only [jst_eq, jst_ne, jst_ni, jI_i, jcmp_lt, jcmp_gt, w32_id, jcpy_out, Sum.elim_inl, Sum.elim_inr, jt2, jt3, jt4, jt5, jt6, jt7, jt8] at fs1
    try dsimp only [Sum.elim_inl, Sum.elim_inr, jt2, jt3, jt4, jt5, jt6, jt7, jt8]
    try dsimp only [Sum.elim_inl, Sum.elim_inr, jt2, jt3, jt4, jt5, jt6, jt7, jt8]
    refine ⟨?_, ?_, ?_⟩
    · (first | assumption | omega | ((try dsimp only [jt2, jt3, jt4]); first | omega | (simp (disch := omega) only [jst_eq, jst_ne, jst_ni, jst_o, jI_i, jcpy_out, w32_id, jdiv_nn, jshr_k, jand_255] <;> first | done | omega | assumption)) | (intros; simp (disch := omega) only [jst_eq, jst_ne, jst_ni, jst_o, jI_i, jcpy_out, w32_id, jdiv_nn, *] <;> first | done | omega) | (intros; simp (disch := omega) only [jst_eq, jst_ne, jst_ni, jst_o, jI_i, jcpy_out, w32_id, jdiv_nn] at * <;> first | done | omega | assumption) | (intros; first | rfl | (exfalso; omega) | ((repeat' apply And.intro) <;> first | assumption | rfl | omega | trivial))) -- o4 e1.1
    · (rw [fs1]; rcases st with z | z; { exact absurd z (by omega) }; { exact z }) -- o5 e1.2
    · (rw [fs1]; exact ⟨fun _ _ _ _ _ => rfl, bb⟩) -- o6 e1.3
  · skip
    try simp (disch := omega) only [jst_eq, jst_ne, jst_ni, jI_i, jcmp_lt, jcmp_gt, w32_id, jcpy_out, Sum.elim_inl, Sum.elim_inr, jt2, jt3, jt4, jt5, jt6, jt7, jt8] at c1
    refine OK_if (fun c2 => ?_) (fun c2 => ?_)
    · skip
      try simp (disch := omega) only [jst_eq, jst_ne, jst_ni, jI_i, jcmp_lt, jcmp_gt, w32_id, jcpy_out, Sum.elim_inl, Sum.elim_inr, jt2, jt3, jt4, jt5, jt6, jt7, jt8] at c2
      have ke : kd a1 = eK E (-2) (eO E (-2)) := by omega
      refine OK_jb2 (vX1_meet (E := E) (Rf := Rf) (W := W) (hl := hl) (n := n) (kf := kf) (wh := wh) (rv := rv) (pts := pts) (rn := rn) (ra := ra) (ln := ln) (nn := nn) (lk := lk) (LL := LL) (LR := LR) (g := vl a1) _ _ (by exact m) (by (first | rw [w1] | skip); exact ⟨l.1, by decide, by decide, by omega, by omega, by omega, fun p p0 p1 => by rw [show a1 * 256 + p = 256 * a1 + p by omega]; exact T8.2.2.2.2.1 p p0 p1⟩) (by exact fun _ => o ke)) (fun v4 h5 r2 => ?_)
      try dsimp only [Sum.elim_inl, Sum.elim_inr, jt2, jt3, jt4, jt5, jt6, jt7, jt8] at r2
      obtain ⟨hv2, fs2⟩ := r2
      try simp (disch := omega) only [jst_eq, jst_ne, jst_ni, jI_i, jcmp_lt, jcmp_gt, w32_id, jcpy_out, Sum.elim_inl, Sum.elim_inr, jt2, jt3, jt4, jt5, jt6, jt7, jt8] at hv2
      try simp (disch := omega) only [jst_eq, jst_ne, jst_ni, jI_i, jcmp_lt, jcmp_gt, w32_id, jcpy_out, Sum.elim_inl, Sum.elim_inr, jt2, jt3, jt4, jt5, jt6, jt7, jt8] at fs2
      refine OK_if (fun c3 => ?_) (fun c3 => ?_)
      · skip
        try simp (disch := omega) only [jst_eq, jst_ne, jst_ni, jI_i, jcmp_lt, jcmp_gt, w32_id, jcpy_out, Sum.elim_inl, Sum.elim_inr, jt2, jt3, jt4, jt5, jt6, jt7, jt8] at c3
        refine OK_jl ?_
        have MK : mkS (jst h5 315 a1 0) a1 (kd a1 = eK E (-2) (eO E (-2)) ∧ mtA E W hl rn (rpA n kf wh rv) ra ln nn lk LL LR (vl a1)) := Or.inr ⟨jst_eq, fun y => by (rcases hv2 with z | z; { exact absurd z.1 (by omega) }; { exact z.2 y.2 })⟩
        have FR : f315 a1 h (jst h5 315 a1 0) := fun a s y1 y2 y3 => by { rw [jst_o y3]; exact fs2.1 a s y1 y2 }
        have BQ : jst h5 315 a1 0 200 10 = h5 200 10 := jst_o (by omega)
        refine OK_mono (vX5_isMeeting_j58 (P := (kd a1 = eK E (-2) (eO E (-2)) ∧ mtA E W hl rn (rpA n kf wh rv) ra ln nn lk LL LR (vl a1))) _ (by (first | assumption | omega | ((try dsimp only [jt2, jt3, jt4]); first | omega | (simp (disch := omega) only [jst_eq, jst_ne, jst_ni, jst_o, jI_i, jcpy_out, w32_id, jdiv_nn, jshr_k, jand_255] <;> first | done | omega | assumption)) | (intros; simp (disch := omega) only [jst_eq, jst_ne, jst_ni, jst_o, jI_i, jcpy_out, w32_id, jdiv_nn, *] <;> first | done | omega) | (intros; simp (disch := omega) only [jst_eq, jst_ne, jst_ni, jst_o, jI_i, jcpy_out, w32_id, jdiv_nn] at * <;> first | done | omega | assumption) | (intros; first | rfl | (exfalso; omega) | ((repeat' apply And.intro) <;> first | assumption | rfl | omega | trivial)))) (by exact MK)) (fun r r3 => ?_)
        obtain ⟨y3, y4⟩ := r
        try dsimp only [Sum.elim_inl, Sum.elim_inr, jt2, jt3, jt4, jt5, jt6, jt7, jt8] at r3
        obtain ⟨hv3, fs3⟩ := r3
        try simp (disch := omega) only [jst_eq, jst_ne, jst_ni, jI_i, jcmp_lt, jcmp_gt, w32_id, jcpy_out, Sum.elim_inl, Sum.elim_inr, jt2, jt3, jt4, jt5, jt6, jt7, jt8] at hv3
        try simp (disch := omega) only [jst_eq, jst_ne, jst_ni, jI_i, jcmp_lt, jcmp_gt, w32_id, jcpy_out, Sum.elim_inl, Sum.elim_inr, jt2, jt3, jt4, jt5, jt6, jt7, jt8] at fs3
        try dsimp only [Sum.elim_inl, Sum.elim_inr, jt2, jt3, jt4, jt5, jt6, jt7, jt8]
        try dsimp only [Sum.elim_inl, Sum.elim_inr, jt2, jt3, jt4, jt5, jt6, jt7, jt8]
        refine ⟨?_, ?_, ?_⟩
        · (first | assumption | omega | ((try dsimp only [jt2, jt3, jt4]); first | omega | (simp (disch := omega) only [jst_eq, jst_ne, jst_ni, jst_o, jI_i, jcpy_out, w32_id, jdiv_nn, jshr_k, jand_255] <;> first | done | omega | assumption)) | (intros; simp (disch := omega) only [jst_eq, jst_ne, jst_ni, jst_o, jI_i, jcpy_out, w32_id, jdiv_nn, *] <;> first | done | omega) | (intros; simp (disch := omega) only [jst_eq, jst_ne, jst_ni, jst_o, jI_i, jcpy_out, w32_id, jdiv_nn] at * <;> first | done | omega | assumption) | (intros; first | rfl | (exfalso; omega) | ((repeat' apply And.intro) <;> first | assumption | rfl | omega | trivial))) -- o12 e2.1
        · ((first | rw [fs3] | rw [fs4] | rw [fs5]); exact MK) -- o13 e2.2
        · ((first | rw [fs3] | rw [fs4] | rw [fs5]); refine ⟨FR, ?_⟩; rw [BQ]; first | exact bb | exact fs2.2) -- o14 e2.3
      · skip
        try simp (disch := omega) only [jst_eq, jst_ne, jst_ni, jI_i, jcmp_lt, jcmp_gt, w32_id, jcpy_out, Sum.elim_inl, Sum.elim_inr, jt2, jt3, jt4, jt5, jt6, jt7, jt8] at c3
        refine OK_jl ?_
        have MK : mkS (jst h5 315 a1 1) a1 (kd a1 = eK E (-2) (eO E (-2)) ∧ mtA E W hl rn (rpA n kf wh rv) ra ln nn lk LL LR (vl a1)) := Or.inl ⟨jst_eq, ke, by (rcases hv2 with z | z; { exact z.2 }; { exact absurd z.1 (by omega) })⟩
        have FR : f315 a1 h (jst h5 315 a1 1) := fun a s y1 y2 y3 => by { rw [jst_o y3]; exact fs2.1 a s y1 y2 }
        have BQ : jst h5 315 a1 1 200 10 = h5 200 10 := jst_o (by omega)
        refine OK_mono (vX5_isMeeting_j58 (P := (kd a1 = eK E (-2) (eO E (-2)) ∧ mtA E W hl rn (rpA n kf wh rv) ra ln nn lk LL LR (vl a1))) _ (by (first | assumption | omega | ((try dsimp only [jt2, jt3, jt4]); first | omega | (simp (disch := omega) only [jst_eq, jst_ne, jst_ni, jst_o, jI_i, jcpy_out, w32_id, jdiv_nn, jshr_k, jand_255] <;> first | done | omega | assumption)) | (intros; simp (disch := omega) only [jst_eq, jst_ne, jst_ni, jst_o, jI_i, jcpy_out, w32_id, jdiv_nn, *] <;> first | done | omega) | (intros; simp (disch := omega) only [jst_eq, jst_ne, jst_ni, jst_o, jI_i, jcpy_out, w32_id, jdiv_nn] at * <;> first | done | omega | assumption) | (intros; first | rfl | (exfalso; omega) | ((repeat' apply And.intro) <;> first | assumption | rfl | omega | trivial)))) (by exact MK)) (fun r r4 => ?_)
        obtain ⟨y5, y6⟩ := r
        try dsimp only [Sum.elim_inl, Sum.elim_inr, jt2, jt3, jt4, jt5, jt6, jt7, jt8] at r4
        obtain ⟨hv4, fs4⟩ := r4
        try simp (disch := omega) only [jst_eq, jst_ne, jst_ni, jI_i, jcmp_lt, jcmp_gt, w32_id, jcpy_out, Sum.elim_inl, Sum.elim_inr, jt2, jt3, jt4, jt5, jt6, jt7, jt8] at hv4
        try simp (disch := omega) only [jst_eq, jst_ne, jst_ni, jI_i, jcmp_lt, jcmp_gt, w32_id, jcpy_out, Sum.elim_inl, Sum.elim_inr, jt2, jt3, jt4, jt5, jt6, jt7, jt8] at fs4
        try dsimp only [Sum.elim_inl, Sum.elim_inr, jt2, jt3, jt4, jt5, jt6, jt7, jt8]
        try dsimp only [Sum.elim_inl, Sum.elim_inr, jt2, jt3, jt4, jt5, jt6, jt7, jt8]
        refine ⟨?_, ?_, ?_⟩
        · (first | assumption | omega | ((try dsimp only [jt2, jt3, jt4]); first | omega | (simp (disch := omega) only [jst_eq, jst_ne, jst_ni, jst_o, jI_i, jcpy_out, w32_id, jdiv_nn, jshr_k, jand_255] <;> first | done | omega | assumption)) | (intros; simp (disch := omega) only [jst_eq, jst_ne, jst_ni, jst_o, jI_i, jcpy_out, w32_id, jdiv_nn, *] <;> first | done | omega) | (intros; simp (disch := omega) only [jst_eq, jst_ne, jst_ni, jst_o, jI_i, jcpy_out, w32_id, jdiv_nn] at * <;> first | done | omega | assumption) | (intros; first | rfl | (exfalso; omega) | ((repeat' apply And.intro) <;> first | assumption | rfl | omega | trivial))) -- o17 e3.1
        · ((first | rw [fs3] | rw [fs4] | rw [fs5]); exact MK) -- o18 e3.2
        · ((first | rw [fs3] | rw [fs4] | rw [fs5]); refine ⟨FR, ?_⟩; rw [BQ]; first | exact bb | exact fs2.2) -- o19 e3.3
    · skip
      try simp (disch := omega) only [jst_eq, jst_ne, jst_ni, jI_i, jcmp_lt, jcmp_gt, w32_id, jcpy_out, Sum.elim_inl, Sum.elim_inr, jt2, jt3, jt4, jt5, jt6, jt7, jt8] at c2
      refine OK_jl ?_
      have MK : mkS (jst h 315 a1 0) a1 (kd a1 = eK E (-2) (eO E (-2)) ∧ mtA E W hl rn (rpA n kf wh rv) ra ln nn lk LL LR (vl a1)) := Or.inr ⟨jst_eq, fun y => by (have := T8.1; have := y.1; omega)⟩
      have FR : f315 a1 h (jst h 315 a1 0) := fun a s y1 y2 y3 => jst_o y3
      have BQ : jst h 315 a1 0 200 10 = h 200 10 := jst_o (by omega)
      refine OK_mono (vX5_isMeeting_j58 (P := (kd a1 = eK E (-2) (eO E (-2)) ∧ mtA E W hl rn (rpA n kf wh rv) ra ln nn lk LL LR (vl a1))) _ (by (first | assumption | omega | ((try dsimp only [jt2, jt3, jt4]); first | omega | (simp (disch := omega) only [jst_eq, jst_ne, jst_ni, jst_o, jI_i, jcpy_out, w32_id, jdiv_nn, jshr_k, jand_255] <;> first | done | omega | assumption)) | (intros; simp (disch := omega) only [jst_eq, jst_ne, jst_ni, jst_o, jI_i, jcpy_out, w32_id, jdiv_nn, *] <;> first | done | omega) | (intros; simp (disch := omega) only [jst_eq, jst_ne, jst_ni, jst_o, jI_i, jcpy_out, w32_id, jdiv_nn] at * <;> first | done | omega | assumption) | (intros; first | rfl | (exfalso; omega) | ((repeat' apply And.intro) <;> first | assumption | rfl | omega | trivial)))) (by exact MK)) (fun r r5 => ?_)
      obtain ⟨y7, y8⟩ := r
      try dsimp only [Sum.elim_inl, Sum.elim_inr, jt2, jt3, jt4, jt5, jt6, jt7, jt8] at r5
      obtain ⟨hv5, fs5⟩ := r5
      try simp (disch := omega) only [jst_eq, jst_ne, jst_ni, jI_i, jcmp_lt, jcmp_gt, w32_id, jcpy_out, Sum.elim_inl, Sum.elim_inr, jt2, jt3, jt4, jt5, jt6, jt7, jt8] at hv5
      try simp (disch := omega) only [jst_eq, jst_ne, jst_ni, jI_i, jcmp_lt, jcmp_gt, w32_id, jcpy_out, Sum.elim_inl, Sum.elim_inr, jt2, jt3, jt4, jt5, jt6, jt7, jt8] at fs5
      try dsimp only [Sum.elim_inl, Sum.elim_inr, jt2, jt3, jt4, jt5, jt6, jt7, jt8]
      try dsimp only [Sum.elim_inl, Sum.elim_inr, jt2, jt3, jt4, jt5, jt6, jt7, jt8]
      refine ⟨?_, ?_, ?_⟩
      · (first | assumption | omega | ((try dsimp only [jt2, jt3, jt4]); first | omega | (simp (disch := omega) only [jst_eq, jst_ne, jst_ni, jst_o, jI_i, jcpy_out, w32_id, jdiv_nn, jshr_k, jand_255] <;> first | done | omega | assumption)) | (intros; simp (disch := omega) only [jst_eq, jst_ne, jst_ni, jst_o, jI_i, jcpy_out, w32_id, jdiv_nn, *] <;> first | done | omega) | (intros; simp (disch := omega) only [jst_eq, jst_ne, jst_ni, jst_o, jI_i, jcpy_out, w32_id, jdiv_nn] at * <;> first | done | omega | assumption) | (intros; first | rfl | (exfalso; omega) | ((repeat' apply And.intro) <;> first | assumption | rfl | omega | trivial))) -- o22 e4.1
      · ((first | rw [fs3] | rw [fs4] | rw [fs5]); exact MK) -- o23 e4.2
      · ((first | rw [fs3] | rw [fs4] | rw [fs5]); refine ⟨FR, ?_⟩; rw [BQ]; first | exact bb | exact fs2.2) -- o24 e4.3

