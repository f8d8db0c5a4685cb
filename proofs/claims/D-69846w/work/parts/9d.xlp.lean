/-! x: a loop is read, whole -/
theorem vX13_wordX (a1 : Int) {h : AH} (b : ¬ h 441 6 = 0) : OK (gX13_word a1 h) (fun h' => h' = h) := by
  unfold gX13_word
  refine OK_if (fun c1 => ?_) (fun c1 => ?_)
  · skip
    try simp (disch := omega) only [jst_eq, jst_ne, jst_ni, jI_i, jcmp_lt, jcmp_gt, w32_id, jcpy_out, Sum.elim_inl, Sum.elim_inr, jt2, jt3, jt4, jt5, jt6, jt7, jt8] at c1
    exfalso
    exact b c1
  · skip
    try simp (disch := omega) only [jst_eq, jst_ne, jst_ni, jI_i, jcmp_lt, jcmp_gt, w32_id, jcpy_out, Sum.elim_inl, Sum.elim_inr, jt2, jt3, jt4, jt5, jt6, jt7, jt8] at c1
    refine OK_some ?_
    try dsimp only [Sum.elim_inl, Sum.elim_inr, jt2, jt3, jt4, jt5, jt6, jt7, jt8]
    all_goals rfl -- o1 e1
theorem vX13_loop_j407B {h : AH} (b : ¬ h 441 6 = 0) : OK (gX13_loop_j407 h) (fun h' => h' = h) := by
  unfold gX13_loop_j407
  refine OK_if (fun c1 => ?_) (fun c1 => ?_)
  · skip
    try simp (disch := omega) only [jst_eq, jst_ne, jst_ni, jI_i, jcmp_lt, jcmp_gt, w32_id, jcpy_out, Sum.elim_inl, Sum.elim_inr, jt2, jt3, jt4, jt5, jt6, jt7, jt8] at c1
    exfalso
    exact b c1
  · skip
    try simp (disch := omega) only [jst_eq, jst_ne, jst_ni, jI_i, jcmp_lt, jcmp_gt, w32_id, jcpy_out, Sum.elim_inl, Sum.elim_inr, jt2, jt3, jt4, jt5, jt6, jt7, jt8] at c1
    refine OK_some ?_
    try dsimp only [Sum.elim_inl, Sum.elim_inr, jt2, jt3, jt4, jt5, jt6, jt7, jt8]
    all_goals rfl -- o1 e1
theorem vX13_loop_j384B (a1 : Int) {h : AH} (b : ¬ h 441 6 = 0) : OK (gX13_loop_j384 a1 h) (fun h' => h' = h) := by
  unfold gX13_loop_j384
  refine OK_jb (vX13_wordX _ (by (first | assumption | omega | ((try dsimp only [jt2, jt3, jt4]); first | omega | (simp (disch := omega) only [jst_eq, jst_ne, jst_ni, jst_o, jI_i, jcpy_out, w32_id, jdiv_nn, jshr_k, jand_255] <;> first | done | omega | assumption)) | (intros; simp (disch := omega) only [jst_eq, jst_ne, jst_ni, jst_o, jI_i, jcpy_out, w32_id, jdiv_nn, *] <;> first | done | omega) | (intros; simp (disch := omega) only [jst_eq, jst_ne, jst_ni, jst_o, jI_i, jcpy_out, w32_id, jdiv_nn] at * <;> first | done | omega | assumption) | (intros; first | rfl | (exfalso; omega) | ((repeat' apply And.intro) <;> first | assumption | rfl | omega | trivial))))) (fun h48 r1 => ?_)
  try dsimp only [Sum.elim_inl, Sum.elim_inr, jt2, jt3, jt4, jt5, jt6, jt7, jt8] at r1
  have e1 := r1
  clear r1
  try simp (disch := omega) only [jst_eq, jst_ne, jst_ni, jI_i, jcmp_lt, jcmp_gt, w32_id, jcpy_out, Sum.elim_inl, Sum.elim_inr, jt2, jt3, jt4, jt5, jt6, jt7, jt8] at e1
  rw [e1]
  refine OK_if (fun c1 => ?_) (fun c1 => ?_)
  · skip
    try simp (disch := omega) only [jst_eq, jst_ne, jst_ni, jI_i, jcmp_lt, jcmp_gt, w32_id, jcpy_out, Sum.elim_inl, Sum.elim_inr, jt2, jt3, jt4, jt5, jt6, jt7, jt8] at c1
    exfalso
    exact b c1
  · skip
    try simp (disch := omega) only [jst_eq, jst_ne, jst_ni, jI_i, jcmp_lt, jcmp_gt, w32_id, jcpy_out, Sum.elim_inl, Sum.elim_inr, jt2, jt3, jt4, jt5, jt6, jt7, jt8] at c1
    refine OK_mono (vX13_loop_j407B (by (first | assumption | omega | ((try dsimp only [jt2, jt3, jt4]); first | omega | (simp (disch := omega) only [jst_eq, jst_ne, jst_ni, jst_o, jI_i, jcpy_out, w32_id, jdiv_nn, jshr_k, jand_255] <;> first | done | omega | assumption)) | (intros; simp (disch := omega) only [jst_eq, jst_ne, jst_ni, jst_o, jI_i, jcpy_out, w32_id, jdiv_nn, *] <;> first | done | omega) | (intros; simp (disch := omega) only [jst_eq, jst_ne, jst_ni, jst_o, jI_i, jcpy_out, w32_id, jdiv_nn] at * <;> first | done | omega | assumption) | (intros; first | rfl | (exfalso; omega) | ((repeat' apply And.intro) <;> first | assumption | rfl | omega | trivial))))) (fun r r2 => ?_)
    try dsimp only [Sum.elim_inl, Sum.elim_inr, jt2, jt3, jt4, jt5, jt6, jt7, jt8] at r2
    have e2 := r2
    clear r2
    try simp (disch := omega) only [jst_eq, jst_ne, jst_ni, jI_i, jcmp_lt, jcmp_gt, w32_id, jcpy_out, Sum.elim_inl, Sum.elim_inr, jt2, jt3, jt4, jt5, jt6, jt7, jt8] at e2
    try dsimp only [Sum.elim_inl, Sum.elim_inr, jt2, jt3, jt4, jt5, jt6, jt7, jt8]
    (first | assumption | omega | ((try dsimp only [jt2, jt3, jt4]); first | omega | (simp (disch := omega) only [jst_eq, jst_ne, jst_ni, jst_o, jI_i, jcpy_out, w32_id, jdiv_nn, jshr_k, jand_255] <;> first | done | omega | assumption)) | (intros; simp (disch := omega) only [jst_eq, jst_ne, jst_ni, jst_o, jI_i, jcpy_out, w32_id, jdiv_nn, *] <;> first | done | omega) | (intros; simp (disch := omega) only [jst_eq, jst_ne, jst_ni, jst_o, jI_i, jcpy_out, w32_id, jdiv_nn] at * <;> first | done | omega | assumption) | (intros; first | rfl | (exfalso; omega) | ((repeat' apply And.intro) <;> first | assumption | rfl | omega | trivial))) -- o3 e1
theorem vX13_loop_j364B (a1 : Int) (a3 : Int) (a4 : Int) (a5 : Int) {h : AH} (b : ¬ h 441 6 = 0) : OK (gX13_loop_j364 a1 a3 a4 a5 h) (fun h' => h' = h) := by
  unfold gX13_loop_j364
  refine OK_if (fun c1 => ?_) (fun c1 => ?_)
  · skip
    try simp (disch := omega) only [jst_eq, jst_ne, jst_ni, jI_i, jcmp_lt, jcmp_gt, w32_id, jcpy_out, Sum.elim_inl, Sum.elim_inr, jt2, jt3, jt4, jt5, jt6, jt7, jt8] at c1
    exfalso
    exact b c1
  · skip
    try simp (disch := omega) only [jst_eq, jst_ne, jst_ni, jI_i, jcmp_lt, jcmp_gt, w32_id, jcpy_out, Sum.elim_inl, Sum.elim_inr, jt2, jt3, jt4, jt5, jt6, jt7, jt8] at c1
    refine OK_mono (vX13_loop_j384B _ (by (first | assumption | omega | ((try dsimp only [jt2, jt3, jt4]); first | omega | (simp (disch := omega) only [jst_eq, jst_ne, jst_ni, jst_o, jI_i, jcpy_out, w32_id, jdiv_nn, jshr_k, jand_255] <;> first | done | omega | assumption)) | (intros; simp (disch := omega) only [jst_eq, jst_ne, jst_ni, jst_o, jI_i, jcpy_out, w32_id, jdiv_nn, *] <;> first | done | omega) | (intros; simp (disch := omega) only [jst_eq, jst_ne, jst_ni, jst_o, jI_i, jcpy_out, w32_id, jdiv_nn] at * <;> first | done | omega | assumption) | (intros; first | rfl | (exfalso; omega) | ((repeat' apply And.intro) <;> first | assumption | rfl | omega | trivial))))) (fun r r1 => ?_)
    try dsimp only [Sum.elim_inl, Sum.elim_inr, jt2, jt3, jt4, jt5, jt6, jt7, jt8] at r1
    have e1 := r1
    clear r1
    try simp (disch := omega) only [jst_eq, jst_ne, jst_ni, jI_i, jcmp_lt, jcmp_gt, w32_id, jcpy_out, Sum.elim_inl, Sum.elim_inr, jt2, jt3, jt4, jt5, jt6, jt7, jt8] at e1
    try dsimp only [Sum.elim_inl, Sum.elim_inr, jt2, jt3, jt4, jt5, jt6, jt7, jt8]
    (first | assumption | omega | ((try dsimp only [jt2, jt3, jt4]); first | omega | (simp (disch := omega) only [jst_eq, jst_ne, jst_ni, jst_o, jI_i, jcpy_out, w32_id, jdiv_nn, jshr_k, jand_255] <;> first | done | omega | assumption)) | (intros; simp (disch := omega) only [jst_eq, jst_ne, jst_ni, jst_o, jI_i, jcpy_out, w32_id, jdiv_nn, *] <;> first | done | omega) | (intros; simp (disch := omega) only [jst_eq, jst_ne, jst_ni, jst_o, jI_i, jcpy_out, w32_id, jdiv_nn] at * <;> first | done | omega | assumption) | (intros; first | rfl | (exfalso; omega) | ((repeat' apply And.intro) <;> first | assumption | rfl | omega | trivial))) -- o2 e1
theorem vX13_loop_l286B (i1 : Int) (i3 : Int) (i4 : Int) (a50 : Int) {h0 : AH} (b : ¬ h0 441 6 = 0) : OK (gX13_loop_l286 i1 i3 i4 a50 h0) (Sum.elim (fun h' => (0 : Int) = 1) (Sum.elim (fun r => jt2 r fun y h' => (0 : Int) = 1) (fun r => jt2 r fun y h' => h' = h0))) := by
  unfold gX13_loop_l286
  refine OK_jit (I := (fun (s : Int × AH) => jt2 s fun a5 h => h = h0)) (m := (fun (s : Int × AH) => jt2 s fun a5 h => 0)) ?_ ?_
  · intro s hs
    obtain ⟨a5, h⟩ := s
    dsimp only [Sum.elim_inl, Sum.elim_inr, jt2, jt3, jt4, jt5, jt6, jt7, jt8] at hs
    have e := hs; clear hs
    unfold gX13_loop_b286
    refine OK_jt2 ?_
    have b2 : ¬ h 441 6 = 0 := by rw [e]; exact b
    refine OK_if (fun c1 => ?_) (fun c1 => ?_)
    · skip
      try simp (disch := omega) only [jst_eq, jst_ne, jst_ni, jI_i, jcmp_lt, jcmp_gt, w32_id, jcpy_out, Sum.elim_inl, Sum.elim_inr, jt2, jt3, jt4, jt5, jt6, jt7, jt8] at c1
      exfalso
      exact b2 c1
    · skip
      try simp (disch := omega) only [jst_eq, jst_ne, jst_ni, jI_i, jcmp_lt, jcmp_gt, w32_id, jcpy_out, Sum.elim_inl, Sum.elim_inr, jt2, jt3, jt4, jt5, jt6, jt7, jt8] at c1
      refine OK_ir ?_
      (first | assumption | omega | ((try dsimp only [jt2, jt3, jt4]); first | omega | (simp (disch := omega) only [jst_eq, jst_ne, jst_ni, jst_o, jI_i, jcpy_out, w32_id, jdiv_nn, jshr_k, jand_255] <;> first | done | omega | assumption)) | (intros; simp (disch := omega) only [jst_eq, jst_ne, jst_ni, jst_o, jI_i, jcpy_out, w32_id, jdiv_nn, *] <;> first | done | omega) | (intros; simp (disch := omega) only [jst_eq, jst_ne, jst_ni, jst_o, jI_i, jcpy_out, w32_id, jdiv_nn] at * <;> first | done | omega | assumption) | (intros; first | rfl | (exfalso; omega) | ((repeat' apply And.intro) <;> first | assumption | rfl | omega | trivial))) -- o1 e1
  · (first | assumption | omega | ((try dsimp only [jt2, jt3, jt4]); first | omega | (simp (disch := omega) only [jst_eq, jst_ne, jst_ni, jst_o, jI_i, jcpy_out, w32_id, jdiv_nn, jshr_k, jand_255] <;> first | done | omega | assumption)) | (intros; simp (disch := omega) only [jst_eq, jst_ne, jst_ni, jst_o, jI_i, jcpy_out, w32_id, jdiv_nn, *] <;> first | done | omega) | (intros; simp (disch := omega) only [jst_eq, jst_ne, jst_ni, jst_o, jI_i, jcpy_out, w32_id, jdiv_nn] at * <;> first | done | omega | assumption) | (intros; first | rfl | (exfalso; omega) | ((repeat' apply And.intro) <;> first | assumption | rfl | omega | trivial))) -- o2 init
theorem vX13_loop_j270B (a1 : Int) (a3 : Int) {h : AH} (b : ¬ h 441 6 = 0) : OK (gX13_loop_j270 a1 a3 h) (fun h' => h' = h) := by
  unfold gX13_loop_j270
  refine OK_jlx (fun x30 ex30 => ?_)
  try simp (disch := omega) only [jst_eq, jst_ne, jst_ni, jI_i, jcmp_lt, jcmp_gt, w32_id, jcpy_out, Sum.elim_inl, Sum.elim_inr, jt2, jt3, jt4, jt5, jt6, jt7, jt8] at ex30
  refine OK_jb (vX13_wordX _ (by (first | assumption | omega | ((try dsimp only [jt2, jt3, jt4]); first | omega | (simp (disch := omega) only [jst_eq, jst_ne, jst_ni, jst_o, jI_i, jcpy_out, w32_id, jdiv_nn, jshr_k, jand_255] <;> first | done | omega | assumption)) | (intros; simp (disch := omega) only [jst_eq, jst_ne, jst_ni, jst_o, jI_i, jcpy_out, w32_id, jdiv_nn, *] <;> first | done | omega) | (intros; simp (disch := omega) only [jst_eq, jst_ne, jst_ni, jst_o, jI_i, jcpy_out, w32_id, jdiv_nn] at * <;> first | done | omega | assumption) | (intros; first | rfl | (exfalso; omega) | ((repeat' apply And.intro) <;> first | assumption | rfl | omega | trivial))))) (fun h32 r1 => ?_)
  try dsimp only [Sum.elim_inl, Sum.elim_inr, jt2, jt3, jt4, jt5, jt6, jt7, jt8] at r1
  have e1 := r1
  clear r1
  try simp (disch := omega) only [jst_eq, jst_ne, jst_ni, jI_i, jcmp_lt, jcmp_gt, w32_id, jcpy_out, Sum.elim_inl, Sum.elim_inr, jt2, jt3, jt4, jt5, jt6, jt7, jt8] at e1
  rw [e1]
  refine OK_jb (vX13_loop_l286B _ _ _ _ (by (first | assumption | omega | ((try dsimp only [jt2, jt3, jt4]); first | omega | (simp (disch := omega) only [jst_eq, jst_ne, jst_ni, jst_o, jI_i, jcpy_out, w32_id, jdiv_nn, jshr_k, jand_255] <;> first | done | omega | assumption)) | (intros; simp (disch := omega) only [jst_eq, jst_ne, jst_ni, jst_o, jI_i, jcpy_out, w32_id, jdiv_nn, *] <;> first | done | omega) | (intros; simp (disch := omega) only [jst_eq, jst_ne, jst_ni, jst_o, jI_i, jcpy_out, w32_id, jdiv_nn] at * <;> first | done | omega | assumption) | (intros; first | rfl | (exfalso; omega) | ((repeat' apply And.intro) <;> first | assumption | rfl | omega | trivial))))) (fun o33 r2 => ?_)
  rcases o33 with o35 | o36
  · skip
    have r3 := r2; clear r2
    dsimp only [Sum.elim_inl, Sum.elim_inr] at r3
    try dsimp only [Sum.elim_inl, Sum.elim_inr, jt2, jt3, jt4, jt5, jt6, jt7, jt8] at r3
    have no2 := r3
    clear r3
    try simp (disch := omega) only [jst_eq, jst_ne, jst_ni, jI_i, jcmp_lt, jcmp_gt, w32_id, jcpy_out, Sum.elim_inl, Sum.elim_inr, jt2, jt3, jt4, jt5, jt6, jt7, jt8] at no2
    refine OK_jml ?_
    refine OK_some ?_
    try dsimp only [Sum.elim_inl, Sum.elim_inr, jt2, jt3, jt4, jt5, jt6, jt7, jt8]
    exact absurd no2 (by decide) -- o3 e1
  · skip
    have r4 := r2; clear r2
    dsimp only [Sum.elim_inl, Sum.elim_inr] at r4
    refine OK_jmr ?_
    rcases o36 with o37 | o38
    · skip
      have r5 := r4; clear r4
      dsimp only [Sum.elim_inl, Sum.elim_inr] at r5
      refine OK_jml ?_
      obtain ⟨y39, h40⟩ := o37
      refine OK_jt2 ?_
      try dsimp only [Sum.elim_inl, Sum.elim_inr, jt2, jt3, jt4, jt5, jt6, jt7, jt8] at r5
      have no3 := r5
      clear r5
      try simp (disch := omega) only [jst_eq, jst_ne, jst_ni, jI_i, jcmp_lt, jcmp_gt, w32_id, jcpy_out, Sum.elim_inl, Sum.elim_inr, jt2, jt3, jt4, jt5, jt6, jt7, jt8] at no3
      refine OK_mono (vX13_loop_j364B _ _ _ _ (by exact absurd no3 (by decide))) (fun r r6 => ?_)
      try dsimp only [Sum.elim_inl, Sum.elim_inr, jt2, jt3, jt4, jt5, jt6, jt7, jt8] at r6
      have e4 := r6
      clear r6
      try simp (disch := omega) only [jst_eq, jst_ne, jst_ni, jI_i, jcmp_lt, jcmp_gt, w32_id, jcpy_out, Sum.elim_inl, Sum.elim_inr, jt2, jt3, jt4, jt5, jt6, jt7, jt8] at e4
      try dsimp only [Sum.elim_inl, Sum.elim_inr, jt2, jt3, jt4, jt5, jt6, jt7, jt8]
      exact absurd no3 (by decide) -- o5 e2
    · skip
      have r7 := r4; clear r4
      dsimp only [Sum.elim_inl, Sum.elim_inr] at r7
      refine OK_jmr ?_
      obtain ⟨y41, h42⟩ := o38
      refine OK_jt2 ?_
      try dsimp only [Sum.elim_inl, Sum.elim_inr, jt2, jt3, jt4, jt5, jt6, jt7, jt8] at r7
      have e5 := r7
      clear r7
      try simp (disch := omega) only [jst_eq, jst_ne, jst_ni, jI_i, jcmp_lt, jcmp_gt, w32_id, jcpy_out, Sum.elim_inl, Sum.elim_inr, jt2, jt3, jt4, jt5, jt6, jt7, jt8] at e5
      rw [e5]
      refine OK_mono (vX13_loop_j364B _ _ _ _ (by (first | assumption | omega | ((try dsimp only [jt2, jt3, jt4]); first | omega | (simp (disch := omega) only [jst_eq, jst_ne, jst_ni, jst_o, jI_i, jcpy_out, w32_id, jdiv_nn, jshr_k, jand_255] <;> first | done | omega | assumption)) | (intros; simp (disch := omega) only [jst_eq, jst_ne, jst_ni, jst_o, jI_i, jcpy_out, w32_id, jdiv_nn, *] <;> first | done | omega) | (intros; simp (disch := omega) only [jst_eq, jst_ne, jst_ni, jst_o, jI_i, jcpy_out, w32_id, jdiv_nn] at * <;> first | done | omega | assumption) | (intros; first | rfl | (exfalso; omega) | ((repeat' apply And.intro) <;> first | assumption | rfl | omega | trivial))))) (fun r r8 => ?_)
      try dsimp only [Sum.elim_inl, Sum.elim_inr, jt2, jt3, jt4, jt5, jt6, jt7, jt8] at r8
      have e6 := r8
      clear r8
      try simp (disch := omega) only [jst_eq, jst_ne, jst_ni, jI_i, jcmp_lt, jcmp_gt, w32_id, jcpy_out, Sum.elim_inl, Sum.elim_inr, jt2, jt3, jt4, jt5, jt6, jt7, jt8] at e6
      try dsimp only [Sum.elim_inl, Sum.elim_inr, jt2, jt3, jt4, jt5, jt6, jt7, jt8]
      (first | assumption | omega | ((try dsimp only [jt2, jt3, jt4]); first | omega | (simp (disch := omega) only [jst_eq, jst_ne, jst_ni, jst_o, jI_i, jcpy_out, w32_id, jdiv_nn, jshr_k, jand_255] <;> first | done | omega | assumption)) | (intros; simp (disch := omega) only [jst_eq, jst_ne, jst_ni, jst_o, jI_i, jcpy_out, w32_id, jdiv_nn, *] <;> first | done | omega) | (intros; simp (disch := omega) only [jst_eq, jst_ne, jst_ni, jst_o, jI_i, jcpy_out, w32_id, jdiv_nn] at * <;> first | done | omega | assumption) | (intros; first | rfl | (exfalso; omega) | ((repeat' apply And.intro) <;> first | assumption | rfl | omega | trivial))) -- o7 e3
theorem vX13_loop_j270m (a1 a3 : Int) {h : AH} {B : Int → Int} {n A T K : Int} {E : EV} {sk : List Int} {R : Int ⊕ Int} {ks : List Int} {ts : List TR} {c : TR} (hB : ∀ i, 0 ≤ i → i < n → 0 ≤ B i ∧ B i < 256) (lo : isLo a1 ∧ T = a1 + 5) (gd : h 441 6 = 0 → cqX B n A T E R h ∧ (∀ q, R = .inr q → h 441 16 = 0 ∧ FK h = K) ∧ h a1 2 = (sk.length : Int) ∧ sk.length ≤ 3 ∧ ∀ k, 0 ≤ k → k < (sk.length : Int) → h 446 k = kL sk k) : OK (gX13_loop_j270 a1 a3 h) (fun h' => (¬ h 441 6 = 0 → h' = h) ∧ (h 441 6 = 0 → doX T a1 K E sk a3 (bS R (pDo B n ks ts c)) h' ∧ f8X h' ∧ frS (fun b s => (b = a1 ∧ s = 7) ∨ (b = a1 + 4 ∧ 0 ≤ s ∧ s < 3)) T (h T 0) h h')) := by
  by_cases b : h 441 6 = 0
  · obtain ⟨g1, g2, g3⟩ := gd b
    exact OK_mono (vX13_loop_j270 a1 a3 hB lo g1 g2 g3) (fun r q => ⟨fun z => absurd b z, fun _ => q⟩)
  · exact OK_mono (vX13_loop_j270B a1 a3 b) (fun r q => ⟨fun _ => q, fun z => absurd z b⟩)
theorem vX13_loop_l206 (i1 : Int) (i3 : Int) (a40 : Int) {h0 : AH} {m : Int} (lo : isLo i1) (h1 : a40 = 0) (hm : h0 i1 2 = m ∧ 0 ≤ m ∧ m ≤ 3) : OK (gX13_loop_l206 i1 i3 a40 h0) (fun h' => ∀ a s, h' a s = if a = i1 + 2 ∧ 0 ≤ s ∧ s < m then h0 446 s else h0 a s) := by
  have LA : i1 = 378 ∨ i1 = 391 := lo
  unfold gX13_loop_l206
  refine OK_jit (I := (fun (s : Int × AH) => jt2 s fun a4 h => (0 ≤ a4 ∧ a4 ≤ m) ∧ (∀ a s, h a s = if a = i1 + 2 ∧ 0 ≤ s ∧ s < a4 then h0 446 s else h0 a s))) (m := (fun (s : Int × AH) => jt2 s fun a4 h => (m - a4).toNat)) ?_ ?_
  · intro s hs
    obtain ⟨a4, h⟩ := s
    dsimp only [Sum.elim_inl, Sum.elim_inr, jt2, jt3, jt4, jt5, jt6, jt7, jt8] at hs
    obtain ⟨q0, q1⟩ := hs
    unfold gX13_loop_b206
    refine OK_jt2 ?_
    have e2 : h i1 2 = m := by { rw [q1, if_neg (by omega)]; exact hm.1 }
    refine OK_if (fun c1 => ?_) (fun c1 => ?_)
    · skip
      try simp (disch := omega) only [jst_eq, jst_ne, jst_ni, jI_i, jcmp_lt, jcmp_gt, w32_id, jcpy_out, Sum.elim_inl, Sum.elim_inr, jt2, jt3, jt4, jt5, jt6, jt7, jt8] at c1
      refine OK_ir ?_
      (intro a s; have := q1 a s; rw [this]; by_cases y : a = i1 + 2 ∧ 0 ≤ s ∧ s < a4; { rw [if_pos y, if_pos (by omega)] }; { rw [if_neg y, if_neg (by omega)] }) -- o1 e1
    · skip
      try simp (disch := omega) only [jst_eq, jst_ne, jst_ni, jI_i, jcmp_lt, jcmp_gt, w32_id, jcpy_out, Sum.elim_inl, Sum.elim_inr, jt2, jt3, jt4, jt5, jt6, jt7, jt8] at c1
      have e4 : h 446 a4 = h0 446 a4 := by { rw [q1, if_neg (by omega)] }
      refine OK_jg (by (first | assumption | omega | ((try dsimp only [jt2, jt3, jt4]); first | omega | (simp (disch := omega) only [jst_eq, jst_ne, jst_ni, jst_o, jI_i, jcpy_out, w32_id, jdiv_nn, jshr_k, jand_255] <;> first | done | omega | assumption)) | (intros; simp (disch := omega) only [jst_eq, jst_ne, jst_ni, jst_o, jI_i, jcpy_out, w32_id, jdiv_nn, *] <;> first | done | omega) | (intros; simp (disch := omega) only [jst_eq, jst_ne, jst_ni, jst_o, jI_i, jcpy_out, w32_id, jdiv_nn] at * <;> first | done | omega | assumption) | (intros; first | rfl | (exfalso; omega) | ((repeat' apply And.intro) <;> first | assumption | rfl | omega | trivial)))) ?_ -- o2
      refine OK_jl ?_
      refine OK_jlx (fun x94 ex94 => ?_)
      try simp (disch := omega) only [jst_eq, jst_ne, jst_ni, jI_i, jcmp_lt, jcmp_gt, w32_id, jcpy_out, Sum.elim_inl, Sum.elim_inr, jt2, jt3, jt4, jt5, jt6, jt7, jt8] at ex94
      refine OK_il ?_ ?_
      · try dsimp only [Sum.elim_inl, Sum.elim_inr, jt2, jt3, jt4, jt5, jt6, jt7, jt8]
        refine ⟨?_, ?_⟩
        · (first | assumption | omega | ((try dsimp only [jt2, jt3, jt4]); first | omega | (simp (disch := omega) only [jst_eq, jst_ne, jst_ni, jst_o, jI_i, jcpy_out, w32_id, jdiv_nn, jshr_k, jand_255] <;> first | done | omega | assumption)) | (intros; simp (disch := omega) only [jst_eq, jst_ne, jst_ni, jst_o, jI_i, jcpy_out, w32_id, jdiv_nn, *] <;> first | done | omega) | (intros; simp (disch := omega) only [jst_eq, jst_ne, jst_ni, jst_o, jI_i, jcpy_out, w32_id, jdiv_nn] at * <;> first | done | omega | assumption) | (intros; first | rfl | (exfalso; omega) | ((repeat' apply And.intro) <;> first | assumption | rfl | omega | trivial))) -- o3 e2i.1
        · (intro a s; by_cases y : a = i1 + 2 ∧ s = a4; { rw [y.1, y.2, jst_eq, e4, if_pos (by omega)] }; { rw [jst_o y, q1]; by_cases z : a = i1 + 2 ∧ 0 ≤ s ∧ s < a4; { rw [if_pos z, if_pos (by omega)] }; { rw [if_neg z, if_neg (by omega)] } }) -- o4 e2i.2
      · (first | assumption | omega | ((try dsimp only [jt2, jt3, jt4]); first | omega | (simp (disch := omega) only [jst_eq, jst_ne, jst_ni, jst_o, jI_i, jcpy_out, w32_id, jdiv_nn, jshr_k, jand_255] <;> first | done | omega | assumption)) | (intros; simp (disch := omega) only [jst_eq, jst_ne, jst_ni, jst_o, jI_i, jcpy_out, w32_id, jdiv_nn, *] <;> first | done | omega) | (intros; simp (disch := omega) only [jst_eq, jst_ne, jst_ni, jst_o, jI_i, jcpy_out, w32_id, jdiv_nn] at * <;> first | done | omega | assumption) | (intros; first | rfl | (exfalso; omega) | ((repeat' apply And.intro) <;> first | assumption | rfl | omega | trivial))) -- o5 e2m
  · try dsimp only [Sum.elim_inl, Sum.elim_inr, jt2, jt3, jt4, jt5, jt6, jt7, jt8]
    refine ⟨?_, ?_⟩
    · (first | assumption | omega | ((try dsimp only [jt2, jt3, jt4]); first | omega | (simp (disch := omega) only [jst_eq, jst_ne, jst_ni, jst_o, jI_i, jcpy_out, w32_id, jdiv_nn, jshr_k, jand_255] <;> first | done | omega | assumption)) | (intros; simp (disch := omega) only [jst_eq, jst_ne, jst_ni, jst_o, jI_i, jcpy_out, w32_id, jdiv_nn, *] <;> first | done | omega) | (intros; simp (disch := omega) only [jst_eq, jst_ne, jst_ni, jst_o, jI_i, jcpy_out, w32_id, jdiv_nn] at * <;> first | done | omega | assumption) | (intros; first | rfl | (exfalso; omega) | ((repeat' apply And.intro) <;> first | assumption | rfl | omega | trivial))) -- o6 init.1
    · (intro a s; rw [if_neg (by omega)]) -- o7 init.2
theorem kO_N {B : Int → Int} {n y w : Int} {b : Bool} {R0 R : Int ⊕ Int} {l : List Int} (k : kO B n b R0 R l y) (w1 : w ≠ 14 ∧ w ≠ 19 ∧ w ≠ 20) : (∃ z, bnd R (pN B n w) = .inl z ∧ bS R0 (pKK B n b 2 []) = .inl z) ∨ (∃ q, bS R0 (pKK B n b 2 []) = .inr (l, q) ∧ y = (l.length : Int) ∧ bnd R (pN B n w) = pN B n w q) := by
  unfold kO at k
  cases e : bS R0 (pKK B n b 2 []) with
  | inl z => rw [e] at k; exact Or.inl ⟨z, by rw [show R = .inl z from k]; rfl, rfl⟩
  | inr x =>
    obtain ⟨l', q⟩ := x
    rw [e] at k
    obtain ⟨k1, k2, k3⟩ := k
    subst k1
    right
    refine ⟨q, rfl, k2, ?_⟩
    rcases k3 with k3 | ⟨k3, k4⟩
    · rw [k3]; rfl
    · rw [k4, kd_N k3 w1]; rfl
theorem pLo_W {B : Int → Int} {n y : Int} {R0 R : Int ⊕ Int} {l : List Int} (k : kO B n false R0 R l y) : (bS (bS R0 (pKK B n false 2 [])) fun x2 => pLo2 B n x2.1 x2.2) = bS (bS (bnd R (pN B n 131638)) (pTs B n)) fun x4 => pLo4 B n l x4.1 x4.2 := by
  rcases kO_N (w := 131638) k (by decide) with ⟨z, e1, e2⟩ | ⟨q, e1, e2, e3⟩
  · rw [e1, e2]; rfl
  · rw [e1, e3]
    show pLo2 B n l q = _
    unfold pLo2
    cases pN B n 131638 q <;> rfl
theorem pLo4_w {B : Int → Int} {n q4 : Int} {l : List Int} {ts : List TR} : pLo4 B n l ts q4 = match bdT (pN B n 12387497 q4) (pT B n false 13) with | .inl z => .inl z | .inr (c, q6) => pDo B n l ts c q6 := by
  unfold pLo4
  cases pN B n 12387497 q4 with
  | inl z => rfl
  | inr q5 =>
    show bS (pT B n false 13 q5) _ = match pT B n false 13 q5 with | .inl z => .inl z | .inr (c, q6) => pDo B n l ts c q6
    cases pT B n false 13 q5 <;> rfl
theorem pDo_i {B : Int → Int} {n q6 : Int} {ks : List Int} {ts : List TR} {c : TR} {p : LPt} (e : pDo B n ks ts c q6 = .inr p) : p.1 = ks ∧ p.2.1 = ts ∧ p.2.2.1 = c := by
  have w : pDo B n ks ts c q6 = bS (.inr q6) (pDo B n ks ts c) := rfl
  rw [w, pDo_w] at e
  cases e1 : bS (bnd (.inr q6) (pN B n 123)) (pTs B n) with
  | inl z => rw [e1] at e; cases e
  | inr x8 =>
    rw [e1] at e
    have e' : (bS (bS (pN B n 144941 x8.2) (pGv B n)) fun g => (.inr (ks, ts, c, plc B n (.inr q6), x8.1, g) : Int ⊕ LPt)) = .inr p := e
    cases e2 : bS (pN B n 144941 x8.2) (pGv B n) with
    | inl z => rw [e2] at e'; cases e'
    | inr g => rw [e2] at e'; cases e'; exact ⟨rfl, rfl, rfl⟩
/-- a loop as x has read it -/
def lpQ (T a1 : Int) (E : EV) (P : Int ⊕ LPt) (h' : AH) : Prop := match P with
  | .inl z => bkX z h'
  | .inr p => h' 441 6 = 0 ∧ FK h' = min 1000000 (fkLo E p) ∧ (h' a1 1 = (p.1.length : Int) ∧ ∀ k, 0 ≤ k → k < (p.1.length : Int) → h' (a1 + 1) k = kL p.1 k ∧ 0 ≤ kL p.1 k ∧ kL p.1 k ≤ 2) ∧ (h' a1 2 = ((skL (EL E p.1) p.2.1).length : Int) ∧ ∀ k, 0 ≤ k → k < ((skL (EL E p.1) p.2.1).length : Int) → h' (a1 + 2) k = kL (skL (EL E p.1) p.2.1) k) ∧ trsX h' T (EL E p.1) (a1 + 3) p.2.1 2100 ∧ trsX h' T (EL E (skL (EL E p.1) p.2.1)) (a1 + 4) p.2.2.2.2.1 2100 ∧ rtX h' T (EL E (skL (EL E p.1) p.2.1)) (h' a1 6) p.2.2.1 2100 ∧ rtX h' T (EL E (skL (EL E p.1) p.2.1)) (h' a1 7) p.2.2.2.2.2 2100
theorem skL_k {E : EV} {ts : List TR} {k : Int} (k0 : 0 ≤ k) (k1 : k < ((skL E ts).length : Int)) : ∃ t, ts[k.toNat]? = some t ∧ k.toNat < 3 ∧ kL (skL E ts) k = kdE E t := by
  have e := skL_len (E := E) (ts := ts)
  have l : k.toNat < ts.length := by omega
  refine ⟨ts[k.toNat], List.getElem?_eq_getElem l, by omega, ?_⟩
  unfold kL skL
  rw [List.getD_eq_getElem?_getD, List.getElem?_take_of_lt (by omega), List.getElem?_map, List.getElem?_eq_getElem l]
  rfl
theorem l80_c {B : Int → Int} {n A T a K y : Int} {E : EV} {W : Int ⊕ (List TR × Int)} {h : AH} (ok : okF B n A T a K E W y h) : cqX B n A T E (sRt W) h ∧ ∀ ts q, W = .inr (ts, q) → (ts.length : Int) = y ∧ trsX h T E (a + 3) ts (h T 0) ∧ kdsX h E ts ∧ h 441 16 = 0 ∧ FK h = min K (fkF E ts 0) := by
  cases W with
  | inl z => exact ⟨ok, fun ts q e => by cases e⟩
  | inr x =>
    obtain ⟨l, q⟩ := x
    refine ⟨ok.2.1.1, fun ts q e => ?_⟩
    cases e
    exact ⟨ok.1, ok.2.1.2.1, ok.2.1.2.2.1, ok.2.1.2.2.2, ok.2.2⟩
theorem lp_mis {ds ts : List TR} {y16 a : Int} (e : (ts.length : Int) = y16) : (if (ds.length : Int) = y16 then (1000000 : Int) else a) = if ds.length = ts.length then 1000000 else a := by
  by_cases c : ds.length = ts.length
  · rw [if_pos c, if_pos (by omega)]
  · rw [if_neg c, if_neg (by omega)]
theorem kdE_x {B : Int → Int} {n : Int} {h : AH} {E : EV} (ac : actX h E.1.1 E.1.2.1 E.1.2.2.1 E.1.2.2.2.1 E.1.2.2.2.2) (pa : parX B n h E.2.1.1 E.2.1.2.1 E.2.1.2.2) (l0 : E.2.2.1 = 0) {t : TR} (g : gT t) : -1 ≤ kdE E t ∧ kdE E t ≤ 2 := by
  have o := gT_i g
  show -1 ≤ kdI E.2.1.1 E.2.1.2.1 E.2.1.2.2 (eRs E) (eO E) (eK E) (inf t) ∧ kdI E.2.1.1 E.2.1.2.1 E.2.1.2.2 (eRs E) (eO E) (eK E) (inf t) ≤ 2
  unfold kdI
  by_cases a : (inf t).1 = 0
  · rw [if_pos a]; have := o.2.2.1 a; omega
  rw [if_neg a]
  by_cases b : (inf t).1 = 1
  · rw [if_pos b]
    by_cases c : mky E.2.1.1 E.2.1.2.1 (inf t).2.2.1 < 0
    · rw [if_pos c]; omega
    · rw [if_neg c]
      have m : mky E.2.1.1 E.2.1.2.1 (inf t).2.2.1 = fA E.2.1.2.1 (inf t).2.2.1 E.2.1.1.toNat 0 := rfl
      have f := fA_0 (c := E.2.1.2.1) (w := (inf t).2.2.1) (n := E.2.1.1)
      rw [← m] at f
      have k := (pa.2.2.2 (mky E.2.1.1 E.2.1.2.1 (inf t).2.2.1) (by omega) (by omega)).2
      exact ⟨k.1, k.2.1⟩
  rw [if_neg b]
  by_cases c : (inf t).1 = 2
  · rw [if_pos c]
    by_cases d : eRs E (inf t).2.2.1 = -1
    · rw [if_pos d]; omega
    · rw [if_neg d]
      have e : eRs E (inf t).2.2.1 = fA E.1.2.1 (inf t).2.2.1 E.1.1.toNat 0 := by unfold eRs; rw [if_neg (fun z => by omega)]
      have f := fA_0 (c := E.1.2.1) (w := (inf t).2.2.1) (n := E.1.1)
      rw [← e] at f
      have q := ac.2.2.2 (eRs E (inf t).2.2.1) (by omega) (by omega)
      obtain ⟨_, _, _, _, q5, q6, _, q8, _⟩ := q
      have eo : eO E (eRs E (inf t).2.2.1) = E.1.2.2.1 (eRs E (inf t).2.2.1) := by unfold eO; rw [if_neg (by omega), if_neg d]
      have ek : ∀ k, eK E (eRs E (inf t).2.2.1) k = E.1.2.2.2.2 (eRs E (inf t).2.2.1) k := fun k => by unfold eK; rw [if_neg (by omega)]
      rw [eo, ek]
      have k := (q8 (E.1.2.2.1 (eRs E (inf t).2.2.1)) (by omega) (Int.le_refl _)).2
      omega
  · rw [if_neg c]; omega
theorem ordL_m {lo : Int} : ∀ {l : List TR}, ordL lo l → ∀ t, t ∈ l → gT t ∧ wpT t
  | [], _, t, m => by cases m
  | u :: r, o, t, m => by
    rcases List.mem_cons.mp m with rfl | m
    · exact ⟨o.2.1, o.2.2.1⟩
    · exact ordL_m o.2.2.2 t m
/-- cells that the last part of a loop's reading may change -/
def lpC (a1 b s : Int) : Prop := (b = a1 ∧ s = 7) ∨ (b = a1 + 4 ∧ 0 ≤ s ∧ s < 3)
theorem lp_fin {B : Int → Int} {n A T a1 y16 K : Int} {E : EV} {l : List Int} {ts : List TR} {q4 : Int} {P : PR} {R5 : Int ⊕ Int} {h24 h28 g29 h' : AH} {v27 : Int}
    (la : isLo a1) (eT : T = a1 + 5) (e5 : R5 = pN B n 12387497 q4) (eP : P = bdT R5 (pT B n false 13)) (ll : (ts.length : Int) = y16)
    (K1 : h24 a1 1 = (l.length : Int) ∧ ∀ k, 0 ≤ k → k < (l.length : Int) → h24 (a1 + 1) k = kL l k ∧ 0 ≤ kL l k ∧ kL l k ≤ 2)
    (K2 : h24 a1 2 = ((skL (EL E l) ts).length : Int) ∧ ∀ k, 0 ≤ k → k < ((skL (EL E l) ts).length : Int) → h24 (a1 + 2) k = kL (skL (EL E l) ts) k)
    (t24 : trsX h24 T (EL E l) (a1 + 3) ts (h24 T 0)) (f24 : FK h24 = min 1000000 (fkF (EL E l) ts 0)) (fr : frT T (h24 T 0) h24 h28) (b24 : 0 ≤ h24 T 0)
    (d1 : cqX B n A T (EL E (skL (EL E l) ts)) (sR P) h28) (d2 : h24 T 0 ≤ h28 T 0) (d3 : tdG B n T (EL E (skL (EL E l) ts)) 1 R5 h24 v27 h28 P)
    (F : ∀ a s, ¬ (a = a1 ∧ s = 6) → g29 a s = h28 a s) (V : g29 a1 6 = v27)
    (nb : ¬ g29 441 6 = 0 → h' = g29) (dx : g29 441 6 = 0 → doX T a1 K (EL E (skL (EL E l) ts)) (skL (EL E l) ts) y16 (bS (sR P) (pDo B n l ts (tmO P))) h' ∧ f8X h' ∧ frS (lpC a1) T (g29 T 0) g29 h') (eK : FK g29 = K) :
    lpQ T a1 E (pLo4 B n l ts q4) h' ∧ f8X h' ∧ frS (fun b s => (b = a1 ∧ s = 6) ∨ lpC a1 b s) T (h24 T 0) h24 h' := by
  have la : a1 = 378 ∨ a1 = 391 := la
  have TS : Tset T := by unfold Tset; omega
  have t29 : g29 T 0 = h28 T 0 := F _ _ (by omega)
  have f28 := f8X_c d1
  have f29 : f8X g29 := by
    unfold f8X at f28 ⊢
    rw [F _ _ (by omega), FK_fr (F _ _ (by omega)) (F _ _ (by omega))]
    exact f28
  have FR : frS (fun b s => (b = a1 ∧ s = 6) ∨ lpC a1 b s) T (h24 T 0) h24 g29 := frS_t (N' := h24 T 0) (Int.le_refl _) (frS_T fr b24) (fun b s _ _ _ _ _ y6 => F b s (fun z => y6 (Or.inl z)))
  have s28 := d1.2.2.1
  rw [pLo4_w, ← e5, ← eP]
  by_cases b : g29 441 6 = 0
  · obtain ⟨x1, x2, x3⟩ := dx b
    refine ⟨?_, x2, frS_t (N' := g29 T 0) (by omega) FR (frS_w x3 (fun _ _ y => Or.inr y))⟩
    cases P with
    | inl z => exact x1
    | inr x =>
      obtain ⟨c, q6⟩ := x
      obtain ⟨⟨g1, g2, g3, g4⟩, g5, g6, ⟨g7, g8⟩, _⟩ := d3
      show lpQ T a1 E (pDo B n l ts c q6) h'
      have x1' : doX T a1 K (EL E (skL (EL E l) ts)) (skL (EL E l) ts) y16 (pDo B n l ts c q6) h' := x1
      cases e : pDo B n l ts c q6 with
      | inl z => rw [e] at x1'; exact x1'
      | inr p =>
        rw [e] at x1'
        obtain ⟨p1, p2, p3⟩ := pDo_i e
        obtain ⟨y1, y2, y3, y4⟩ := x1'
        have G : ∀ b s, ¬ (b = 441 ∧ 2 ≤ s ∧ s ≤ 18) → ¬ (b = 445 ∧ 0 ≤ s) → ¬ (T ≤ b ∧ b ≤ T + 5) → ¬ (b = a1 ∧ (s = 6 ∨ s = 7)) → ¬ (b = a1 + 4 ∧ 0 ≤ s ∧ s < 3) → h' b s = h24 b s := fun b s z1 z2 z3 z4 z5 => by
          rw [x3 b s z1 z2 (by omega) (by omega) (by omega) (by unfold lpC; omega), F b s (by omega)]
          exact fr b s (by omega) (by omega) (by omega) (by omega) (by omega)
        have st := sz_pos c
        have eK2 : K = min (min 1000000 (fkF (EL E l) ts 0)) (keyE (EL E (skL (EL E l) ts)) 1 c) := by
          rw [← eK, FK_fr (F _ _ (by omega)) (F _ _ (by omega)), g6, f24]
        have nx : ∀ b s, T + 1 ≤ b → b ≤ T + 5 → ¬ lpC a1 b s := fun b s z1 z2 => by unfold lpC; omega
        have e6 : h' a1 6 = v27 := by rw [x3 a1 6 (by omega) (by omega) (by omega) (by omega) (by omega) (by unfold lpC; omega)]; exact V
        subst p1 p2 p3
        refine ⟨y1, ?_, ⟨by rw [G a1 1 (by omega) (by omega) (by omega) (by omega) (by omega)]; exact K1.1, fun k k0 k1 => by rw [G (a1 + 1) k (by omega) (by omega) (by omega) (by omega) (by omega)]; exact K1.2 k k0 k1⟩, ⟨by rw [G a1 2 (by omega) (by omega) (by omega) (by omega) (by omega)]; exact K2.1, fun k k0 k1 => by rw [G (a1 + 2) k (by omega) (by omega) (by omega) (by omega) (by omega)]; exact K2.2 k k0 k1⟩, ?_, y3, ?_, y4⟩
        · rw [y2, eK2, lp_mis ll]
          unfold fkLo
          omega
        · exact trsX_S (trsX_T t24 d2 (by omega) TS fr) (N' := 2100) (by omega) (by omega) TS (frS_t (X := fun b s => (b = a1 ∧ s = 6) ∨ lpC a1 b s) (N' := g29 T 0) (by omega) (fun b s _ _ _ _ _ y6 => F b s (fun z => y6 (Or.inl z))) (frS_w x3 (fun _ _ y => Or.inr y))) (fun b s z => by unfold lpC; omega)
        · rw [e6]
          exact rtX_f TS (N := h28 T 0) ⟨g2, by omega, g5⟩ (by omega) (frS_t (X := fun b s => (b = a1 ∧ s = 6) ∨ lpC a1 b s) (N' := g29 T 0) (by omega) (fun b s _ _ _ _ _ y6 => F b s (fun z => y6 (Or.inl z))) (frS_w x3 (fun _ _ y => Or.inr y))) (fun b s z1 z2 => by unfold lpC; omega)
  · have e := nb b
    subst e
    refine ⟨?_, f29, FR⟩
    have b28 : ¬ h28 441 6 = 0 := by rw [← F 441 6 (by omega)]; exact b
    obtain ⟨z1, z2⟩ := Sx_br s28 b28
    have z3 := sR_l z2
    rw [z3]
    exact ⟨by rw [F _ _ (by omega)]; exact z1, F _ _ (by omega)⟩
theorem pLo_4b {B : Int → Int} {n z : Int} {l : List Int} {W : Int ⊕ (List TR × Int)} (e : bnd (sRt W) (pN B n 12387497) = .inl z) : (bS W fun x4 => pLo4 B n l x4.1 x4.2) = .inl z := by
  cases W with
  | inl w => cases e; rfl
  | inr x =>
    obtain ⟨ts, q⟩ := x
    show pLo4 B n l ts q = _
    rw [pLo4_w, show pN B n 12387497 q = .inl z from e]
    rfl
theorem vX13_loop_j57 (a1 : Int) (a2 : Int) {h : AH} {B : Int → Int} {n A T : Int} {E : EV} {R0 R : Int ⊕ Int} {l : List Int} (hB : ∀ i, 0 ≤ i → i < n → 0 ≤ B i ∧ B i < 256) (lo : isLo a1 ∧ T = a1 + 5) (rd : rdT B n A T E h) (sx : Sx B n R h) (ko : kO B n false R0 R l a2) (kc : (l.length : Int) = a2 ∧ a2 ≤ 2 ∧ ∀ k, 0 ≤ k → k < a2 → h (a1 + 1) k = kL l k ∧ 0 ≤ kL l k ∧ kL l k ≤ 2) (z : h T 0 = 0 ∧ h 441 16 = 0 ∧ FK h = 1000000) (ar : (h (a1 + 1) (-2) = 101 ∧ h (a1 + 1) (-1) = 3) ∧ h (a1 + 3) (-2) = 101 ∧ h (a1 + 3) (-1) = 3) : OK (gX13_loop_j57 a1 a2 h) (fun h' => (lpQ T a1 E (bS (bS R0 (pKK B n false 2 [])) fun x2 => pLo2 B n x2.1 x2.2) h') ∧ (f8X h') ∧ (∀ b s, ¬ (b = 441 ∧ 2 ≤ s ∧ s ≤ 18) → ¬ (b = 445 ∧ 0 ≤ s) → ¬ (a1 ≤ b ∧ b ≤ a1 + 10 ∧ 0 ≤ s) → ¬ ((b = 442 ∨ b = 444 ∨ b = 446) ∧ 0 ≤ s ∧ s < 3) → h' b s = h b s)) := by
  have LA : a1 = 378 ∨ a1 = 391 := lo.1
  have TS : Tset T := rd.2.2.2.1.2.2
  have n2 := rd.1.2.2.2.1
  have n0 := rd.1.2.2.1
  unfold gX13_loop_j57
  refine OK_jl ?_
  have F7 : ∀ a s, ¬ (a = a1 ∧ s = 1) → jst h a1 1 a2 a s = h a s := fun a s y => jst_o y
  have V7 : jst h a1 1 a2 a1 1 = a2 := jst_eq
  generalize jst h a1 1 a2 = g7 at *
  refine OK_jb (vX13_parameters _ _ (by omega) (by (rw [F7 _ _ (by omega), F7 _ _ (by omega), ar.1.1, ar.1.2]; omega))) (fun h9 r1 => ?_)
  try dsimp only [Sum.elim_inl, Sum.elim_inr, jt2, jt3, jt4, jt5, jt6, jt7, jt8] at r1
  obtain ⟨pp1, fr1⟩ := r1
  try simp (disch := omega) only [jst_eq, jst_ne, jst_ni, jI_i, jcmp_lt, jcmp_gt, w32_id, jcpy_out, Sum.elim_inl, Sum.elim_inr, jt2, jt3, jt4, jt5, jt6, jt7, jt8] at pp1
  try simp (disch := omega) only [jst_eq, jst_ne, jst_ni, jI_i, jcmp_lt, jcmp_gt, w32_id, jcpy_out, Sum.elim_inl, Sum.elim_inr, jt2, jt3, jt4, jt5, jt6, jt7, jt8] at fr1
  have F9 : ∀ a s, ¬ (a = a1 ∧ s = 1) → ¬ (a = 441 ∧ s = 13) → ¬ ((a = 442 ∨ a = 444) ∧ 0 ≤ s ∧ s < 3) → h9 a s = h a s := fun a s y1 y2 y3 => by { rw [fr1 a s y2 y3]; exact F7 a s y1 }
  have S9 : Sx B n R h9 := Sx_fr sx (fun s s0 s1 => F9 _ _ (by omega) (by omega) (by omega))
  have PX9 : parX B n h9 (EL E l).2.1.1 (EL E l).2.1.2.1 (EL E l).2.1.2.2 := ⟨by { rw [pp1.1]; exact kc.1.symm }, by { show 0 ≤ (l.length : Int); omega }, by { show (l.length : Int) ≤ 3; omega }, fun k k0 k1 => by { have k1' : k < a2 := (by rw [← kc.1]; exact k1); have q := kc.2.2 k k0 k1'; have p := pp1.2 k k0 k1'; exact ⟨by rw [p.2, F7 _ _ (by omega)]; exact q.1, by show -1 ≤ kL l k; omega, q.2.2, Or.inl ⟨p.1, rfl⟩⟩ }⟩
  have RD9 : rdT B n A T (EL E l) h9 := rdT_f (E := EL E l) rd (fun a s y => F9 a s (fun z => by rcases y with y | y; { have := (rdN_n y).2.1; omega }; { omega }) (fun z => by rcases y with y | y; { have := (rdN_n y).2.2.2; omega }; { omega }) (fun z => by rcases y with y | y; { have := (rdN_n y).2.2.1; omega }; { omega }))
  have C9 : cqX B n A T (EL E l) R h9 := ⟨RD9, PX9, S9, 0, by omega, by omega, by rw [F9 T 0 (by omega) (by omega) (by omega)]; omega, by rw [F9 T 0 (by omega) (by omega) (by omega)]; omega, fun q e => by rw [e] at sx; exact (Sx_inr sx).1.2.2.1⟩
  refine OK_jb (vX13_wordB (B := B) (n := n) (A := A) _ (by exact C9.1.1) (by (first | assumption | omega | ((try dsimp only [jt2, jt3, jt4]); first | omega | (simp (disch := omega) only [jst_eq, jst_ne, jst_ni, jst_o, jI_i, jcpy_out, w32_id, jdiv_nn, jshr_k, jand_255] <;> first | done | omega | assumption)) | (intros; simp (disch := omega) only [jst_eq, jst_ne, jst_ni, jst_o, jI_i, jcpy_out, w32_id, jdiv_nn, *] <;> first | done | omega) | (intros; simp (disch := omega) only [jst_eq, jst_ne, jst_ni, jst_o, jI_i, jcpy_out, w32_id, jdiv_nn] at * <;> first | done | omega | assumption) | (intros; first | rfl | (exfalso; omega) | ((repeat' apply And.intro) <;> first | assumption | rfl | omega | trivial)))) (by exact S9) (by exact nm_from C9.1.2.2.1)) (fun h11 r2 => ?_)
  try dsimp only [Sum.elim_inl, Sum.elim_inr, jt2, jt3, jt4, jt5, jt6, jt7, jt8] at r2
  obtain ⟨sx2, fr2, bk2, br2⟩ := r2
  try simp (disch := omega) only [jst_eq, jst_ne, jst_ni, jI_i, jcmp_lt, jcmp_gt, w32_id, jcpy_out, Sum.elim_inl, Sum.elim_inr, jt2, jt3, jt4, jt5, jt6, jt7, jt8] at sx2
  try simp (disch := omega) only [jst_eq, jst_ne, jst_ni, jI_i, jcmp_lt, jcmp_gt, w32_id, jcpy_out, Sum.elim_inl, Sum.elim_inr, jt2, jt3, jt4, jt5, jt6, jt7, jt8] at fr2
  try simp (disch := omega) only [jst_eq, jst_ne, jst_ni, jI_i, jcmp_lt, jcmp_gt, w32_id, jcpy_out, Sum.elim_inl, Sum.elim_inr, jt2, jt3, jt4, jt5, jt6, jt7, jt8] at bk2
  try simp (disch := omega) only [jst_eq, jst_ne, jst_ni, jI_i, jcmp_lt, jcmp_gt, w32_id, jcpy_out, Sum.elim_inl, Sum.elim_inr, jt2, jt3, jt4, jt5, jt6, jt7, jt8] at br2
  have C11 := cqX_n hB C9 fr2 sx2
  have E11 : ∀ a s, ¬ (a = a1 ∧ s = 1) → ¬ (a = 441 ∧ (2 ≤ s ∧ s ≤ 7 ∨ s = 13)) → ¬ ((a = 442 ∨ a = 444) ∧ 0 ≤ s ∧ s < 3) → h11 a s = h a s := fun a s y1 y2 y3 => by { rw [fr2 a s (by omega)]; exact F9 a s y1 (by omega) y3 }
  have V11 : h11 a1 1 = a2 := by { rw [fr2 _ _ (by omega), fr1 _ _ (by omega) (by omega)]; exact V7 }
  refine OK_jb (vX13_loop_l80 (B := B) (n := n) (A := A) (T := T) (K := 1000000) (E := EL E l) (R0 := bnd R (pN B n 131638)) _ _ (by (first | assumption | omega | ((try dsimp only [jt2, jt3, jt4]); first | omega | (simp (disch := omega) only [jst_eq, jst_ne, jst_ni, jst_o, jI_i, jcpy_out, w32_id, jdiv_nn, jshr_k, jand_255] <;> first | done | omega | assumption)) | (intros; simp (disch := omega) only [jst_eq, jst_ne, jst_ni, jst_o, jI_i, jcpy_out, w32_id, jdiv_nn, *] <;> first | done | omega) | (intros; simp (disch := omega) only [jst_eq, jst_ne, jst_ni, jst_o, jI_i, jcpy_out, w32_id, jdiv_nn] at * <;> first | done | omega | assumption) | (intros; first | rfl | (exfalso; omega) | ((repeat' apply And.intro) <;> first | assumption | rfl | omega | trivial)))) (by (first | assumption | omega | ((try dsimp only [jt2, jt3, jt4]); first | omega | (simp (disch := omega) only [jst_eq, jst_ne, jst_ni, jst_o, jI_i, jcpy_out, w32_id, jdiv_nn, jshr_k, jand_255] <;> first | done | omega | assumption)) | (intros; simp (disch := omega) only [jst_eq, jst_ne, jst_ni, jst_o, jI_i, jcpy_out, w32_id, jdiv_nn, *] <;> first | done | omega) | (intros; simp (disch := omega) only [jst_eq, jst_ne, jst_ni, jst_o, jI_i, jcpy_out, w32_id, jdiv_nn] at * <;> first | done | omega | assumption) | (intros; first | rfl | (exfalso; omega) | ((repeat' apply And.intro) <;> first | assumption | rfl | omega | trivial)))) (by exact C11) (by (rw [E11 _ _ (by omega) (by omega) (by omega)]; exact z.2.1)) (by (rw [E11 _ _ (by omega) (by omega) (by omega), E11 _ _ (by omega) (by omega) (by omega)]; exact ar.2)) (by (rw [FK_fr (E11 _ _ (by omega) (by omega) (by omega)) (E11 _ _ (by omega) (by omega) (by omega)), z.2.2]; omega)) (by (first | assumption | omega | ((try dsimp only [jt2, jt3, jt4]); first | omega | (simp (disch := omega) only [jst_eq, jst_ne, jst_ni, jst_o, jI_i, jcpy_out, w32_id, jdiv_nn, jshr_k, jand_255] <;> first | done | omega | assumption)) | (intros; simp (disch := omega) only [jst_eq, jst_ne, jst_ni, jst_o, jI_i, jcpy_out, w32_id, jdiv_nn, *] <;> first | done | omega) | (intros; simp (disch := omega) only [jst_eq, jst_ne, jst_ni, jst_o, jI_i, jcpy_out, w32_id, jdiv_nn] at * <;> first | done | omega | assumption) | (intros; first | rfl | (exfalso; omega) | ((repeat' apply And.intro) <;> first | assumption | rfl | omega | trivial))))) (fun o12 r3 => ?_)
  rcases o12 with o14 | o15
  · skip
    have r4 := r3; clear r3
    dsimp only [Sum.elim_inl, Sum.elim_inr] at r4
    try dsimp only [Sum.elim_inl, Sum.elim_inr, jt2, jt3, jt4, jt5, jt6, jt7, jt8] at r4
    obtain ⟨bz3, f83, fr3⟩ := r4
    try simp (disch := omega) only [jst_eq, jst_ne, jst_ni, jI_i, jcmp_lt, jcmp_gt, w32_id, jcpy_out, Sum.elim_inl, Sum.elim_inr, jt2, jt3, jt4, jt5, jt6, jt7, jt8] at bz3
    try simp (disch := omega) only [jst_eq, jst_ne, jst_ni, jI_i, jcmp_lt, jcmp_gt, w32_id, jcpy_out, Sum.elim_inl, Sum.elim_inr, jt2, jt3, jt4, jt5, jt6, jt7, jt8] at f83
    try simp (disch := omega) only [jst_eq, jst_ne, jst_ni, jI_i, jcmp_lt, jcmp_gt, w32_id, jcpy_out, Sum.elim_inl, Sum.elim_inr, jt2, jt3, jt4, jt5, jt6, jt7, jt8] at fr3
    refine OK_jml ?_
    refine OK_some ?_
    try dsimp only [Sum.elim_inl, Sum.elim_inr, jt2, jt3, jt4, jt5, jt6, jt7, jt8]
    try dsimp only [Sum.elim_inl, Sum.elim_inr, jt2, jt3, jt4, jt5, jt6, jt7, jt8]
    refine ⟨?_, ?_, ?_⟩
    · (obtain ⟨w, e, x, y⟩ := bz3; rw [pLo_W ko, e]; exact ⟨x, y⟩) -- o14 e1.1
    · exact f83 -- o15 e1.2
    · exact fun b s y1 y2 y3 y4 => (by rw [fr3 b s (by omega) y2 (by omega) (by omega)]; exact E11 b s (by omega) (by omega) (by omega)) -- o16 e1.3
  · skip
    have r5 := r3; clear r3
    dsimp only [Sum.elim_inl, Sum.elim_inr] at r5
    refine OK_jmr ?_
    obtain ⟨y16, h17⟩ := o15
    refine OK_jt2 ?_
    try dsimp only [Sum.elim_inl, Sum.elim_inr, jt2, jt3, jt4, jt5, jt6, jt7, jt8] at r5
    obtain ⟨ok4, fr4, y04⟩ := r5
    try simp (disch := omega) only [jst_eq, jst_ne, jst_ni, jI_i, jcmp_lt, jcmp_gt, w32_id, jcpy_out, Sum.elim_inl, Sum.elim_inr, jt2, jt3, jt4, jt5, jt6, jt7, jt8] at ok4
    try simp (disch := omega) only [jst_eq, jst_ne, jst_ni, jI_i, jcmp_lt, jcmp_gt, w32_id, jcpy_out, Sum.elim_inl, Sum.elim_inr, jt2, jt3, jt4, jt5, jt6, jt7, jt8] at fr4
    try simp (disch := omega) only [jst_eq, jst_ne, jst_ni, jI_i, jcmp_lt, jcmp_gt, w32_id, jcpy_out, Sum.elim_inl, Sum.elim_inr, jt2, jt3, jt4, jt5, jt6, jt7, jt8] at y04
    obtain ⟨C17, G17⟩ := l80_c ok4
    have F17 : ∀ b s, ¬ (b = 441 ∧ 2 ≤ s ∧ s ≤ 18) → ¬ (b = 445 ∧ 0 ≤ s) → ¬ (a1 + 5 ≤ b ∧ b ≤ a1 + 10 ∧ 0 ≤ s) → ¬ ((b = a1 + 3 ∨ b = 446) ∧ 0 ≤ s ∧ s < 3) → ¬ (b = a1 ∧ s = 1) → ¬ ((b = 442 ∨ b = 444) ∧ 0 ≤ s ∧ s < 3) → h17 b s = h b s := fun b s y1 y2 y3 y4 y5 y6 => by { rw [fr4 b s y1 y2 y3 y4]; exact E11 b s y5 (by omega) y6 }
    have V17 : h17 a1 1 = a2 := by { rw [fr4 _ _ (by omega) (by omega) (by omega) (by omega)]; exact V11 }
    refine OK_jl ?_
    have F18 : ∀ a s, ¬ (a = a1 ∧ s = 2) → jst h17 a1 2 (min 3 y16) a s = h17 a s := fun a s y => jst_o y
    have V18 : jst h17 a1 2 (min 3 y16) a1 2 = min 3 y16 := jst_eq
    generalize jst h17 a1 2 (min 3 y16) = g18 at *
    refine OK_jb (vX13_loop_l206 (m := min 3 y16) _ _ _ (by (first | assumption | omega | ((try dsimp only [jt2, jt3, jt4]); first | omega | (simp (disch := omega) only [jst_eq, jst_ne, jst_ni, jst_o, jI_i, jcpy_out, w32_id, jdiv_nn, jshr_k, jand_255] <;> first | done | omega | assumption)) | (intros; simp (disch := omega) only [jst_eq, jst_ne, jst_ni, jst_o, jI_i, jcpy_out, w32_id, jdiv_nn, *] <;> first | done | omega) | (intros; simp (disch := omega) only [jst_eq, jst_ne, jst_ni, jst_o, jI_i, jcpy_out, w32_id, jdiv_nn] at * <;> first | done | omega | assumption) | (intros; first | rfl | (exfalso; omega) | ((repeat' apply And.intro) <;> first | assumption | rfl | omega | trivial)))) (by (first | assumption | omega | ((try dsimp only [jt2, jt3, jt4]); first | omega | (simp (disch := omega) only [jst_eq, jst_ne, jst_ni, jst_o, jI_i, jcpy_out, w32_id, jdiv_nn, jshr_k, jand_255] <;> first | done | omega | assumption)) | (intros; simp (disch := omega) only [jst_eq, jst_ne, jst_ni, jst_o, jI_i, jcpy_out, w32_id, jdiv_nn, *] <;> first | done | omega) | (intros; simp (disch := omega) only [jst_eq, jst_ne, jst_ni, jst_o, jI_i, jcpy_out, w32_id, jdiv_nn] at * <;> first | done | omega | assumption) | (intros; first | rfl | (exfalso; omega) | ((repeat' apply And.intro) <;> first | assumption | rfl | omega | trivial)))) (by exact ⟨V18, by omega, by omega⟩)) (fun o19 r6 => ?_)
    try dsimp only [Sum.elim_inl, Sum.elim_inr, jt2, jt3, jt4, jt5, jt6, jt7, jt8] at r6
    have v5 := r6
    clear r6
    try simp (disch := omega) only [jst_eq, jst_ne, jst_ni, jI_i, jcmp_lt, jcmp_gt, w32_id, jcpy_out, Sum.elim_inl, Sum.elim_inr, jt2, jt3, jt4, jt5, jt6, jt7, jt8] at v5
    have F19 : ∀ a s, ¬ (a = a1 ∧ s = 2) → ¬ (a = a1 + 2 ∧ 0 ≤ s ∧ s < 3) → o19 a s = h17 a s := fun a s y1 y2 => by { rw [v5, if_neg (by omega)]; exact F18 a s y1 }
    have V19 : o19 a1 2 = min 3 y16 ∧ ∀ k, 0 ≤ k → k < min 3 y16 → o19 (a1 + 2) k = h17 446 k := ⟨by { rw [v5, if_neg (by omega)]; exact V18 }, fun k k0 k1 => by { rw [v5, if_pos ⟨rfl, k0, k1⟩]; exact F18 _ _ (by omega) }⟩
    clear v5
    have C19 : cqX B n A T (EL E l) (sRt (bS (bnd R (pN B n 131638)) (pTs B n))) o19 := cqX_f C17 (fun a s y => F19 a s (fun z => by rcases y with y | y; { have := (rdN_n y).2.1; omega }; { omega }) (fun z => by rcases y with y | y; { have := (rdN_n y).2.1; omega }; { omega }))
    refine OK_jb (vX13_wordB (B := B) (n := n) (A := A) _ (by exact C19.1.1) (by (first | assumption | omega | ((try dsimp only [jt2, jt3, jt4]); first | omega | (simp (disch := omega) only [jst_eq, jst_ne, jst_ni, jst_o, jI_i, jcpy_out, w32_id, jdiv_nn, jshr_k, jand_255] <;> first | done | omega | assumption)) | (intros; simp (disch := omega) only [jst_eq, jst_ne, jst_ni, jst_o, jI_i, jcpy_out, w32_id, jdiv_nn, *] <;> first | done | omega) | (intros; simp (disch := omega) only [jst_eq, jst_ne, jst_ni, jst_o, jI_i, jcpy_out, w32_id, jdiv_nn] at * <;> first | done | omega | assumption) | (intros; first | rfl | (exfalso; omega) | ((repeat' apply And.intro) <;> first | assumption | rfl | omega | trivial)))) (by exact C19.2.2.1) (by exact nm_while C19.1.2.2.1)) (fun h22 r7 => ?_)
    try dsimp only [Sum.elim_inl, Sum.elim_inr, jt2, jt3, jt4, jt5, jt6, jt7, jt8] at r7
    obtain ⟨sx6, fr6, bk6, br6⟩ := r7
    try simp (disch := omega) only [jst_eq, jst_ne, jst_ni, jI_i, jcmp_lt, jcmp_gt, w32_id, jcpy_out, Sum.elim_inl, Sum.elim_inr, jt2, jt3, jt4, jt5, jt6, jt7, jt8] at sx6
    try simp (disch := omega) only [jst_eq, jst_ne, jst_ni, jI_i, jcmp_lt, jcmp_gt, w32_id, jcpy_out, Sum.elim_inl, Sum.elim_inr, jt2, jt3, jt4, jt5, jt6, jt7, jt8] at fr6
    try simp (disch := omega) only [jst_eq, jst_ne, jst_ni, jI_i, jcmp_lt, jcmp_gt, w32_id, jcpy_out, Sum.elim_inl, Sum.elim_inr, jt2, jt3, jt4, jt5, jt6, jt7, jt8] at bk6
    try simp (disch := omega) only [jst_eq, jst_ne, jst_ni, jI_i, jcmp_lt, jcmp_gt, w32_id, jcpy_out, Sum.elim_inl, Sum.elim_inr, jt2, jt3, jt4, jt5, jt6, jt7, jt8] at br6
    have F22 : ∀ a s, ¬ (a = a1 ∧ s = 2) → ¬ (a = a1 + 2 ∧ 0 ≤ s ∧ s < 3) → ¬ (a = 441 ∧ 2 ≤ s ∧ s ≤ 7) → h22 a s = h17 a s := fun a s y1 y2 y3 => by { rw [fr6 a s y3]; exact F19 a s y1 y2 }
    have V22 : h22 a1 2 = min 3 y16 ∧ ∀ k, 0 ≤ k → k < min 3 y16 → h22 (a1 + 2) k = h17 446 k := ⟨by { rw [fr6 _ _ (by omega)]; exact V19.1 }, fun k k0 k1 => by { rw [fr6 _ _ (by omega)]; exact V19.2 k k0 k1 }⟩
    rw [V22.1]
    refine OK_jb (vX13_parameters _ _ (by omega) (by (have r := C19.1.2.2.2.2.1.2; rw [fr6 _ _ (by omega), fr6 _ _ (by omega), r.1, r.2]; omega))) (fun h24 r8 => ?_)
    try dsimp only [Sum.elim_inl, Sum.elim_inr, jt2, jt3, jt4, jt5, jt6, jt7, jt8] at r8
    obtain ⟨pp7, fr7⟩ := r8
    try simp (disch := omega) only [jst_eq, jst_ne, jst_ni, jI_i, jcmp_lt, jcmp_gt, w32_id, jcpy_out, Sum.elim_inl, Sum.elim_inr, jt2, jt3, jt4, jt5, jt6, jt7, jt8] at pp7
    try simp (disch := omega) only [jst_eq, jst_ne, jst_ni, jI_i, jcmp_lt, jcmp_gt, w32_id, jcpy_out, Sum.elim_inl, Sum.elim_inr, jt2, jt3, jt4, jt5, jt6, jt7, jt8] at fr7
    have F24 : ∀ a s, ¬ (a = a1 ∧ s = 2) → ¬ (a = a1 + 2 ∧ 0 ≤ s ∧ s < 3) → ¬ (a = 441 ∧ (2 ≤ s ∧ s ≤ 7 ∨ s = 13)) → ¬ ((a = 442 ∨ a = 444) ∧ 0 ≤ s ∧ s < 3) → h24 a s = h17 a s := fun a s y1 y2 y3 y4 => by { rw [fr7 a s (by omega) y4]; exact F22 a s y1 y2 (by omega) }
    have V24 : h24 a1 2 = min 3 y16 ∧ ∀ k, 0 ≤ k → k < min 3 y16 → h24 (a1 + 2) k = h17 446 k := ⟨by { rw [fr7 _ _ (by omega) (by omega)]; exact V22.1 }, fun k k0 k1 => by { rw [fr7 _ _ (by omega) (by omega)]; exact V22.2 k k0 k1 }⟩
    refine OK_if (fun c1 => ?_) (fun c1 => ?_)
    · skip
      try simp (disch := omega) only [jst_eq, jst_ne, jst_ni, jI_i, jcmp_lt, jcmp_gt, w32_id, jcpy_out, Sum.elim_inl, Sum.elim_inr, jt2, jt3, jt4, jt5, jt6, jt7, jt8] at c1
      obtain ⟨ts, q4, eW⟩ : ∃ ts q, bS (bnd R (pN B n 131638)) (pTs B n) = .inr (ts, q) := by { cases e : bS (bnd R (pN B n 131638)) (pTs B n) with | inl w => { have := br6 ⟨w, by rw [e]; rfl⟩; rw [fr7 _ _ (by omega) (by omega)] at c1; omega } | inr x => exact ⟨x.1, x.2, rfl⟩ }
      obtain ⟨l1, l2, l3, l4, l5⟩ := G17 ts q4 eW
      have SL := skL_len (E := EL E l) (ts := ts)
      have SK : ∀ k, 0 ≤ k → k < min 3 y16 → h17 446 k = kL (skL (EL E l) ts) k := fun k k0 k1 => by { obtain ⟨t, t1, t2, t3⟩ := skL_k (E := EL E l) (ts := ts) k0 (by omega); have := l3 k.toNat t2 t t1; rw [t3, ← this, show ((k.toNat : Nat) : Int) = k by omega] }
      obtain ⟨q3, e3, g3, o3⟩ : ∃ q, bnd R (pN B n 131638) = .inr q ∧ NB B n q h11 ∧ tO B n q ≠ 5 := by { have s := C11.2.2.1; cases e : bnd R (pN B n 131638) with | inl w => { rw [e] at eW; cases eW } | inr q => { rw [e] at s; exact ⟨q, rfl, (Sx_inr s).1, (Sx_inr s).2⟩ } }
      obtain ⟨mm, m1, _, m3, m4, m5, m6, m7⟩ := pKs_ord hB n2 2002 [] q3 ts q4 g3.2.2.1 g3.2.2.2 o3 (by have w := eW; rw [e3] at w; exact w)
      have KR : ∀ k, 0 ≤ k → k < min 3 y16 → -1 ≤ kL (skL (EL E l) ts) k ∧ kL (skL (EL E l) ts) k ≤ 2 := fun k k0 k1 => by { obtain ⟨t, t1, t2, t3⟩ := skL_k (E := EL E l) (ts := ts) k0 (by omega); rw [t3]; exact kdE_x (E := EL E l) C17.1.2.1 C17.2.1 C17.1.2.2.2.2.2.2.2.2 (ordL_m m3 t (by have := List.mem_of_getElem? t1; rw [m1] at this; exact this)).1 }
      have PX24 : parX B n h24 (EL E (skL (EL E l) ts)).2.1.1 (EL E (skL (EL E l) ts)).2.1.2.1 (EL E (skL (EL E l) ts)).2.1.2.2 := ⟨by { rw [pp7.1]; show min 3 y16 = ((skL (EL E l) ts).length : Int); omega }, by { show 0 ≤ ((skL (EL E l) ts).length : Int); omega }, by { show ((skL (EL E l) ts).length : Int) ≤ 3; omega }, fun k k0 k1 => by { have k1' : k < min 3 y16 := (by have : k < ((skL (EL E l) ts).length : Int) := k1; omega); have p := pp7.2 k k0 k1'; have q := KR k k0 k1'; exact ⟨by rw [p.2, F22 _ _ (by omega) (by omega) (by omega)]; exact SK k k0 k1', q.1, q.2, Or.inl ⟨p.1, rfl⟩⟩ }⟩
      have RD24 : rdT B n A T (EL E (skL (EL E l) ts)) h24 := rdT_f (E := EL E (skL (EL E l) ts)) C17.1 (fun a s y => F24 a s (fun z => by rcases y with y | y; { have := (rdN_n y).2.1; omega }; { omega }) (fun z => by rcases y with y | y; { have := (rdN_n y).2.1; omega }; { omega }) (fun z => by rcases y with y | y; { have := (rdN_n y).2.2.2; omega }; { omega }) (fun z => by rcases y with y | y; { have := (rdN_n y).2.2.1; omega }; { omega }))
      have S24 : Sx B n (pN B n 12387497 q4) h24 := by { have s := sx6; rw [eW] at s; exact Sx_fr s (fun s s0 s1 => fr7 _ _ (by omega) (by omega)) }
      have E24 : h24 T 0 = h17 T 0 := F24 _ _ (by omega) (by omega) (by omega) (by omega)
      have C24 : cqX B n A T (EL E (skL (EL E l) ts)) (pN B n 12387497 q4) h24 := by { obtain ⟨u, u0, u1, u2, u3, u4⟩ := C17.2.2.2; exact ⟨RD24, PX24, S24, u, u0, u1, by rw [E24]; exact u2, by rw [E24]; exact u3, fun q e => by { have u5 := u4 q4 (by rw [eW]; rfl); obtain ⟨q', e1, e2⟩ := bnd_le (R := .inr q4) (w := 12387497) hB (by have s := C17.2.2.1; rw [eW] at s; exact s) e; cases e1; omega }⟩ }
      have K24a : h24 a1 1 = (l.length : Int) ∧ ∀ k, 0 ≤ k → k < (l.length : Int) → h24 (a1 + 1) k = kL l k ∧ 0 ≤ kL l k ∧ kL l k ≤ 2 := ⟨by { rw [F24 _ _ (by omega) (by omega) (by omega) (by omega), V17]; exact kc.1.symm }, fun k k0 k1 => by { rw [F24 _ _ (by omega) (by omega) (by omega) (by omega), F17 _ _ (by omega) (by omega) (by omega) (by omega) (by omega) (by omega)]; exact kc.2.2 k k0 (by omega) }⟩
      have K24b : h24 a1 2 = ((skL (EL E l) ts).length : Int) ∧ ∀ k, 0 ≤ k → k < ((skL (EL E l) ts).length : Int) → h24 (a1 + 2) k = kL (skL (EL E l) ts) k := ⟨by { rw [V24.1]; omega }, fun k k0 k1 => by { rw [V24.2 k k0 (by omega)]; exact SK k k0 (by omega) }⟩
      have t24 : trsX h24 T (EL E l) (a1 + 3) ts (h24 T 0) := by { rw [E24]; exact trsX_f l2 (Int.le_refl _) (fun i i0 i1 => F24 _ _ (by omega) (by omega) (by omega) (by omega)) (fun a s a0 a1 s0 s1 => F24 _ _ (by omega) (by omega) (by omega) (by omega)) (fun s s0 s1 => F24 _ _ (by omega) (by omega) (by omega) (by omega)) }
      have f24 : FK h24 = min 1000000 (fkF (EL E l) ts 0) := by { rw [FK_fr (F24 _ _ (by omega) (by omega) (by omega) (by omega)) (F24 _ _ (by omega) (by omega) (by omega) (by omega))]; exact l5 }
      refine OK_jb2 (vX13_toldC (B := B) (n := n) (A := A) (T := T) (E := EL E (skL (EL E l) ts)) (R := pN B n 12387497 q4) _ (by (first | assumption | omega | ((try dsimp only [jt2, jt3, jt4]); first | omega | (simp (disch := omega) only [jst_eq, jst_ne, jst_ni, jst_o, jI_i, jcpy_out, w32_id, jdiv_nn, jshr_k, jand_255] <;> first | done | omega | assumption)) | (intros; simp (disch := omega) only [jst_eq, jst_ne, jst_ni, jst_o, jI_i, jcpy_out, w32_id, jdiv_nn, *] <;> first | done | omega) | (intros; simp (disch := omega) only [jst_eq, jst_ne, jst_ni, jst_o, jI_i, jcpy_out, w32_id, jdiv_nn] at * <;> first | done | omega | assumption) | (intros; first | rfl | (exfalso; omega) | ((repeat' apply And.intro) <;> first | assumption | rfl | omega | trivial)))) (by exact C24) (by (rw [F24 _ _ (by omega) (by omega) (by omega) (by omega)]; exact l4))) (fun v27 h28 r9 => ?_)
      try dsimp only [Sum.elim_inl, Sum.elim_inr, jt2, jt3, jt4, jt5, jt6, jt7, jt8] at r9
      obtain ⟨fr8, td8⟩ := r9
      try simp (disch := omega) only [jst_eq, jst_ne, jst_ni, jI_i, jcmp_lt, jcmp_gt, w32_id, jcpy_out, Sum.elim_inl, Sum.elim_inr, jt2, jt3, jt4, jt5, jt6, jt7, jt8] at fr8
      try simp (disch := omega) only [jst_eq, jst_ne, jst_ni, jI_i, jcmp_lt, jcmp_gt, w32_id, jcpy_out, Sum.elim_inl, Sum.elim_inr, jt2, jt3, jt4, jt5, jt6, jt7, jt8] at td8
      obtain ⟨d1, d2, d3⟩ := td8
      refine OK_jl ?_
      have F29 : ∀ a s, ¬ (a = a1 ∧ s = 6) → jst h28 a1 6 v27 a s = h28 a s := fun a s y => jst_o y
      have V29 : jst h28 a1 6 v27 a1 6 = v27 := jst_eq
      generalize jst h28 a1 6 v27 = g29 at *
      obtain ⟨KK, eKK⟩ : ∃ x, FK g29 = x := ⟨_, rfl⟩
      have C29 : cqX B n A T (EL E (skL (EL E l) ts)) (sR (bdT (pN B n 12387497 q4) (pT B n false 13))) g29 := cqX_f d1 (fun a s y => F29 a s (fun z => by rcases y with y | y; { have := (rdN_n y).2.1; omega }; { omega }))
      have K29 : g29 a1 2 = ((skL (EL E l) ts).length : Int) ∧ (skL (EL E l) ts).length ≤ 3 ∧ ∀ k, 0 ≤ k → k < ((skL (EL E l) ts).length : Int) → g29 446 k = kL (skL (EL E l) ts) k := ⟨by { rw [F29 _ _ (by omega), fr8 _ _ (by omega) (by omega) (by omega) (by omega) (by omega), V24.1]; omega }, by omega, fun k k0 k1 => by { rw [F29 _ _ (by omega), fr8 _ _ (by omega) (by omega) (by omega) (by omega) (by omega), F24 _ _ (by omega) (by omega) (by omega) (by omega)]; exact SK k k0 (by omega) }⟩
      have Z29 : ∀ q, sR (bdT (pN B n 12387497 q4) (pT B n false 13)) = .inr q → g29 441 16 = 0 ∧ FK g29 = KK := fun q e => by { refine ⟨?_, eKK⟩; rw [F29 _ _ (by omega)]; unfold tdG at d3; cases e2 : bdT (pN B n 12387497 q4) (pT B n false 13) with | inl w => { rw [e2] at e; cases e } | inr x => { obtain ⟨t, q'⟩ := x; rw [e2] at d3; exact d3.2.2.2.1.2 } }
      refine OK_mono (vX13_loop_j270m (B := B) (n := n) (A := A) (T := T) (K := KK) (E := EL E (skL (EL E l) ts)) (sk := skL (EL E l) ts) (R := sR (bdT (pN B n 12387497 q4) (pT B n false 13))) (ks := l) (ts := ts) (c := tmO (bdT (pN B n 12387497 q4) (pT B n false 13))) _ _ (by (first | assumption | omega | ((try dsimp only [jt2, jt3, jt4]); first | omega | (simp (disch := omega) only [jst_eq, jst_ne, jst_ni, jst_o, jI_i, jcpy_out, w32_id, jdiv_nn, jshr_k, jand_255] <;> first | done | omega | assumption)) | (intros; simp (disch := omega) only [jst_eq, jst_ne, jst_ni, jst_o, jI_i, jcpy_out, w32_id, jdiv_nn, *] <;> first | done | omega) | (intros; simp (disch := omega) only [jst_eq, jst_ne, jst_ni, jst_o, jI_i, jcpy_out, w32_id, jdiv_nn] at * <;> first | done | omega | assumption) | (intros; first | rfl | (exfalso; omega) | ((repeat' apply And.intro) <;> first | assumption | rfl | omega | trivial)))) (by (first | assumption | omega | ((try dsimp only [jt2, jt3, jt4]); first | omega | (simp (disch := omega) only [jst_eq, jst_ne, jst_ni, jst_o, jI_i, jcpy_out, w32_id, jdiv_nn, jshr_k, jand_255] <;> first | done | omega | assumption)) | (intros; simp (disch := omega) only [jst_eq, jst_ne, jst_ni, jst_o, jI_i, jcpy_out, w32_id, jdiv_nn, *] <;> first | done | omega) | (intros; simp (disch := omega) only [jst_eq, jst_ne, jst_ni, jst_o, jI_i, jcpy_out, w32_id, jdiv_nn] at * <;> first | done | omega | assumption) | (intros; first | rfl | (exfalso; omega) | ((repeat' apply And.intro) <;> first | assumption | rfl | omega | trivial)))) (by exact fun _ => ⟨C29, Z29, K29⟩)) (fun r r10 => ?_)
      try dsimp only [Sum.elim_inl, Sum.elim_inr, jt2, jt3, jt4, jt5, jt6, jt7, jt8] at r10
      obtain ⟨nb9, dx9⟩ := r10
      try simp (disch := omega) only [jst_eq, jst_ne, jst_ni, jI_i, jcmp_lt, jcmp_gt, w32_id, jcpy_out, Sum.elim_inl, Sum.elim_inr, jt2, jt3, jt4, jt5, jt6, jt7, jt8] at nb9
      try simp (disch := omega) only [jst_eq, jst_ne, jst_ni, jI_i, jcmp_lt, jcmp_gt, w32_id, jcpy_out, Sum.elim_inl, Sum.elim_inr, jt2, jt3, jt4, jt5, jt6, jt7, jt8] at dx9
      try dsimp only [Sum.elim_inl, Sum.elim_inr, jt2, jt3, jt4, jt5, jt6, jt7, jt8]
      try dsimp only [Sum.elim_inl, Sum.elim_inr, jt2, jt3, jt4, jt5, jt6, jt7, jt8]
      refine ⟨?_, ?_, ?_⟩
      · (rw [pLo_W ko, eW]; exact (lp_fin lo.1 lo.2 rfl rfl l1 K24a K24b t24 f24 fr8 (cqX_b C24).1 d1 d2.2.2 d3 F29 V29 nb9 dx9 eKK).1) -- o32 e2.1
      · exact (lp_fin lo.1 lo.2 rfl rfl l1 K24a K24b t24 f24 fr8 (cqX_b C24).1 d1 d2.2.2 d3 F29 V29 nb9 dx9 eKK).2.1 -- o33 e2.2
      · exact fun b s y1 y2 y3 y4 => (by have b24 := (cqX_b C24).1; rw [(lp_fin lo.1 lo.2 rfl rfl l1 K24a K24b t24 f24 fr8 (cqX_b C24).1 d1 d2.2.2 d3 F29 V29 nb9 dx9 eKK).2.2 b s y1 y2 (by omega) (by omega) (by omega) (by unfold lpC; omega), F24 b s (by omega) (by omega) (by omega) (by omega)]; exact F17 b s y1 y2 (by omega) (by omega) (by omega) (by omega)) -- o34 e2.3
    · skip
      try simp (disch := omega) only [jst_eq, jst_ne, jst_ni, jI_i, jcmp_lt, jcmp_gt, w32_id, jcpy_out, Sum.elim_inl, Sum.elim_inr, jt2, jt3, jt4, jt5, jt6, jt7, jt8] at c1
      obtain ⟨ts, q4, KK, _⟩ : ∃ (_ : List TR) (_ _ : Int), True := ⟨[], 0, 0, trivial⟩
      have b22 : ¬ h22 441 6 = 0 := by { rw [← fr7 441 6 (by omega) (by omega)]; exact c1 }
      obtain ⟨z22, y22⟩ := Sx_br sx6 b22
      refine OK_mono (vX13_loop_j270m (B := B) (n := n) (A := A) (T := T) (K := KK) (E := EL E (skL (EL E l) ts)) (sk := skL (EL E l) ts) (R := sR (bdT (pN B n 12387497 q4) (pT B n false 13))) (ks := l) (ts := ts) (c := tmO (bdT (pN B n 12387497 q4) (pT B n false 13))) _ _ (by (first | assumption | omega | ((try dsimp only [jt2, jt3, jt4]); first | omega | (simp (disch := omega) only [jst_eq, jst_ne, jst_ni, jst_o, jI_i, jcpy_out, w32_id, jdiv_nn, jshr_k, jand_255] <;> first | done | omega | assumption)) | (intros; simp (disch := omega) only [jst_eq, jst_ne, jst_ni, jst_o, jI_i, jcpy_out, w32_id, jdiv_nn, *] <;> first | done | omega) | (intros; simp (disch := omega) only [jst_eq, jst_ne, jst_ni, jst_o, jI_i, jcpy_out, w32_id, jdiv_nn] at * <;> first | done | omega | assumption) | (intros; first | rfl | (exfalso; omega) | ((repeat' apply And.intro) <;> first | assumption | rfl | omega | trivial)))) (by (first | assumption | omega | ((try dsimp only [jt2, jt3, jt4]); first | omega | (simp (disch := omega) only [jst_eq, jst_ne, jst_ni, jst_o, jI_i, jcpy_out, w32_id, jdiv_nn, jshr_k, jand_255] <;> first | done | omega | assumption)) | (intros; simp (disch := omega) only [jst_eq, jst_ne, jst_ni, jst_o, jI_i, jcpy_out, w32_id, jdiv_nn, *] <;> first | done | omega) | (intros; simp (disch := omega) only [jst_eq, jst_ne, jst_ni, jst_o, jI_i, jcpy_out, w32_id, jdiv_nn] at * <;> first | done | omega | assumption) | (intros; first | rfl | (exfalso; omega) | ((repeat' apply And.intro) <;> first | assumption | rfl | omega | trivial)))) (by exact fun b => absurd b c1)) (fun r r11 => ?_)
      try dsimp only [Sum.elim_inl, Sum.elim_inr, jt2, jt3, jt4, jt5, jt6, jt7, jt8] at r11
      obtain ⟨nb10, dx10⟩ := r11
      try simp (disch := omega) only [jst_eq, jst_ne, jst_ni, jI_i, jcmp_lt, jcmp_gt, w32_id, jcpy_out, Sum.elim_inl, Sum.elim_inr, jt2, jt3, jt4, jt5, jt6, jt7, jt8] at nb10
      try simp (disch := omega) only [jst_eq, jst_ne, jst_ni, jI_i, jcmp_lt, jcmp_gt, w32_id, jcpy_out, Sum.elim_inl, Sum.elim_inr, jt2, jt3, jt4, jt5, jt6, jt7, jt8] at dx10
      try dsimp only [Sum.elim_inl, Sum.elim_inr, jt2, jt3, jt4, jt5, jt6, jt7, jt8]
      try dsimp only [Sum.elim_inl, Sum.elim_inr, jt2, jt3, jt4, jt5, jt6, jt7, jt8]
      refine ⟨?_, ?_, ?_⟩
      · (rw [nb10 c1, pLo_W ko, pLo_4b y22]; exact ⟨by rw [fr7 441 6 (by omega) (by omega)]; exact z22, fr7 441 7 (by omega) (by omega)⟩) -- o38 e3.1
      · (rw [nb10 c1]; have f := f8X_c C19; unfold f8X at f ⊢; rw [fr7 441 8 (by omega) (by omega), FK_fr (fr7 _ _ (by omega) (by omega)) (fr7 _ _ (by omega) (by omega)), fr6 441 8 (by omega), FK_fr (fr6 _ _ (by omega)) (fr6 _ _ (by omega))]; exact f) -- o39 e3.2
      · exact fun b s y1 y2 y3 y4 => (by rw [nb10 c1, F24 b s (by omega) (by omega) (by omega) (by omega)]; exact F17 b s y1 y2 (by omega) (by omega) (by omega) (by omega)) -- o40 e3.3
theorem vX13_loop (a1 : Int) {h : AH} {B : Int → Int} {n A T : Int} {E : EV} {R : Int ⊕ Int} (hB : ∀ i, 0 ≤ i → i < n → 0 ≤ B i ∧ B i < 256) (lo : isLo a1 ∧ T = a1 + 5) (rd : rdT B n A T E h) (sx : Sx B n R h) (b6 : h 441 6 = 0) (z : h T 0 = 0 ∧ h 441 16 = 0 ∧ FK h = 1000000) (ar : (h (a1 + 1) (-2) = 101 ∧ h (a1 + 1) (-1) = 3) ∧ h (a1 + 3) (-2) = 101 ∧ h (a1 + 3) (-1) = 3) : OK (gX13_loop a1 h) (fun h' => (lpQ T a1 E (bS R (pLo B n)) h') ∧ (f8X h') ∧ (∀ b s, ¬ (b = 441 ∧ 2 ≤ s ∧ s ≤ 18) → ¬ (b = 445 ∧ 0 ≤ s) → ¬ (a1 ≤ b ∧ b ≤ a1 + 10 ∧ 0 ≤ s) → ¬ ((b = 442 ∨ b = 444 ∨ b = 446) ∧ 0 ≤ s ∧ s < 3) → h' b s = h b s)) := by
  have LA : a1 = 378 ∨ a1 = 391 := lo.1
  unfold gX13_loop
  refine OK_jb (vX13_wordT (B := B) (n := n) (A := A) _ (by exact rd.1) (by (first | assumption | omega | ((try dsimp only [jt2, jt3, jt4]); first | omega | (simp (disch := omega) only [jst_eq, jst_ne, jst_ni, jst_o, jI_i, jcpy_out, w32_id, jdiv_nn, jshr_k, jand_255] <;> first | done | omega | assumption)) | (intros; simp (disch := omega) only [jst_eq, jst_ne, jst_ni, jst_o, jI_i, jcpy_out, w32_id, jdiv_nn, *] <;> first | done | omega) | (intros; simp (disch := omega) only [jst_eq, jst_ne, jst_ni, jst_o, jI_i, jcpy_out, w32_id, jdiv_nn] at * <;> first | done | omega | assumption) | (intros; first | rfl | (exfalso; omega) | ((repeat' apply And.intro) <;> first | assumption | rfl | omega | trivial)))) (by exact sx) (by exact b6) (by exact nm_loop rd.2.2.1)) (fun h2 r1 => ?_)
  try dsimp only [Sum.elim_inl, Sum.elim_inr, jt2, jt3, jt4, jt5, jt6, jt7, jt8] at r1
  obtain ⟨sx1, tk1, fr1⟩ := r1
  try simp (disch := omega) only [jst_eq, jst_ne, jst_ni, jI_i, jcmp_lt, jcmp_gt, w32_id, jcpy_out, Sum.elim_inl, Sum.elim_inr, jt2, jt3, jt4, jt5, jt6, jt7, jt8] at sx1
  try simp (disch := omega) only [jst_eq, jst_ne, jst_ni, jI_i, jcmp_lt, jcmp_gt, w32_id, jcpy_out, Sum.elim_inl, Sum.elim_inr, jt2, jt3, jt4, jt5, jt6, jt7, jt8] at tk1
  try simp (disch := omega) only [jst_eq, jst_ne, jst_ni, jI_i, jcmp_lt, jcmp_gt, w32_id, jcpy_out, Sum.elim_inl, Sum.elim_inr, jt2, jt3, jt4, jt5, jt6, jt7, jt8] at fr1
  have RD2 : rdT B n A T E h2 := rdT_f rd (fun a s y => fr1 a s (fun z => by rcases y with y | y; { have := (rdN_n y).2.2.2; omega }; { omega }))
  refine OK_jb (vX13_loop_l9 (B := B) (n := n) (A := A) (R0 := bnd R (pN B n 247552)) _ _ (by (first | assumption | omega | ((try dsimp only [jt2, jt3, jt4]); first | omega | (simp (disch := omega) only [jst_eq, jst_ne, jst_ni, jst_o, jI_i, jcpy_out, w32_id, jdiv_nn, jshr_k, jand_255] <;> first | done | omega | assumption)) | (intros; simp (disch := omega) only [jst_eq, jst_ne, jst_ni, jst_o, jI_i, jcpy_out, w32_id, jdiv_nn, *] <;> first | done | omega) | (intros; simp (disch := omega) only [jst_eq, jst_ne, jst_ni, jst_o, jI_i, jcpy_out, w32_id, jdiv_nn] at * <;> first | done | omega | assumption) | (intros; first | rfl | (exfalso; omega) | ((repeat' apply And.intro) <;> first | assumption | rfl | omega | trivial)))) (by exact RD2.1) (by exact RD2.2.2.1) (by exact sx1) (by exact Or.inr tk1) (by (first | assumption | omega | ((try dsimp only [jt2, jt3, jt4]); first | omega | (simp (disch := omega) only [jst_eq, jst_ne, jst_ni, jst_o, jI_i, jcpy_out, w32_id, jdiv_nn, jshr_k, jand_255] <;> first | done | omega | assumption)) | (intros; simp (disch := omega) only [jst_eq, jst_ne, jst_ni, jst_o, jI_i, jcpy_out, w32_id, jdiv_nn, *] <;> first | done | omega) | (intros; simp (disch := omega) only [jst_eq, jst_ne, jst_ni, jst_o, jI_i, jcpy_out, w32_id, jdiv_nn] at * <;> first | done | omega | assumption) | (intros; first | rfl | (exfalso; omega) | ((repeat' apply And.intro) <;> first | assumption | rfl | omega | trivial)))) (by (first | assumption | omega | ((try dsimp only [jt2, jt3, jt4]); first | omega | (simp (disch := omega) only [jst_eq, jst_ne, jst_ni, jst_o, jI_i, jcpy_out, w32_id, jdiv_nn, jshr_k, jand_255] <;> first | done | omega | assumption)) | (intros; simp (disch := omega) only [jst_eq, jst_ne, jst_ni, jst_o, jI_i, jcpy_out, w32_id, jdiv_nn, *] <;> first | done | omega) | (intros; simp (disch := omega) only [jst_eq, jst_ne, jst_ni, jst_o, jI_i, jcpy_out, w32_id, jdiv_nn] at * <;> first | done | omega | assumption) | (intros; first | rfl | (exfalso; omega) | ((repeat' apply And.intro) <;> first | assumption | rfl | omega | trivial))))) (fun o3 r2 => ?_)
  obtain ⟨y5, h6⟩ := o3
  refine OK_jt2 ?_
  try dsimp only [Sum.elim_inl, Sum.elim_inr, jt2, jt3, jt4, jt5, jt6, jt7, jt8] at r2
  obtain ⟨rg2, ko2, fr2⟩ := r2
  try simp (disch := omega) only [jst_eq, jst_ne, jst_ni, jI_i, jcmp_lt, jcmp_gt, w32_id, jcpy_out, Sum.elim_inl, Sum.elim_inr, jt2, jt3, jt4, jt5, jt6, jt7, jt8] at rg2
  try simp (disch := omega) only [jst_eq, jst_ne, jst_ni, jI_i, jcmp_lt, jcmp_gt, w32_id, jcpy_out, Sum.elim_inl, Sum.elim_inr, jt2, jt3, jt4, jt5, jt6, jt7, jt8] at ko2
  try simp (disch := omega) only [jst_eq, jst_ne, jst_ni, jI_i, jcmp_lt, jcmp_gt, w32_id, jcpy_out, Sum.elim_inl, Sum.elim_inr, jt2, jt3, jt4, jt5, jt6, jt7, jt8] at fr2
  have F6 : ∀ a s, ¬ (a = 441 ∧ 2 ≤ s ∧ s ≤ 7) → ¬ (a = a1 + 1 ∧ 0 ≤ s ∧ s < 3) → h6 a s = h a s := fun a s y1 y2 => by { rw [fr2 a s y1 y2]; exact fr1 a s y1 }
  have RD6 : rdT B n A T E h6 := rdT_f rd (fun a s y => F6 a s (fun z => by rcases y with y | y; { have := (rdN_n y).2.2.2; omega }; { omega }) (fun z => by rcases y with y | y; { have := (rdN_n y).2.1; omega }; { omega }))
  obtain ⟨R6, l, S6, K6, L6, C6⟩ := ko2
  refine OK_mono (vX13_loop_j57 (B := B) (n := n) (A := A) (T := T) (E := E) (R0 := bnd R (pN B n 247552)) (R := R6) (l := l) _ _ (by (first | assumption | omega | ((try dsimp only [jt2, jt3, jt4]); first | omega | (simp (disch := omega) only [jst_eq, jst_ne, jst_ni, jst_o, jI_i, jcpy_out, w32_id, jdiv_nn, jshr_k, jand_255] <;> first | done | omega | assumption)) | (intros; simp (disch := omega) only [jst_eq, jst_ne, jst_ni, jst_o, jI_i, jcpy_out, w32_id, jdiv_nn, *] <;> first | done | omega) | (intros; simp (disch := omega) only [jst_eq, jst_ne, jst_ni, jst_o, jI_i, jcpy_out, w32_id, jdiv_nn] at * <;> first | done | omega | assumption) | (intros; first | rfl | (exfalso; omega) | ((repeat' apply And.intro) <;> first | assumption | rfl | omega | trivial)))) (by (first | assumption | omega | ((try dsimp only [jt2, jt3, jt4]); first | omega | (simp (disch := omega) only [jst_eq, jst_ne, jst_ni, jst_o, jI_i, jcpy_out, w32_id, jdiv_nn, jshr_k, jand_255] <;> first | done | omega | assumption)) | (intros; simp (disch := omega) only [jst_eq, jst_ne, jst_ni, jst_o, jI_i, jcpy_out, w32_id, jdiv_nn, *] <;> first | done | omega) | (intros; simp (disch := omega) only [jst_eq, jst_ne, jst_ni, jst_o, jI_i, jcpy_out, w32_id, jdiv_nn] at * <;> first | done | omega | assumption) | (intros; first | rfl | (exfalso; omega) | ((repeat' apply And.intro) <;> first | assumption | rfl | omega | trivial)))) (by (first | assumption | omega | ((try dsimp only [jt2, jt3, jt4]); first | omega | (simp (disch := omega) only [jst_eq, jst_ne, jst_ni, jst_o, jI_i, jcpy_out, w32_id, jdiv_nn, jshr_k, jand_255] <;> first | done | omega | assumption)) | (intros; simp (disch := omega) only [jst_eq, jst_ne, jst_ni, jst_o, jI_i, jcpy_out, w32_id, jdiv_nn, *] <;> first | done | omega) | (intros; simp (disch := omega) only [jst_eq, jst_ne, jst_ni, jst_o, jI_i, jcpy_out, w32_id, jdiv_nn] at * <;> first | done | omega | assumption) | (intros; first | rfl | (exfalso; omega) | ((repeat' apply And.intro) <;> first | assumption | rfl | omega | trivial)))) (by (first | assumption | omega | ((try dsimp only [jt2, jt3, jt4]); first | omega | (simp (disch := omega) only [jst_eq, jst_ne, jst_ni, jst_o, jI_i, jcpy_out, w32_id, jdiv_nn, jshr_k, jand_255] <;> first | done | omega | assumption)) | (intros; simp (disch := omega) only [jst_eq, jst_ne, jst_ni, jst_o, jI_i, jcpy_out, w32_id, jdiv_nn, *] <;> first | done | omega) | (intros; simp (disch := omega) only [jst_eq, jst_ne, jst_ni, jst_o, jI_i, jcpy_out, w32_id, jdiv_nn] at * <;> first | done | omega | assumption) | (intros; first | rfl | (exfalso; omega) | ((repeat' apply And.intro) <;> first | assumption | rfl | omega | trivial)))) (by (first | assumption | omega | ((try dsimp only [jt2, jt3, jt4]); first | omega | (simp (disch := omega) only [jst_eq, jst_ne, jst_ni, jst_o, jI_i, jcpy_out, w32_id, jdiv_nn, jshr_k, jand_255] <;> first | done | omega | assumption)) | (intros; simp (disch := omega) only [jst_eq, jst_ne, jst_ni, jst_o, jI_i, jcpy_out, w32_id, jdiv_nn, *] <;> first | done | omega) | (intros; simp (disch := omega) only [jst_eq, jst_ne, jst_ni, jst_o, jI_i, jcpy_out, w32_id, jdiv_nn] at * <;> first | done | omega | assumption) | (intros; first | rfl | (exfalso; omega) | ((repeat' apply And.intro) <;> first | assumption | rfl | omega | trivial)))) (by exact ⟨L6, rg2.2, C6⟩) (by (rw [F6 _ _ (by omega) (by omega), F6 _ _ (by omega) (by omega), FK_fr (F6 _ _ (by omega) (by omega)) (F6 _ _ (by omega) (by omega))]; exact z)) (by (rw [F6 _ _ (by omega) (by omega), F6 _ _ (by omega) (by omega), F6 _ _ (by omega) (by omega), F6 _ _ (by omega) (by omega)]; exact ar))) (fun r r3 => ?_)
  try dsimp only [Sum.elim_inl, Sum.elim_inr, jt2, jt3, jt4, jt5, jt6, jt7, jt8] at r3
  obtain ⟨lp3, f83, fr3⟩ := r3
  try simp (disch := omega) only [jst_eq, jst_ne, jst_ni, jI_i, jcmp_lt, jcmp_gt, w32_id, jcpy_out, Sum.elim_inl, Sum.elim_inr, jt2, jt3, jt4, jt5, jt6, jt7, jt8] at lp3
  try simp (disch := omega) only [jst_eq, jst_ne, jst_ni, jI_i, jcmp_lt, jcmp_gt, w32_id, jcpy_out, Sum.elim_inl, Sum.elim_inr, jt2, jt3, jt4, jt5, jt6, jt7, jt8] at f83
  try simp (disch := omega) only [jst_eq, jst_ne, jst_ni, jI_i, jcmp_lt, jcmp_gt, w32_id, jcpy_out, Sum.elim_inl, Sum.elim_inr, jt2, jt3, jt4, jt5, jt6, jt7, jt8] at fr3
  try dsimp only [Sum.elim_inl, Sum.elim_inr, jt2, jt3, jt4, jt5, jt6, jt7, jt8]
  try dsimp only [Sum.elim_inl, Sum.elim_inr, jt2, jt3, jt4, jt5, jt6, jt7, jt8]
  refine ⟨?_, ?_, ?_⟩
  · (have e : bS R (pLo B n) = bS (bS (bnd R (pN B n 247552)) (pKK B n false 2 [])) fun x2 => pLo2 B n x2.1 x2.2 := (by cases R with | inl w => rfl | inr q => (show pLo B n q = _; unfold pLo; show bS (pN B n 247552 q) _ = bS (bS (pN B n 247552 q) _) _; cases pN B n 247552 q <;> rfl)); rw [e]; exact lp3) -- o21 e1.1
  · (first | assumption | omega | ((try dsimp only [jt2, jt3, jt4]); first | omega | (simp (disch := omega) only [jst_eq, jst_ne, jst_ni, jst_o, jI_i, jcpy_out, w32_id, jdiv_nn, jshr_k, jand_255] <;> first | done | omega | assumption)) | (intros; simp (disch := omega) only [jst_eq, jst_ne, jst_ni, jst_o, jI_i, jcpy_out, w32_id, jdiv_nn, *] <;> first | done | omega) | (intros; simp (disch := omega) only [jst_eq, jst_ne, jst_ni, jst_o, jI_i, jcpy_out, w32_id, jdiv_nn] at * <;> first | done | omega | assumption) | (intros; first | rfl | (exfalso; omega) | ((repeat' apply And.intro) <;> first | assumption | rfl | omega | trivial))) -- o22 e1.2
  · exact fun b s y1 y2 y3 y4 => (by rw [fr3 b s y1 y2 y3 y4]; exact F6 b s (by omega) (by omega)) -- o23 e1.3

