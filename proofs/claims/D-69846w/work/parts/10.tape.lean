/-! The tape -/
theorem vX1_isIn (a0 : Int) (a2 : Int) (a4 : Int) : OK (gX1_isIn a0 a2 a4) (fun r => (r = 1 ∧ a2 ≤ a0 ∧ a0 ≤ a4) ∨ (r = 0 ∧ (a0 < a2 ∨ a4 < a0))) := by
  unfold gX1_isIn
  refine OK_if (fun c1 => ?_) (fun c1 => ?_)
  · skip
    try simp (disch := omega) only [jst_eq, jst_ne, jst_ni, jI_i, jcmp_lt, jcmp_gt, w32_id, jcpy_o, Sum.elim_inl, Sum.elim_inr, jt2, jt3, jt4, jt5, jt6, jt7, jt8] at c1
    refine OK_some ?_
    try dsimp only [Sum.elim_inl, Sum.elim_inr, jt2, jt3, jt4, jt5, jt6, jt7, jt8]
    (first | assumption | omega | ((try dsimp only [jt2, jt3, jt4]); first | omega | (simp (disch := omega) only [jst_eq, jst_ne, jst_ni, jst_o, jI_i, jcpy_o, w32_id] <;> first | done | omega | assumption)) | (intros; simp (disch := omega) only [jst_eq, jst_ne, jst_ni, jst_o, jI_i, jcpy_o, w32_id, *] <;> first | done | omega) | (intros; simp (disch := omega) only [jst_eq, jst_ne, jst_ni, jst_o, jI_i, jcpy_o, w32_id] at * <;> first | done | omega | assumption)) -- o1 e1
  · skip
    try simp (disch := omega) only [jst_eq, jst_ne, jst_ni, jI_i, jcmp_lt, jcmp_gt, w32_id, jcpy_o, Sum.elim_inl, Sum.elim_inr, jt2, jt3, jt4, jt5, jt6, jt7, jt8] at c1
    refine OK_if (fun c2 => ?_) (fun c2 => ?_)
    · skip
      try simp (disch := omega) only [jst_eq, jst_ne, jst_ni, jI_i, jcmp_lt, jcmp_gt, w32_id, jcpy_o, Sum.elim_inl, Sum.elim_inr, jt2, jt3, jt4, jt5, jt6, jt7, jt8] at c2
      refine OK_some ?_
      try dsimp only [Sum.elim_inl, Sum.elim_inr, jt2, jt3, jt4, jt5, jt6, jt7, jt8]
      (first | assumption | omega | ((try dsimp only [jt2, jt3, jt4]); first | omega | (simp (disch := omega) only [jst_eq, jst_ne, jst_ni, jst_o, jI_i, jcpy_o, w32_id] <;> first | done | omega | assumption)) | (intros; simp (disch := omega) only [jst_eq, jst_ne, jst_ni, jst_o, jI_i, jcpy_o, w32_id, *] <;> first | done | omega) | (intros; simp (disch := omega) only [jst_eq, jst_ne, jst_ni, jst_o, jI_i, jcpy_o, w32_id] at * <;> first | done | omega | assumption)) -- o2 e2
    · skip
      try simp (disch := omega) only [jst_eq, jst_ne, jst_ni, jI_i, jcmp_lt, jcmp_gt, w32_id, jcpy_o, Sum.elim_inl, Sum.elim_inr, jt2, jt3, jt4, jt5, jt6, jt7, jt8] at c2
      refine OK_some ?_
      try dsimp only [Sum.elim_inl, Sum.elim_inr, jt2, jt3, jt4, jt5, jt6, jt7, jt8]
      (first | assumption | omega | ((try dsimp only [jt2, jt3, jt4]); first | omega | (simp (disch := omega) only [jst_eq, jst_ne, jst_ni, jst_o, jI_i, jcpy_o, w32_id] <;> first | done | omega | assumption)) | (intros; simp (disch := omega) only [jst_eq, jst_ne, jst_ni, jst_o, jI_i, jcpy_o, w32_id, *] <;> first | done | omega) | (intros; simp (disch := omega) only [jst_eq, jst_ne, jst_ni, jst_o, jI_i, jcpy_o, w32_id] at * <;> first | done | omega | assumption)) -- o3 e3
theorem vX14_in (a0 : Int) (a2 : Int) (a4 : Int) : OK (gX14_in a0 a2 a4) (fun r => (r = 1 ∧ a2 ≤ a0 ∧ a0 ≤ a4) ∨ (r = 0 ∧ (a0 < a2 ∨ a4 < a0))) := by
  unfold gX14_in
  refine OK_if (fun c1 => ?_) (fun c1 => ?_)
  · skip
    try simp (disch := omega) only [jst_eq, jst_ne, jst_ni, jI_i, jcmp_lt, jcmp_gt, w32_id, jcpy_o, Sum.elim_inl, Sum.elim_inr, jt2, jt3, jt4, jt5, jt6, jt7, jt8] at c1
    refine OK_some ?_
    try dsimp only [Sum.elim_inl, Sum.elim_inr, jt2, jt3, jt4, jt5, jt6, jt7, jt8]
    (first | assumption | omega | ((try dsimp only [jt2, jt3, jt4]); first | omega | (simp (disch := omega) only [jst_eq, jst_ne, jst_ni, jst_o, jI_i, jcpy_o, w32_id] <;> first | done | omega | assumption)) | (intros; simp (disch := omega) only [jst_eq, jst_ne, jst_ni, jst_o, jI_i, jcpy_o, w32_id, *] <;> first | done | omega) | (intros; simp (disch := omega) only [jst_eq, jst_ne, jst_ni, jst_o, jI_i, jcpy_o, w32_id] at * <;> first | done | omega | assumption)) -- o1 e1
  · skip
    try simp (disch := omega) only [jst_eq, jst_ne, jst_ni, jI_i, jcmp_lt, jcmp_gt, w32_id, jcpy_o, Sum.elim_inl, Sum.elim_inr, jt2, jt3, jt4, jt5, jt6, jt7, jt8] at c1
    refine OK_if (fun c2 => ?_) (fun c2 => ?_)
    · skip
      try simp (disch := omega) only [jst_eq, jst_ne, jst_ni, jI_i, jcmp_lt, jcmp_gt, w32_id, jcpy_o, Sum.elim_inl, Sum.elim_inr, jt2, jt3, jt4, jt5, jt6, jt7, jt8] at c2
      refine OK_some ?_
      try dsimp only [Sum.elim_inl, Sum.elim_inr, jt2, jt3, jt4, jt5, jt6, jt7, jt8]
      (first | assumption | omega | ((try dsimp only [jt2, jt3, jt4]); first | omega | (simp (disch := omega) only [jst_eq, jst_ne, jst_ni, jst_o, jI_i, jcpy_o, w32_id] <;> first | done | omega | assumption)) | (intros; simp (disch := omega) only [jst_eq, jst_ne, jst_ni, jst_o, jI_i, jcpy_o, w32_id, *] <;> first | done | omega) | (intros; simp (disch := omega) only [jst_eq, jst_ne, jst_ni, jst_o, jI_i, jcpy_o, w32_id] at * <;> first | done | omega | assumption)) -- o2 e2
    · skip
      try simp (disch := omega) only [jst_eq, jst_ne, jst_ni, jI_i, jcmp_lt, jcmp_gt, w32_id, jcpy_o, Sum.elim_inl, Sum.elim_inr, jt2, jt3, jt4, jt5, jt6, jt7, jt8] at c2
      refine OK_some ?_
      try dsimp only [Sum.elim_inl, Sum.elim_inr, jt2, jt3, jt4, jt5, jt6, jt7, jt8]
      (first | assumption | omega | ((try dsimp only [jt2, jt3, jt4]); first | omega | (simp (disch := omega) only [jst_eq, jst_ne, jst_ni, jst_o, jI_i, jcpy_o, w32_id] <;> first | done | omega | assumption)) | (intros; simp (disch := omega) only [jst_eq, jst_ne, jst_ni, jst_o, jI_i, jcpy_o, w32_id, *] <;> first | done | omega) | (intros; simp (disch := omega) only [jst_eq, jst_ne, jst_ni, jst_o, jI_i, jcpy_o, w32_id] at * <;> first | done | omega | assumption)) -- o3 e3
theorem vX1_feedFour_l3 (i1 : Int) (a20 : Int) {h0 : AH} (h2 : a20 = 24) (n0 : 0 ≤ h0 200 55) (n1 : h0 200 55 + 4 ≤ 2000) : OK (gX1_feedFour_l3 i1 a20 h0) (fun h' => (h' 200 55 = h0 200 55 + 4) ∧ (∀ k, 0 ≤ k → k < 4 → h' 440 (h0 200 55 + k) % 256 = jshr i1 (24 - 8 * k) % 256) ∧ (∀ a s, ¬ (a = 200 ∧ s = 55) → ¬ (a = 440 ∧ h0 200 55 ≤ s ∧ s < h0 200 55 + 4) → h' a s = h0 a s)) := by
  unfold gX1_feedFour_l3
  refine OK_jit (I := (fun (s : Int × AH) => jt2 s fun a2 h => (a2 = 24 - 8 * (h 200 55 - h0 200 55)) ∧ (h0 200 55 ≤ h 200 55 ∧ h 200 55 ≤ h0 200 55 + 4) ∧ (∀ k, 0 ≤ k → k < h 200 55 - h0 200 55 → h 440 (h0 200 55 + k) % 256 = jshr i1 (24 - 8 * k) % 256) ∧ (∀ a s, ¬ (a = 200 ∧ s = 55) → ¬ (a = 440 ∧ h0 200 55 ≤ s ∧ s < h0 200 55 + 4) → h a s = h0 a s))) (m := (fun (s : Int × AH) => jt2 s fun a2 h => (a2 + 8).toNat)) ?_ ?_
  · intro s hs
    obtain ⟨a2, h⟩ := s
    dsimp only [Sum.elim_inl, Sum.elim_inr, jt2, jt3, jt4, jt5, jt6, jt7, jt8] at hs
    obtain ⟨q1, q2, q3, fr⟩ := hs
    unfold gX1_feedFour_b3
    refine OK_jt2 ?_
    refine OK_if (fun c1 => ?_) (fun c1 => ?_)
    · skip
      try simp (disch := omega) only [jst_eq, jst_ne, jst_ni, jI_i, jcmp_lt, jcmp_gt, w32_id, jcpy_o, Sum.elim_inl, Sum.elim_inr, jt2, jt3, jt4, jt5, jt6, jt7, jt8] at c1
      refine OK_ir ?_
      try dsimp only [Sum.elim_inl, Sum.elim_inr, jt2, jt3, jt4, jt5, jt6, jt7, jt8]
      refine ⟨?_, ?_, ?_⟩
      · (first | assumption | omega | ((try dsimp only [jt2, jt3, jt4]); first | omega | (simp (disch := omega) only [jst_eq, jst_ne, jst_ni, jst_o, jI_i, jcpy_o, w32_id] <;> first | done | omega | assumption)) | (intros; simp (disch := omega) only [jst_eq, jst_ne, jst_ni, jst_o, jI_i, jcpy_o, w32_id, *] <;> first | done | omega) | (intros; simp (disch := omega) only [jst_eq, jst_ne, jst_ni, jst_o, jI_i, jcpy_o, w32_id] at * <;> first | done | omega | assumption)) -- o1 e1.1
      · (intro k k0 k1; exact q3 k k0 (by omega)) -- o2 e1.2
      · (first | assumption | omega | ((try dsimp only [jt2, jt3, jt4]); first | omega | (simp (disch := omega) only [jst_eq, jst_ne, jst_ni, jst_o, jI_i, jcpy_o, w32_id] <;> first | done | omega | assumption)) | (intros; simp (disch := omega) only [jst_eq, jst_ne, jst_ni, jst_o, jI_i, jcpy_o, w32_id, *] <;> first | done | omega) | (intros; simp (disch := omega) only [jst_eq, jst_ne, jst_ni, jst_o, jI_i, jcpy_o, w32_id] at * <;> first | done | omega | assumption)) -- o3 e1.3
    · skip
      try simp (disch := omega) only [jst_eq, jst_ne, jst_ni, jI_i, jcmp_lt, jcmp_gt, w32_id, jcpy_o, Sum.elim_inl, Sum.elim_inr, jt2, jt3, jt4, jt5, jt6, jt7, jt8] at c1
      refine OK_jl ?_
      refine OK_jg (by (first | assumption | omega | ((try dsimp only [jt2, jt3, jt4]); first | omega | (simp (disch := omega) only [jst_eq, jst_ne, jst_ni, jst_o, jI_i, jcpy_o, w32_id] <;> first | done | omega | assumption)) | (intros; simp (disch := omega) only [jst_eq, jst_ne, jst_ni, jst_o, jI_i, jcpy_o, w32_id, *] <;> first | done | omega) | (intros; simp (disch := omega) only [jst_eq, jst_ne, jst_ni, jst_o, jI_i, jcpy_o, w32_id] at * <;> first | done | omega | assumption))) ?_ -- o4
      refine OK_jl ?_
      refine OK_jlx (fun x6 ex6 => ?_)
      try simp (disch := omega) only [jst_eq, jst_ne, jst_ni, jI_i, jcmp_lt, jcmp_gt, w32_id, jcpy_o, Sum.elim_inl, Sum.elim_inr, jt2, jt3, jt4, jt5, jt6, jt7, jt8] at ex6
      refine OK_il ?_ ?_
      · try dsimp only [Sum.elim_inl, Sum.elim_inr, jt2, jt3, jt4, jt5, jt6, jt7, jt8]
        refine ⟨?_, ?_, ?_, ?_⟩
        · (first | assumption | omega | ((try dsimp only [jt2, jt3, jt4]); first | omega | (simp (disch := omega) only [jst_eq, jst_ne, jst_ni, jst_o, jI_i, jcpy_o, w32_id] <;> first | done | omega | assumption)) | (intros; simp (disch := omega) only [jst_eq, jst_ne, jst_ni, jst_o, jI_i, jcpy_o, w32_id, *] <;> first | done | omega) | (intros; simp (disch := omega) only [jst_eq, jst_ne, jst_ni, jst_o, jI_i, jcpy_o, w32_id] at * <;> first | done | omega | assumption)) -- o5 e2i.1
        · (first | assumption | omega | ((try dsimp only [jt2, jt3, jt4]); first | omega | (simp (disch := omega) only [jst_eq, jst_ne, jst_ni, jst_o, jI_i, jcpy_o, w32_id] <;> first | done | omega | assumption)) | (intros; simp (disch := omega) only [jst_eq, jst_ne, jst_ni, jst_o, jI_i, jcpy_o, w32_id, *] <;> first | done | omega) | (intros; simp (disch := omega) only [jst_eq, jst_ne, jst_ni, jst_o, jI_i, jcpy_o, w32_id] at * <;> first | done | omega | assumption)) -- o6 e2i.2
        · (simp (disch := omega) only [jst_eq, jst_ne, jst_ni, w32_id]; intro k k0 k1; rw [jst_at]; by_cases q : h0 200 55 + k = h 200 55; { rw [if_pos q, ji2b_255, ji2b_255]; rw [q1, show h 200 55 - h0 200 55 = k by omega] }; { rw [if_neg q]; exact q3 k k0 (by omega) }) -- o7 e2i.3
        · (first | assumption | omega | ((try dsimp only [jt2, jt3, jt4]); first | omega | (simp (disch := omega) only [jst_eq, jst_ne, jst_ni, jst_o, jI_i, jcpy_o, w32_id] <;> first | done | omega | assumption)) | (intros; simp (disch := omega) only [jst_eq, jst_ne, jst_ni, jst_o, jI_i, jcpy_o, w32_id, *] <;> first | done | omega) | (intros; simp (disch := omega) only [jst_eq, jst_ne, jst_ni, jst_o, jI_i, jcpy_o, w32_id] at * <;> first | done | omega | assumption)) -- o8 e2i.4
      · (first | assumption | omega | ((try dsimp only [jt2, jt3, jt4]); first | omega | (simp (disch := omega) only [jst_eq, jst_ne, jst_ni, jst_o, jI_i, jcpy_o, w32_id] <;> first | done | omega | assumption)) | (intros; simp (disch := omega) only [jst_eq, jst_ne, jst_ni, jst_o, jI_i, jcpy_o, w32_id, *] <;> first | done | omega) | (intros; simp (disch := omega) only [jst_eq, jst_ne, jst_ni, jst_o, jI_i, jcpy_o, w32_id] at * <;> first | done | omega | assumption)) -- o9 e2m
  · try dsimp only [Sum.elim_inl, Sum.elim_inr, jt2, jt3, jt4, jt5, jt6, jt7, jt8]
    refine ⟨?_, ?_, ?_, ?_⟩
    · (first | assumption | omega | ((try dsimp only [jt2, jt3, jt4]); first | omega | (simp (disch := omega) only [jst_eq, jst_ne, jst_ni, jst_o, jI_i, jcpy_o, w32_id] <;> first | done | omega | assumption)) | (intros; simp (disch := omega) only [jst_eq, jst_ne, jst_ni, jst_o, jI_i, jcpy_o, w32_id, *] <;> first | done | omega) | (intros; simp (disch := omega) only [jst_eq, jst_ne, jst_ni, jst_o, jI_i, jcpy_o, w32_id] at * <;> first | done | omega | assumption)) -- o10 init.1
    · (first | assumption | omega | ((try dsimp only [jt2, jt3, jt4]); first | omega | (simp (disch := omega) only [jst_eq, jst_ne, jst_ni, jst_o, jI_i, jcpy_o, w32_id] <;> first | done | omega | assumption)) | (intros; simp (disch := omega) only [jst_eq, jst_ne, jst_ni, jst_o, jI_i, jcpy_o, w32_id, *] <;> first | done | omega) | (intros; simp (disch := omega) only [jst_eq, jst_ne, jst_ni, jst_o, jI_i, jcpy_o, w32_id] at * <;> first | done | omega | assumption)) -- o11 init.2
    · (first | assumption | omega | ((try dsimp only [jt2, jt3, jt4]); first | omega | (simp (disch := omega) only [jst_eq, jst_ne, jst_ni, jst_o, jI_i, jcpy_o, w32_id] <;> first | done | omega | assumption)) | (intros; simp (disch := omega) only [jst_eq, jst_ne, jst_ni, jst_o, jI_i, jcpy_o, w32_id, *] <;> first | done | omega) | (intros; simp (disch := omega) only [jst_eq, jst_ne, jst_ni, jst_o, jI_i, jcpy_o, w32_id] at * <;> first | done | omega | assumption)) -- o12 init.3
    · (first | assumption | omega | ((try dsimp only [jt2, jt3, jt4]); first | omega | (simp (disch := omega) only [jst_eq, jst_ne, jst_ni, jst_o, jI_i, jcpy_o, w32_id] <;> first | done | omega | assumption)) | (intros; simp (disch := omega) only [jst_eq, jst_ne, jst_ni, jst_o, jI_i, jcpy_o, w32_id, *] <;> first | done | omega) | (intros; simp (disch := omega) only [jst_eq, jst_ne, jst_ni, jst_o, jI_i, jcpy_o, w32_id] at * <;> first | done | omega | assumption)) -- o13 init.4
theorem vX1_feedFour (a1 : Int) {h : AH} (n0 : 0 ≤ h 200 55) (n1 : h 200 55 + 4 ≤ 2000) : OK (gX1_feedFour a1 h) (fun h' => (h' 200 55 = h 200 55 + 4) ∧ (∀ k, 0 ≤ k → k < 4 → h' 440 (h 200 55 + k) % 256 = jshr a1 (24 - 8 * k) % 256) ∧ (∀ a s, ¬ (a = 200 ∧ s = 55) → ¬ (a = 440 ∧ h 200 55 ≤ s ∧ s < h 200 55 + 4) → h' a s = h a s)) := by
  unfold gX1_feedFour
  refine OK_jb (vX1_feedFour_l3 _ _ (by (first | assumption | omega | ((try dsimp only [jt2, jt3, jt4]); first | omega | (simp (disch := omega) only [jst_eq, jst_ne, jst_ni, jst_o, jI_i, jcpy_o, w32_id] <;> first | done | omega | assumption)) | (intros; simp (disch := omega) only [jst_eq, jst_ne, jst_ni, jst_o, jI_i, jcpy_o, w32_id, *] <;> first | done | omega) | (intros; simp (disch := omega) only [jst_eq, jst_ne, jst_ni, jst_o, jI_i, jcpy_o, w32_id] at * <;> first | done | omega | assumption))) (by (first | assumption | omega | ((try dsimp only [jt2, jt3, jt4]); first | omega | (simp (disch := omega) only [jst_eq, jst_ne, jst_ni, jst_o, jI_i, jcpy_o, w32_id] <;> first | done | omega | assumption)) | (intros; simp (disch := omega) only [jst_eq, jst_ne, jst_ni, jst_o, jI_i, jcpy_o, w32_id, *] <;> first | done | omega) | (intros; simp (disch := omega) only [jst_eq, jst_ne, jst_ni, jst_o, jI_i, jcpy_o, w32_id] at * <;> first | done | omega | assumption))) (by (first | assumption | omega | ((try dsimp only [jt2, jt3, jt4]); first | omega | (simp (disch := omega) only [jst_eq, jst_ne, jst_ni, jst_o, jI_i, jcpy_o, w32_id] <;> first | done | omega | assumption)) | (intros; simp (disch := omega) only [jst_eq, jst_ne, jst_ni, jst_o, jI_i, jcpy_o, w32_id, *] <;> first | done | omega) | (intros; simp (disch := omega) only [jst_eq, jst_ne, jst_ni, jst_o, jI_i, jcpy_o, w32_id] at * <;> first | done | omega | assumption)))) (fun o1 r1 => ?_)
  try dsimp only [Sum.elim_inl, Sum.elim_inr, jt2, jt3, jt4, jt5, jt6, jt7, jt8] at r1
  obtain ⟨n1, b1, fr1⟩ := r1
  try simp (disch := omega) only [jst_eq, jst_ne, jst_ni, jI_i, jcmp_lt, jcmp_gt, w32_id, jcpy_o, Sum.elim_inl, Sum.elim_inr, jt2, jt3, jt4, jt5, jt6, jt7, jt8] at n1
  try simp (disch := omega) only [jst_eq, jst_ne, jst_ni, jI_i, jcmp_lt, jcmp_gt, w32_id, jcpy_o, Sum.elim_inl, Sum.elim_inr, jt2, jt3, jt4, jt5, jt6, jt7, jt8] at b1
  try simp (disch := omega) only [jst_eq, jst_ne, jst_ni, jI_i, jcmp_lt, jcmp_gt, w32_id, jcpy_o, Sum.elim_inl, Sum.elim_inr, jt2, jt3, jt4, jt5, jt6, jt7, jt8] at fr1
  refine OK_some ?_
  try dsimp only [Sum.elim_inl, Sum.elim_inr, jt2, jt3, jt4, jt5, jt6, jt7, jt8]
  try dsimp only [Sum.elim_inl, Sum.elim_inr, jt2, jt3, jt4, jt5, jt6, jt7, jt8]
  refine ⟨?_, ?_, ?_⟩
  · (first | assumption | omega | ((try dsimp only [jt2, jt3, jt4]); first | omega | (simp (disch := omega) only [jst_eq, jst_ne, jst_ni, jst_o, jI_i, jcpy_o, w32_id] <;> first | done | omega | assumption)) | (intros; simp (disch := omega) only [jst_eq, jst_ne, jst_ni, jst_o, jI_i, jcpy_o, w32_id, *] <;> first | done | omega) | (intros; simp (disch := omega) only [jst_eq, jst_ne, jst_ni, jst_o, jI_i, jcpy_o, w32_id] at * <;> first | done | omega | assumption)) -- o4 e1.1
  · (first | assumption | omega | ((try dsimp only [jt2, jt3, jt4]); first | omega | (simp (disch := omega) only [jst_eq, jst_ne, jst_ni, jst_o, jI_i, jcpy_o, w32_id] <;> first | done | omega | assumption)) | (intros; simp (disch := omega) only [jst_eq, jst_ne, jst_ni, jst_o, jI_i, jcpy_o, w32_id, *] <;> first | done | omega) | (intros; simp (disch := omega) only [jst_eq, jst_ne, jst_ni, jst_o, jI_i, jcpy_o, w32_id] at * <;> first | done | omega | assumption)) -- o5 e1.2
  · (first | assumption | omega | ((try dsimp only [jt2, jt3, jt4]); first | omega | (simp (disch := omega) only [jst_eq, jst_ne, jst_ni, jst_o, jI_i, jcpy_o, w32_id] <;> first | done | omega | assumption)) | (intros; simp (disch := omega) only [jst_eq, jst_ne, jst_ni, jst_o, jI_i, jcpy_o, w32_id, *] <;> first | done | omega) | (intros; simp (disch := omega) only [jst_eq, jst_ne, jst_ni, jst_o, jI_i, jcpy_o, w32_id] at * <;> first | done | omega | assumption)) -- o6 e1.3
theorem vX14_feed_2_l3 (i1 : Int) (a20 : Int) {h0 : AH} (h2 : a20 = 24) (n0 : 0 ≤ h0 454 53) (n1 : h0 454 53 + 4 ≤ 2000) : OK (gX14_feed_2_l3 i1 a20 h0) (fun h' => (h' 454 53 = h0 454 53 + 4) ∧ (∀ k, 0 ≤ k → k < 4 → h' 790 (h0 454 53 + k) = jshr i1 (24 - 8 * k) % 256) ∧ (∀ a s, ¬ (a = 454 ∧ s = 53) → ¬ (a = 790 ∧ h0 454 53 ≤ s ∧ s < h0 454 53 + 4) → h' a s = h0 a s)) := by
  unfold gX14_feed_2_l3
  refine OK_jit (I := (fun (s : Int × AH) => jt2 s fun a2 h => (a2 = 24 - 8 * (h 454 53 - h0 454 53)) ∧ (h0 454 53 ≤ h 454 53 ∧ h 454 53 ≤ h0 454 53 + 4) ∧ (∀ k, 0 ≤ k → k < h 454 53 - h0 454 53 → h 790 (h0 454 53 + k) = jshr i1 (24 - 8 * k) % 256) ∧ (∀ a s, ¬ (a = 454 ∧ s = 53) → ¬ (a = 790 ∧ h0 454 53 ≤ s ∧ s < h0 454 53 + 4) → h a s = h0 a s))) (m := (fun (s : Int × AH) => jt2 s fun a2 h => (a2 + 8).toNat)) ?_ ?_
  · intro s hs
    obtain ⟨a2, h⟩ := s
    dsimp only [Sum.elim_inl, Sum.elim_inr, jt2, jt3, jt4, jt5, jt6, jt7, jt8] at hs
    obtain ⟨q1, q2, q3, fr⟩ := hs
    unfold gX14_feed_2_b3
    refine OK_jt2 ?_
    refine OK_if (fun c1 => ?_) (fun c1 => ?_)
    · skip
      try simp (disch := omega) only [jst_eq, jst_ne, jst_ni, jI_i, jcmp_lt, jcmp_gt, w32_id, jcpy_o, Sum.elim_inl, Sum.elim_inr, jt2, jt3, jt4, jt5, jt6, jt7, jt8] at c1
      refine OK_ir ?_
      try dsimp only [Sum.elim_inl, Sum.elim_inr, jt2, jt3, jt4, jt5, jt6, jt7, jt8]
      refine ⟨?_, ?_, ?_⟩
      · (first | assumption | omega | ((try dsimp only [jt2, jt3, jt4]); first | omega | (simp (disch := omega) only [jst_eq, jst_ne, jst_ni, jst_o, jI_i, jcpy_o, w32_id] <;> first | done | omega | assumption)) | (intros; simp (disch := omega) only [jst_eq, jst_ne, jst_ni, jst_o, jI_i, jcpy_o, w32_id, *] <;> first | done | omega) | (intros; simp (disch := omega) only [jst_eq, jst_ne, jst_ni, jst_o, jI_i, jcpy_o, w32_id] at * <;> first | done | omega | assumption)) -- o1 e1.1
      · (intro k k0 k1; exact q3 k k0 (by omega)) -- o2 e1.2
      · (first | assumption | omega | ((try dsimp only [jt2, jt3, jt4]); first | omega | (simp (disch := omega) only [jst_eq, jst_ne, jst_ni, jst_o, jI_i, jcpy_o, w32_id] <;> first | done | omega | assumption)) | (intros; simp (disch := omega) only [jst_eq, jst_ne, jst_ni, jst_o, jI_i, jcpy_o, w32_id, *] <;> first | done | omega) | (intros; simp (disch := omega) only [jst_eq, jst_ne, jst_ni, jst_o, jI_i, jcpy_o, w32_id] at * <;> first | done | omega | assumption)) -- o3 e1.3
    · skip
      try simp (disch := omega) only [jst_eq, jst_ne, jst_ni, jI_i, jcmp_lt, jcmp_gt, w32_id, jcpy_o, Sum.elim_inl, Sum.elim_inr, jt2, jt3, jt4, jt5, jt6, jt7, jt8] at c1
      refine OK_jg (by (first | assumption | omega | ((try dsimp only [jt2, jt3, jt4]); first | omega | (simp (disch := omega) only [jst_eq, jst_ne, jst_ni, jst_o, jI_i, jcpy_o, w32_id] <;> first | done | omega | assumption)) | (intros; simp (disch := omega) only [jst_eq, jst_ne, jst_ni, jst_o, jI_i, jcpy_o, w32_id, *] <;> first | done | omega) | (intros; simp (disch := omega) only [jst_eq, jst_ne, jst_ni, jst_o, jI_i, jcpy_o, w32_id] at * <;> first | done | omega | assumption))) ?_ -- o4
      refine OK_jl ?_
      refine OK_jl ?_
      refine OK_jlx (fun x6 ex6 => ?_)
      try simp (disch := omega) only [jst_eq, jst_ne, jst_ni, jI_i, jcmp_lt, jcmp_gt, w32_id, jcpy_o, Sum.elim_inl, Sum.elim_inr, jt2, jt3, jt4, jt5, jt6, jt7, jt8] at ex6
      refine OK_il ?_ ?_
      · try dsimp only [Sum.elim_inl, Sum.elim_inr, jt2, jt3, jt4, jt5, jt6, jt7, jt8]
        refine ⟨?_, ?_, ?_, ?_⟩
        · (first | assumption | omega | ((try dsimp only [jt2, jt3, jt4]); first | omega | (simp (disch := omega) only [jst_eq, jst_ne, jst_ni, jst_o, jI_i, jcpy_o, w32_id] <;> first | done | omega | assumption)) | (intros; simp (disch := omega) only [jst_eq, jst_ne, jst_ni, jst_o, jI_i, jcpy_o, w32_id, *] <;> first | done | omega) | (intros; simp (disch := omega) only [jst_eq, jst_ne, jst_ni, jst_o, jI_i, jcpy_o, w32_id] at * <;> first | done | omega | assumption)) -- o5 e2i.1
        · (first | assumption | omega | ((try dsimp only [jt2, jt3, jt4]); first | omega | (simp (disch := omega) only [jst_eq, jst_ne, jst_ni, jst_o, jI_i, jcpy_o, w32_id] <;> first | done | omega | assumption)) | (intros; simp (disch := omega) only [jst_eq, jst_ne, jst_ni, jst_o, jI_i, jcpy_o, w32_id, *] <;> first | done | omega) | (intros; simp (disch := omega) only [jst_eq, jst_ne, jst_ni, jst_o, jI_i, jcpy_o, w32_id] at * <;> first | done | omega | assumption)) -- o6 e2i.2
        · (simp (disch := omega) only [jst_eq, jst_ne, jst_ni, w32_id]; intro k k0 k1; rw [jst_at]; by_cases q : h0 454 53 + k = h 454 53; { rw [if_pos q, jand_255]; rw [q1, show h 454 53 - h0 454 53 = k by omega] }; { rw [if_neg q]; exact q3 k k0 (by omega) }) -- o7 e2i.3
        · (first | assumption | omega | ((try dsimp only [jt2, jt3, jt4]); first | omega | (simp (disch := omega) only [jst_eq, jst_ne, jst_ni, jst_o, jI_i, jcpy_o, w32_id] <;> first | done | omega | assumption)) | (intros; simp (disch := omega) only [jst_eq, jst_ne, jst_ni, jst_o, jI_i, jcpy_o, w32_id, *] <;> first | done | omega) | (intros; simp (disch := omega) only [jst_eq, jst_ne, jst_ni, jst_o, jI_i, jcpy_o, w32_id] at * <;> first | done | omega | assumption)) -- o8 e2i.4
      · (first | assumption | omega | ((try dsimp only [jt2, jt3, jt4]); first | omega | (simp (disch := omega) only [jst_eq, jst_ne, jst_ni, jst_o, jI_i, jcpy_o, w32_id] <;> first | done | omega | assumption)) | (intros; simp (disch := omega) only [jst_eq, jst_ne, jst_ni, jst_o, jI_i, jcpy_o, w32_id, *] <;> first | done | omega) | (intros; simp (disch := omega) only [jst_eq, jst_ne, jst_ni, jst_o, jI_i, jcpy_o, w32_id] at * <;> first | done | omega | assumption)) -- o9 e2m
  · try dsimp only [Sum.elim_inl, Sum.elim_inr, jt2, jt3, jt4, jt5, jt6, jt7, jt8]
    refine ⟨?_, ?_, ?_, ?_⟩
    · (first | assumption | omega | ((try dsimp only [jt2, jt3, jt4]); first | omega | (simp (disch := omega) only [jst_eq, jst_ne, jst_ni, jst_o, jI_i, jcpy_o, w32_id] <;> first | done | omega | assumption)) | (intros; simp (disch := omega) only [jst_eq, jst_ne, jst_ni, jst_o, jI_i, jcpy_o, w32_id, *] <;> first | done | omega) | (intros; simp (disch := omega) only [jst_eq, jst_ne, jst_ni, jst_o, jI_i, jcpy_o, w32_id] at * <;> first | done | omega | assumption)) -- o10 init.1
    · (first | assumption | omega | ((try dsimp only [jt2, jt3, jt4]); first | omega | (simp (disch := omega) only [jst_eq, jst_ne, jst_ni, jst_o, jI_i, jcpy_o, w32_id] <;> first | done | omega | assumption)) | (intros; simp (disch := omega) only [jst_eq, jst_ne, jst_ni, jst_o, jI_i, jcpy_o, w32_id, *] <;> first | done | omega) | (intros; simp (disch := omega) only [jst_eq, jst_ne, jst_ni, jst_o, jI_i, jcpy_o, w32_id] at * <;> first | done | omega | assumption)) -- o11 init.2
    · (first | assumption | omega | ((try dsimp only [jt2, jt3, jt4]); first | omega | (simp (disch := omega) only [jst_eq, jst_ne, jst_ni, jst_o, jI_i, jcpy_o, w32_id] <;> first | done | omega | assumption)) | (intros; simp (disch := omega) only [jst_eq, jst_ne, jst_ni, jst_o, jI_i, jcpy_o, w32_id, *] <;> first | done | omega) | (intros; simp (disch := omega) only [jst_eq, jst_ne, jst_ni, jst_o, jI_i, jcpy_o, w32_id] at * <;> first | done | omega | assumption)) -- o12 init.3
    · (first | assumption | omega | ((try dsimp only [jt2, jt3, jt4]); first | omega | (simp (disch := omega) only [jst_eq, jst_ne, jst_ni, jst_o, jI_i, jcpy_o, w32_id] <;> first | done | omega | assumption)) | (intros; simp (disch := omega) only [jst_eq, jst_ne, jst_ni, jst_o, jI_i, jcpy_o, w32_id, *] <;> first | done | omega) | (intros; simp (disch := omega) only [jst_eq, jst_ne, jst_ni, jst_o, jI_i, jcpy_o, w32_id] at * <;> first | done | omega | assumption)) -- o13 init.4
theorem vX14_feed_2 (a1 : Int) {h : AH} (n0 : 0 ≤ h 454 53) (n1 : h 454 53 + 4 ≤ 2000) : OK (gX14_feed_2 a1 h) (fun h' => (h' 454 53 = h 454 53 + 4) ∧ (∀ k, 0 ≤ k → k < 4 → h' 790 (h 454 53 + k) = jshr a1 (24 - 8 * k) % 256) ∧ (∀ a s, ¬ (a = 454 ∧ s = 53) → ¬ (a = 790 ∧ h 454 53 ≤ s ∧ s < h 454 53 + 4) → h' a s = h a s)) := by
  unfold gX14_feed_2
  refine OK_jb (vX14_feed_2_l3 _ _ (by (first | assumption | omega | ((try dsimp only [jt2, jt3, jt4]); first | omega | (simp (disch := omega) only [jst_eq, jst_ne, jst_ni, jst_o, jI_i, jcpy_o, w32_id] <;> first | done | omega | assumption)) | (intros; simp (disch := omega) only [jst_eq, jst_ne, jst_ni, jst_o, jI_i, jcpy_o, w32_id, *] <;> first | done | omega) | (intros; simp (disch := omega) only [jst_eq, jst_ne, jst_ni, jst_o, jI_i, jcpy_o, w32_id] at * <;> first | done | omega | assumption))) (by (first | assumption | omega | ((try dsimp only [jt2, jt3, jt4]); first | omega | (simp (disch := omega) only [jst_eq, jst_ne, jst_ni, jst_o, jI_i, jcpy_o, w32_id] <;> first | done | omega | assumption)) | (intros; simp (disch := omega) only [jst_eq, jst_ne, jst_ni, jst_o, jI_i, jcpy_o, w32_id, *] <;> first | done | omega) | (intros; simp (disch := omega) only [jst_eq, jst_ne, jst_ni, jst_o, jI_i, jcpy_o, w32_id] at * <;> first | done | omega | assumption))) (by (first | assumption | omega | ((try dsimp only [jt2, jt3, jt4]); first | omega | (simp (disch := omega) only [jst_eq, jst_ne, jst_ni, jst_o, jI_i, jcpy_o, w32_id] <;> first | done | omega | assumption)) | (intros; simp (disch := omega) only [jst_eq, jst_ne, jst_ni, jst_o, jI_i, jcpy_o, w32_id, *] <;> first | done | omega) | (intros; simp (disch := omega) only [jst_eq, jst_ne, jst_ni, jst_o, jI_i, jcpy_o, w32_id] at * <;> first | done | omega | assumption)))) (fun o1 r1 => ?_)
  try dsimp only [Sum.elim_inl, Sum.elim_inr, jt2, jt3, jt4, jt5, jt6, jt7, jt8] at r1
  obtain ⟨n1, b1, fr1⟩ := r1
  try simp (disch := omega) only [jst_eq, jst_ne, jst_ni, jI_i, jcmp_lt, jcmp_gt, w32_id, jcpy_o, Sum.elim_inl, Sum.elim_inr, jt2, jt3, jt4, jt5, jt6, jt7, jt8] at n1
  try simp (disch := omega) only [jst_eq, jst_ne, jst_ni, jI_i, jcmp_lt, jcmp_gt, w32_id, jcpy_o, Sum.elim_inl, Sum.elim_inr, jt2, jt3, jt4, jt5, jt6, jt7, jt8] at b1
  try simp (disch := omega) only [jst_eq, jst_ne, jst_ni, jI_i, jcmp_lt, jcmp_gt, w32_id, jcpy_o, Sum.elim_inl, Sum.elim_inr, jt2, jt3, jt4, jt5, jt6, jt7, jt8] at fr1
  refine OK_some ?_
  try dsimp only [Sum.elim_inl, Sum.elim_inr, jt2, jt3, jt4, jt5, jt6, jt7, jt8]
  try dsimp only [Sum.elim_inl, Sum.elim_inr, jt2, jt3, jt4, jt5, jt6, jt7, jt8]
  refine ⟨?_, ?_, ?_⟩
  · (first | assumption | omega | ((try dsimp only [jt2, jt3, jt4]); first | omega | (simp (disch := omega) only [jst_eq, jst_ne, jst_ni, jst_o, jI_i, jcpy_o, w32_id] <;> first | done | omega | assumption)) | (intros; simp (disch := omega) only [jst_eq, jst_ne, jst_ni, jst_o, jI_i, jcpy_o, w32_id, *] <;> first | done | omega) | (intros; simp (disch := omega) only [jst_eq, jst_ne, jst_ni, jst_o, jI_i, jcpy_o, w32_id] at * <;> first | done | omega | assumption)) -- o4 e1.1
  · (first | assumption | omega | ((try dsimp only [jt2, jt3, jt4]); first | omega | (simp (disch := omega) only [jst_eq, jst_ne, jst_ni, jst_o, jI_i, jcpy_o, w32_id] <;> first | done | omega | assumption)) | (intros; simp (disch := omega) only [jst_eq, jst_ne, jst_ni, jst_o, jI_i, jcpy_o, w32_id, *] <;> first | done | omega) | (intros; simp (disch := omega) only [jst_eq, jst_ne, jst_ni, jst_o, jI_i, jcpy_o, w32_id] at * <;> first | done | omega | assumption)) -- o5 e1.2
  · (first | assumption | omega | ((try dsimp only [jt2, jt3, jt4]); first | omega | (simp (disch := omega) only [jst_eq, jst_ne, jst_ni, jst_o, jI_i, jcpy_o, w32_id] <;> first | done | omega | assumption)) | (intros; simp (disch := omega) only [jst_eq, jst_ne, jst_ni, jst_o, jI_i, jcpy_o, w32_id, *] <;> first | done | omega) | (intros; simp (disch := omega) only [jst_eq, jst_ne, jst_ni, jst_o, jI_i, jcpy_o, w32_id] at * <;> first | done | omega | assumption)) -- o6 e1.3
theorem vX14_takeTape_l7 (a10 : Int) {h0 : AH} (h2 : a10 = 0) (n1 : 0 ≤ h0 454 53 ∧ h0 454 53 ≤ 2000) : OK (gX14_takeTape_l7 a10 h0) (fun h' => (∀ k, 0 ≤ k → k < h0 454 53 → h' 473 k = h0 790 k) ∧ (∀ a s, ¬ (a = 473 ∧ 0 ≤ s ∧ s < h0 454 53) → h' a s = h0 a s)) := by
  unfold gX14_takeTape_l7
  refine OK_jit (I := (fun (s : Int × AH) => jt2 s fun a1 h => (0 ≤ a1 ∧ a1 ≤ h0 454 53) ∧ (∀ k, 0 ≤ k → k < a1 → h 473 k = h0 790 k) ∧ (∀ a s, ¬ (a = 473 ∧ 0 ≤ s ∧ s < h0 454 53) → h a s = h0 a s))) (m := (fun (s : Int × AH) => jt2 s fun a1 h => (h0 454 53 - a1).toNat)) ?_ ?_
  · intro s hs
    obtain ⟨a1, h⟩ := s
    dsimp only [Sum.elim_inl, Sum.elim_inr, jt2, jt3, jt4, jt5, jt6, jt7, jt8] at hs
    obtain ⟨q1, q3, fr⟩ := hs
    unfold gX14_takeTape_b7
    refine OK_jt2 ?_
    have hsz : h 454 53 = h0 454 53 := fr 454 53 (by omega)
    refine OK_if (fun c1 => ?_) (fun c1 => ?_)
    · skip
      try simp (disch := omega) only [jst_eq, jst_ne, jst_ni, jI_i, jcmp_lt, jcmp_gt, w32_id, jcpy_o, Sum.elim_inl, Sum.elim_inr, jt2, jt3, jt4, jt5, jt6, jt7, jt8] at c1
      refine OK_ir ?_
      try dsimp only [Sum.elim_inl, Sum.elim_inr, jt2, jt3, jt4, jt5, jt6, jt7, jt8]
      refine ⟨?_, ?_⟩
      · (intro k k0 k1; rw [fr 454 53 (by omega)] at c1; exact q3 k k0 (by omega)) -- o1 e1.1
      · (first | assumption | omega | ((try dsimp only [jt2, jt3, jt4]); first | omega | (simp (disch := omega) only [jst_eq, jst_ne, jst_ni, jst_o, jI_i, jcpy_o, w32_id] <;> first | done | omega | assumption)) | (intros; simp (disch := omega) only [jst_eq, jst_ne, jst_ni, jst_o, jI_i, jcpy_o, w32_id, *] <;> first | done | omega) | (intros; simp (disch := omega) only [jst_eq, jst_ne, jst_ni, jst_o, jI_i, jcpy_o, w32_id] at * <;> first | done | omega | assumption)) -- o2 e1.2
    · skip
      try simp (disch := omega) only [jst_eq, jst_ne, jst_ni, jI_i, jcmp_lt, jcmp_gt, w32_id, jcpy_o, Sum.elim_inl, Sum.elim_inr, jt2, jt3, jt4, jt5, jt6, jt7, jt8] at c1
      refine OK_jg (by (first | assumption | omega | ((try dsimp only [jt2, jt3, jt4]); first | omega | (simp (disch := omega) only [jst_eq, jst_ne, jst_ni, jst_o, jI_i, jcpy_o, w32_id] <;> first | done | omega | assumption)) | (intros; simp (disch := omega) only [jst_eq, jst_ne, jst_ni, jst_o, jI_i, jcpy_o, w32_id, *] <;> first | done | omega) | (intros; simp (disch := omega) only [jst_eq, jst_ne, jst_ni, jst_o, jI_i, jcpy_o, w32_id] at * <;> first | done | omega | assumption))) ?_ -- o3
      refine OK_jl ?_
      refine OK_jlx (fun x8 ex8 => ?_)
      try simp (disch := omega) only [jst_eq, jst_ne, jst_ni, jI_i, jcmp_lt, jcmp_gt, w32_id, jcpy_o, Sum.elim_inl, Sum.elim_inr, jt2, jt3, jt4, jt5, jt6, jt7, jt8] at ex8
      refine OK_il ?_ ?_
      · try dsimp only [Sum.elim_inl, Sum.elim_inr, jt2, jt3, jt4, jt5, jt6, jt7, jt8]
        refine ⟨?_, ?_, ?_⟩
        · (first | assumption | omega | ((try dsimp only [jt2, jt3, jt4]); first | omega | (simp (disch := omega) only [jst_eq, jst_ne, jst_ni, jst_o, jI_i, jcpy_o, w32_id] <;> first | done | omega | assumption)) | (intros; simp (disch := omega) only [jst_eq, jst_ne, jst_ni, jst_o, jI_i, jcpy_o, w32_id, *] <;> first | done | omega) | (intros; simp (disch := omega) only [jst_eq, jst_ne, jst_ni, jst_o, jI_i, jcpy_o, w32_id] at * <;> first | done | omega | assumption)) -- o4 e2i.1
        · (intro k k0 k1; rw [jst_at]; by_cases q : k = a1; { rw [if_pos q, q]; rw [fr _ _ (by omega)] }; { rw [if_neg q]; exact q3 k k0 (by omega) }) -- o5 e2i.2
        · (first | assumption | omega | ((try dsimp only [jt2, jt3, jt4]); first | omega | (simp (disch := omega) only [jst_eq, jst_ne, jst_ni, jst_o, jI_i, jcpy_o, w32_id] <;> first | done | omega | assumption)) | (intros; simp (disch := omega) only [jst_eq, jst_ne, jst_ni, jst_o, jI_i, jcpy_o, w32_id, *] <;> first | done | omega) | (intros; simp (disch := omega) only [jst_eq, jst_ne, jst_ni, jst_o, jI_i, jcpy_o, w32_id] at * <;> first | done | omega | assumption)) -- o6 e2i.3
      · (first | assumption | omega | ((try dsimp only [jt2, jt3, jt4]); first | omega | (simp (disch := omega) only [jst_eq, jst_ne, jst_ni, jst_o, jI_i, jcpy_o, w32_id] <;> first | done | omega | assumption)) | (intros; simp (disch := omega) only [jst_eq, jst_ne, jst_ni, jst_o, jI_i, jcpy_o, w32_id, *] <;> first | done | omega) | (intros; simp (disch := omega) only [jst_eq, jst_ne, jst_ni, jst_o, jI_i, jcpy_o, w32_id] at * <;> first | done | omega | assumption)) -- o7 e2m
  · try dsimp only [Sum.elim_inl, Sum.elim_inr, jt2, jt3, jt4, jt5, jt6, jt7, jt8]
    refine ⟨?_, ?_, ?_⟩
    · (first | assumption | omega | ((try dsimp only [jt2, jt3, jt4]); first | omega | (simp (disch := omega) only [jst_eq, jst_ne, jst_ni, jst_o, jI_i, jcpy_o, w32_id] <;> first | done | omega | assumption)) | (intros; simp (disch := omega) only [jst_eq, jst_ne, jst_ni, jst_o, jI_i, jcpy_o, w32_id, *] <;> first | done | omega) | (intros; simp (disch := omega) only [jst_eq, jst_ne, jst_ni, jst_o, jI_i, jcpy_o, w32_id] at * <;> first | done | omega | assumption)) -- o8 init.1
    · (first | assumption | omega | ((try dsimp only [jt2, jt3, jt4]); first | omega | (simp (disch := omega) only [jst_eq, jst_ne, jst_ni, jst_o, jI_i, jcpy_o, w32_id] <;> first | done | omega | assumption)) | (intros; simp (disch := omega) only [jst_eq, jst_ne, jst_ni, jst_o, jI_i, jcpy_o, w32_id, *] <;> first | done | omega) | (intros; simp (disch := omega) only [jst_eq, jst_ne, jst_ni, jst_o, jI_i, jcpy_o, w32_id] at * <;> first | done | omega | assumption)) -- o9 init.2
    · (first | assumption | omega | ((try dsimp only [jt2, jt3, jt4]); first | omega | (simp (disch := omega) only [jst_eq, jst_ne, jst_ni, jst_o, jI_i, jcpy_o, w32_id] <;> first | done | omega | assumption)) | (intros; simp (disch := omega) only [jst_eq, jst_ne, jst_ni, jst_o, jI_i, jcpy_o, w32_id, *] <;> first | done | omega) | (intros; simp (disch := omega) only [jst_eq, jst_ne, jst_ni, jst_o, jI_i, jcpy_o, w32_id] at * <;> first | done | omega | assumption)) -- o10 init.3

