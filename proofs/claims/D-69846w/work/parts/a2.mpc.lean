/-! m: a piece is read -/
/-- a value's node -/
def vnM (B : Int → Int) (n q v D N : Int) (h : AH) : Prop := (D ≤ v ∧ v < N) ∧ h 460 v = 0 ∧ h 461 v = kch (vlK B n q) ∧ h 462 v = vlV B n q ∧ h 465 v = 0 ∧ h 466 v = -1
/-- pieces as m keeps them -/
def pcsM (B : Int → Int) (n : Int) (E : EV) (h : AH) (a D N : Int) (l : List (Int × Int)) : Prop := ∀ i : Nat, i < 12 → ∀ p, l[i]? = some p → h (a + 3) i = pcA B n E p.1 ∧ h (a + 4) i = p.2 ∧ ((isVl B n p.1 ∧ vnM B n p.1 (h (a + 2) i) D N h) ∨ (¬ isVl B n p.1 ∧ h (a + 2) i = -1))
theorem vX14_piece_j144_64 (a1 : Int) (a2 : Int) (a3 : Int) (a4 : Int) (a5 : Int) {h : AH} (b : 0 ≤ a5 ∧ a5 ≤ 100) : OK (gX14_piece_j144_64 a1 a2 a3 a4 a5 h) (Sum.elim (fun r => jt2 r fun y h' => y = a5 + 1 ∧ h' = h) (fun h' => (0 : Int) = 1)) := by
  unfold gX14_piece_j144_64
  refine OK_jlx (fun x61 ex61 => ?_)
  try simp (disch := omega) only [jst_eq, jst_ne, jst_ni, jI_i, jcmp_lt, jcmp_gt, w32_id, jcpy_out, Sum.elim_inl, Sum.elim_inr, jt2, jt3, jt4, jt5, jt6, jt7, jt8] at ex61
  refine OK_some ?_
  try dsimp only [Sum.elim_inl, Sum.elim_inr, jt2, jt3, jt4, jt5, jt6, jt7, jt8]
  (first | assumption | omega | ((try dsimp only [jt2, jt3, jt4]); first | omega | (simp (disch := omega) only [jst_eq, jst_ne, jst_ni, jst_o, jI_i, jcpy_out, w32_id, jdiv_nn, jshr_k, jand_255] <;> first | done | omega | assumption)) | (intros; simp (disch := omega) only [jst_eq, jst_ne, jst_ni, jst_o, jI_i, jcpy_out, w32_id, jdiv_nn, *] <;> first | done | omega) | (intros; simp (disch := omega) only [jst_eq, jst_ne, jst_ni, jst_o, jI_i, jcpy_out, w32_id, jdiv_nn] at * <;> first | done | omega | assumption) | (intros; first | rfl | (exfalso; omega) | ((repeat' apply And.intro) <;> first | assumption | rfl | omega | trivial))) -- o1 e1
theorem vX14_piece_j131_64 (a1 : Int) (a2 : Int) (a3 : Int) (a4 : Int) (a5 : Int) (t0 : Int) {h : AH} (tz : t0 = 0 ∨ t0 = 1) (mi : MI h) (w : (0 ≤ a2 ∧ a2 ≤ 2001) ∧ 0 ≤ a5 ∧ a5 ≤ 100) : OK (gX14_piece_j131_64 a1 a2 a3 a4 a5 t0 h) (Sum.elim (fun r => jt2 r fun y h' => (y = a5 + 1) ∧ (MI h' ∧ MK h' = if t0 = 1 then min (MK h) (a2 * 8 + 3) else MK h) ∧ (∀ b s, ¬ (b = 454 ∧ (s = 30 ∨ s = 31)) → h' b s = h b s)) (fun h' => (0 : Int) = 1)) := by
  unfold gX14_piece_j131_64
  refine OK_if (fun c1 => ?_) (fun c1 => ?_)
  · skip
    try simp (disch := omega) only [jst_eq, jst_ne, jst_ni, jI_i, jcmp_lt, jcmp_gt, w32_id, jcpy_out, Sum.elim_inl, Sum.elim_inr, jt2, jt3, jt4, jt5, jt6, jt7, jt8] at c1
    refine OK_mono (vX14_piece_j144_64 _ _ _ _ _ (by exact w.2)) (fun r r1 => ?_)
    rcases r with r | r
    · skip
      have r2 := r1; clear r1; dsimp only [Sum.elim_inl, Sum.elim_inr] at r2
      obtain ⟨y1, y2⟩ := r
      try dsimp only [Sum.elim_inl, Sum.elim_inr, jt2, jt3, jt4, jt5, jt6, jt7, jt8] at r2
      have cc1 := r2
      clear r2
      try simp (disch := omega) only [jst_eq, jst_ne, jst_ni, jI_i, jcmp_lt, jcmp_gt, w32_id, jcpy_out, Sum.elim_inl, Sum.elim_inr, jt2, jt3, jt4, jt5, jt6, jt7, jt8] at cc1
      try dsimp only [Sum.elim_inl, Sum.elim_inr, jt2, jt3, jt4, jt5, jt6, jt7, jt8]
      try dsimp only [Sum.elim_inl, Sum.elim_inr, jt2, jt3, jt4, jt5, jt6, jt7, jt8]
      refine ⟨?_, ?_, ?_⟩
      · exact cc1.1 -- o2 e1.1
      · (rw [cc1.2]; exact ⟨mi, by rw [if_neg (by omega)]⟩) -- o3 e1.2
      · (rw [cc1.2]; exact fun _ _ _ => rfl) -- o4 e1.3
    · skip
      have r3 := r1; clear r1; dsimp only [Sum.elim_inl, Sum.elim_inr] at r3
      try dsimp only [Sum.elim_inl, Sum.elim_inr, jt2, jt3, jt4, jt5, jt6, jt7, jt8] at r3
      have no2 := r3
      clear r3
      try simp (disch := omega) only [jst_eq, jst_ne, jst_ni, jI_i, jcmp_lt, jcmp_gt, w32_id, jcpy_out, Sum.elim_inl, Sum.elim_inr, jt2, jt3, jt4, jt5, jt6, jt7, jt8] at no2
      try dsimp only [Sum.elim_inl, Sum.elim_inr, jt2, jt3, jt4, jt5, jt6, jt7, jt8]
      exact absurd no2 (by decide) -- o5 e2
  · skip
    try simp (disch := omega) only [jst_eq, jst_ne, jst_ni, jI_i, jcmp_lt, jcmp_gt, w32_id, jcpy_out, Sum.elim_inl, Sum.elim_inr, jt2, jt3, jt4, jt5, jt6, jt7, jt8] at c1
    refine OK_jb (vX14_note _ _ (by exact mi) (by omega)) (fun h60 r4 => ?_)
    try dsimp only [Sum.elim_inl, Sum.elim_inr, jt2, jt3, jt4, jt5, jt6, jt7, jt8] at r4
    obtain ⟨m3, k3, fr3⟩ := r4
    try simp (disch := omega) only [jst_eq, jst_ne, jst_ni, jI_i, jcmp_lt, jcmp_gt, w32_id, jcpy_out, Sum.elim_inl, Sum.elim_inr, jt2, jt3, jt4, jt5, jt6, jt7, jt8] at m3
    try simp (disch := omega) only [jst_eq, jst_ne, jst_ni, jI_i, jcmp_lt, jcmp_gt, w32_id, jcpy_out, Sum.elim_inl, Sum.elim_inr, jt2, jt3, jt4, jt5, jt6, jt7, jt8] at k3
    try simp (disch := omega) only [jst_eq, jst_ne, jst_ni, jI_i, jcmp_lt, jcmp_gt, w32_id, jcpy_out, Sum.elim_inl, Sum.elim_inr, jt2, jt3, jt4, jt5, jt6, jt7, jt8] at fr3
    refine OK_mono (vX14_piece_j144_64 _ _ _ _ _ (by exact w.2)) (fun r r5 => ?_)
    rcases r with r | r
    · skip
      have r6 := r5; clear r5; dsimp only [Sum.elim_inl, Sum.elim_inr] at r6
      obtain ⟨y3, y4⟩ := r
      try dsimp only [Sum.elim_inl, Sum.elim_inr, jt2, jt3, jt4, jt5, jt6, jt7, jt8] at r6
      have cc4 := r6
      clear r6
      try simp (disch := omega) only [jst_eq, jst_ne, jst_ni, jI_i, jcmp_lt, jcmp_gt, w32_id, jcpy_out, Sum.elim_inl, Sum.elim_inr, jt2, jt3, jt4, jt5, jt6, jt7, jt8] at cc4
      try dsimp only [Sum.elim_inl, Sum.elim_inr, jt2, jt3, jt4, jt5, jt6, jt7, jt8]
      try dsimp only [Sum.elim_inl, Sum.elim_inr, jt2, jt3, jt4, jt5, jt6, jt7, jt8]
      refine ⟨?_, ?_, ?_⟩
      · exact cc4.1 -- o9 e3.1
      · (rw [cc4.2]; exact ⟨m3, by rw [if_pos (by omega)]; exact k3⟩) -- o10 e3.2
      · (rw [cc4.2]; exact fr3) -- o11 e3.3
    · skip
      have r7 := r5; clear r5; dsimp only [Sum.elim_inl, Sum.elim_inr] at r7
      try dsimp only [Sum.elim_inl, Sum.elim_inr, jt2, jt3, jt4, jt5, jt6, jt7, jt8] at r7
      have no5 := r7
      clear r7
      try simp (disch := omega) only [jst_eq, jst_ne, jst_ni, jI_i, jcmp_lt, jcmp_gt, w32_id, jcpy_out, Sum.elim_inl, Sum.elim_inr, jt2, jt3, jt4, jt5, jt6, jt7, jt8] at no5
      try dsimp only [Sum.elim_inl, Sum.elim_inr, jt2, jt3, jt4, jt5, jt6, jt7, jt8]
      exact absurd no5 (by decide) -- o12 e4
theorem vX14_piece_j97_64 (a1 : Int) (a2 : Int) (a3 : Int) (a4 : Int) (a5 : Int) {h : AH} {P : Prop} (mi : MI h) (w : (0 ≤ a2 ∧ a2 ≤ 2001) ∧ 0 ≤ a5 ∧ a5 < 12) (p1 : a3 < 0 → ¬ P) (p2 : 0 ≤ a3 → h (a1 + 2) a5 < 0 → ¬ P) (p3 : 0 ≤ a3 → 0 ≤ h (a1 + 2) a5 → (0 ≤ a3 ∧ a3 < 8800 ∧ 0 ≤ h (a1 + 2) a5 ∧ h (a1 + 2) a5 < 8800) ∧ (h 460 a3 = 0 ∧ h 465 a3 = 0) ∧ (P ↔ (h 460 (h (a1 + 2) a5) = 0 ∧ h 461 a3 = h 461 (h (a1 + 2) a5) ∧ h 462 a3 = h 462 (h (a1 + 2) a5)))) : OK (gX14_piece_j97_64 a1 a2 a3 a4 a5 h) (Sum.elim (fun r => jt2 r fun y h' => (y = a5 + 1) ∧ (MI h' ∧ MK h' = cif P (min (MK h) (a2 * 8 + 3)) (MK h)) ∧ (∀ b s, ¬ (b = 454 ∧ (s = 30 ∨ s = 31)) → h' b s = h b s)) (fun h' => (0 : Int) = 1)) := by
  unfold gX14_piece_j97_64
  refine OK_if (fun c1 => ?_) (fun c1 => ?_)
  · skip
    try simp (disch := omega) only [jst_eq, jst_ne, jst_ni, jI_i, jcmp_lt, jcmp_gt, w32_id, jcpy_out, Sum.elim_inl, Sum.elim_inr, jt2, jt3, jt4, jt5, jt6, jt7, jt8] at c1
    refine OK_mono (vX14_piece_j131_64 _ _ _ _ _ _ (by exact Or.inl rfl) (by exact mi) (by omega)) (fun r r1 => ?_)
    rcases r with r | r
    · skip
      have r2 := r1; clear r1; dsimp only [Sum.elim_inl, Sum.elim_inr] at r2
      obtain ⟨y1, y2⟩ := r
      try dsimp only [Sum.elim_inl, Sum.elim_inr, jt2, jt3, jt4, jt5, jt6, jt7, jt8] at r2
      obtain ⟨cc1, mk1, fr1⟩ := r2
      try simp (disch := omega) only [jst_eq, jst_ne, jst_ni, jI_i, jcmp_lt, jcmp_gt, w32_id, jcpy_out, Sum.elim_inl, Sum.elim_inr, jt2, jt3, jt4, jt5, jt6, jt7, jt8] at cc1
      try simp (disch := omega) only [jst_eq, jst_ne, jst_ni, jI_i, jcmp_lt, jcmp_gt, w32_id, jcpy_out, Sum.elim_inl, Sum.elim_inr, jt2, jt3, jt4, jt5, jt6, jt7, jt8] at mk1
      try simp (disch := omega) only [jst_eq, jst_ne, jst_ni, jI_i, jcmp_lt, jcmp_gt, w32_id, jcpy_out, Sum.elim_inl, Sum.elim_inr, jt2, jt3, jt4, jt5, jt6, jt7, jt8] at fr1
      try dsimp only [Sum.elim_inl, Sum.elim_inr, jt2, jt3, jt4, jt5, jt6, jt7, jt8]
      try dsimp only [Sum.elim_inl, Sum.elim_inr, jt2, jt3, jt4, jt5, jt6, jt7, jt8]
      refine ⟨?_, ?_, ?_⟩
      · exact cc1 -- o4 e1.1
      · exact ⟨mk1.1, by rw [cif_n (p1 c1)]; first | exact mk1.2 | exact mk1.2.trans (if_neg (by decide))⟩ -- o5 e1.2
      · exact fr1 -- o6 e1.3
    · skip
      have r3 := r1; clear r1; dsimp only [Sum.elim_inl, Sum.elim_inr] at r3
      try dsimp only [Sum.elim_inl, Sum.elim_inr, jt2, jt3, jt4, jt5, jt6, jt7, jt8] at r3
      have no2 := r3
      clear r3
      try simp (disch := omega) only [jst_eq, jst_ne, jst_ni, jI_i, jcmp_lt, jcmp_gt, w32_id, jcpy_out, Sum.elim_inl, Sum.elim_inr, jt2, jt3, jt4, jt5, jt6, jt7, jt8] at no2
      try dsimp only [Sum.elim_inl, Sum.elim_inr, jt2, jt3, jt4, jt5, jt6, jt7, jt8]
      exact absurd no2 (by decide) -- o7 e2
  · skip
    try simp (disch := omega) only [jst_eq, jst_ne, jst_ni, jI_i, jcmp_lt, jcmp_gt, w32_id, jcpy_out, Sum.elim_inl, Sum.elim_inr, jt2, jt3, jt4, jt5, jt6, jt7, jt8] at c1
    refine OK_jg (by (first | assumption | omega | ((try dsimp only [jt2, jt3, jt4]); first | omega | (simp (disch := omega) only [jst_eq, jst_ne, jst_ni, jst_o, jI_i, jcpy_out, w32_id, jdiv_nn, jshr_k, jand_255] <;> first | done | omega | assumption)) | (intros; simp (disch := omega) only [jst_eq, jst_ne, jst_ni, jst_o, jI_i, jcpy_out, w32_id, jdiv_nn, *] <;> first | done | omega) | (intros; simp (disch := omega) only [jst_eq, jst_ne, jst_ni, jst_o, jI_i, jcpy_out, w32_id, jdiv_nn] at * <;> first | done | omega | assumption) | (intros; first | rfl | (exfalso; omega) | ((repeat' apply And.intro) <;> first | assumption | rfl | omega | trivial)))) ?_ -- o8
    refine OK_if (fun c2 => ?_) (fun c2 => ?_)
    · skip
      try simp (disch := omega) only [jst_eq, jst_ne, jst_ni, jI_i, jcmp_lt, jcmp_gt, w32_id, jcpy_out, Sum.elim_inl, Sum.elim_inr, jt2, jt3, jt4, jt5, jt6, jt7, jt8] at c2
      refine OK_mono (vX14_piece_j131_64 _ _ _ _ _ _ (by exact Or.inl rfl) (by exact mi) (by omega)) (fun r r4 => ?_)
      rcases r with r | r
      · skip
        have r5 := r4; clear r4; dsimp only [Sum.elim_inl, Sum.elim_inr] at r5
        obtain ⟨y3, y4⟩ := r
        try dsimp only [Sum.elim_inl, Sum.elim_inr, jt2, jt3, jt4, jt5, jt6, jt7, jt8] at r5
        obtain ⟨cc3, mk3, fr3⟩ := r5
        try simp (disch := omega) only [jst_eq, jst_ne, jst_ni, jI_i, jcmp_lt, jcmp_gt, w32_id, jcpy_out, Sum.elim_inl, Sum.elim_inr, jt2, jt3, jt4, jt5, jt6, jt7, jt8] at cc3
        try simp (disch := omega) only [jst_eq, jst_ne, jst_ni, jI_i, jcmp_lt, jcmp_gt, w32_id, jcpy_out, Sum.elim_inl, Sum.elim_inr, jt2, jt3, jt4, jt5, jt6, jt7, jt8] at mk3
        try simp (disch := omega) only [jst_eq, jst_ne, jst_ni, jI_i, jcmp_lt, jcmp_gt, w32_id, jcpy_out, Sum.elim_inl, Sum.elim_inr, jt2, jt3, jt4, jt5, jt6, jt7, jt8] at fr3
        try dsimp only [Sum.elim_inl, Sum.elim_inr, jt2, jt3, jt4, jt5, jt6, jt7, jt8]
        try dsimp only [Sum.elim_inl, Sum.elim_inr, jt2, jt3, jt4, jt5, jt6, jt7, jt8]
        refine ⟨?_, ?_, ?_⟩
        · exact cc3 -- o12 e3.1
        · exact ⟨mk3.1, by rw [cif_n (p2 (by omega) c2)]; first | exact mk3.2 | exact mk3.2.trans (if_neg (by decide))⟩ -- o13 e3.2
        · exact fr3 -- o14 e3.3
      · skip
        have r6 := r4; clear r4; dsimp only [Sum.elim_inl, Sum.elim_inr] at r6
        try dsimp only [Sum.elim_inl, Sum.elim_inr, jt2, jt3, jt4, jt5, jt6, jt7, jt8] at r6
        have no4 := r6
        clear r6
        try simp (disch := omega) only [jst_eq, jst_ne, jst_ni, jI_i, jcmp_lt, jcmp_gt, w32_id, jcpy_out, Sum.elim_inl, Sum.elim_inr, jt2, jt3, jt4, jt5, jt6, jt7, jt8] at no4
        try dsimp only [Sum.elim_inl, Sum.elim_inr, jt2, jt3, jt4, jt5, jt6, jt7, jt8]
        exact absurd no4 (by decide) -- o15 e4
    · skip
      try simp (disch := omega) only [jst_eq, jst_ne, jst_ni, jI_i, jcmp_lt, jcmp_gt, w32_id, jcpy_out, Sum.elim_inl, Sum.elim_inr, jt2, jt3, jt4, jt5, jt6, jt7, jt8] at c2
      obtain ⟨P1, P2, P3⟩ := p3 (by omega) (by omega)
      refine OK_jb (vX14_isLike0 _ _ (by exact P1) (by exact P2)) (fun v56 r7 => ?_)
      try dsimp only [Sum.elim_inl, Sum.elim_inr, jt2, jt3, jt4, jt5, jt6, jt7, jt8] at r7
      have is5 := r7
      clear r7
      try simp (disch := omega) only [jst_eq, jst_ne, jst_ni, jI_i, jcmp_lt, jcmp_gt, w32_id, jcpy_out, Sum.elim_inl, Sum.elim_inr, jt2, jt3, jt4, jt5, jt6, jt7, jt8] at is5
      refine OK_if (fun c3 => ?_) (fun c3 => ?_)
      · skip
        try simp (disch := omega) only [jst_eq, jst_ne, jst_ni, jI_i, jcmp_lt, jcmp_gt, w32_id, jcpy_out, Sum.elim_inl, Sum.elim_inr, jt2, jt3, jt4, jt5, jt6, jt7, jt8] at c3
        have NP : ¬ P := fun z => by { rcases is5 with y | y; { omega }; { exact y.2 (P3.mp z) } }
        refine OK_mono (vX14_piece_j131_64 _ _ _ _ _ _ (by exact Or.inl rfl) (by exact mi) (by omega)) (fun r r8 => ?_)
        rcases r with r | r
        · skip
          have r9 := r8; clear r8; dsimp only [Sum.elim_inl, Sum.elim_inr] at r9
          obtain ⟨y5, y6⟩ := r
          try dsimp only [Sum.elim_inl, Sum.elim_inr, jt2, jt3, jt4, jt5, jt6, jt7, jt8] at r9
          obtain ⟨cc6, mk6, fr6⟩ := r9
          try simp (disch := omega) only [jst_eq, jst_ne, jst_ni, jI_i, jcmp_lt, jcmp_gt, w32_id, jcpy_out, Sum.elim_inl, Sum.elim_inr, jt2, jt3, jt4, jt5, jt6, jt7, jt8] at cc6
          try simp (disch := omega) only [jst_eq, jst_ne, jst_ni, jI_i, jcmp_lt, jcmp_gt, w32_id, jcpy_out, Sum.elim_inl, Sum.elim_inr, jt2, jt3, jt4, jt5, jt6, jt7, jt8] at mk6
          try simp (disch := omega) only [jst_eq, jst_ne, jst_ni, jI_i, jcmp_lt, jcmp_gt, w32_id, jcpy_out, Sum.elim_inl, Sum.elim_inr, jt2, jt3, jt4, jt5, jt6, jt7, jt8] at fr6
          try dsimp only [Sum.elim_inl, Sum.elim_inr, jt2, jt3, jt4, jt5, jt6, jt7, jt8]
          try dsimp only [Sum.elim_inl, Sum.elim_inr, jt2, jt3, jt4, jt5, jt6, jt7, jt8]
          refine ⟨?_, ?_, ?_⟩
          · exact cc6 -- o21 e5.1
          · exact ⟨mk6.1, by rw [cif_n NP]; first | exact mk6.2 | exact mk6.2.trans (if_neg (by decide))⟩ -- o22 e5.2
          · exact fr6 -- o23 e5.3
        · skip
          have r10 := r8; clear r8; dsimp only [Sum.elim_inl, Sum.elim_inr] at r10
          try dsimp only [Sum.elim_inl, Sum.elim_inr, jt2, jt3, jt4, jt5, jt6, jt7, jt8] at r10
          have no7 := r10
          clear r10
          try simp (disch := omega) only [jst_eq, jst_ne, jst_ni, jI_i, jcmp_lt, jcmp_gt, w32_id, jcpy_out, Sum.elim_inl, Sum.elim_inr, jt2, jt3, jt4, jt5, jt6, jt7, jt8] at no7
          try dsimp only [Sum.elim_inl, Sum.elim_inr, jt2, jt3, jt4, jt5, jt6, jt7, jt8]
          exact absurd no7 (by decide) -- o24 e6
      · skip
        try simp (disch := omega) only [jst_eq, jst_ne, jst_ni, jI_i, jcmp_lt, jcmp_gt, w32_id, jcpy_out, Sum.elim_inl, Sum.elim_inr, jt2, jt3, jt4, jt5, jt6, jt7, jt8] at c3
        have YP : P := P3.mpr (by { rcases is5 with y | y; { exact y.2 }; { omega } })
        refine OK_mono (vX14_piece_j131_64 _ _ _ _ _ _ (by exact Or.inr rfl) (by exact mi) (by omega)) (fun r r11 => ?_)
        rcases r with r | r
        · skip
          have r12 := r11; clear r11; dsimp only [Sum.elim_inl, Sum.elim_inr] at r12
          obtain ⟨y7, y8⟩ := r
          try dsimp only [Sum.elim_inl, Sum.elim_inr, jt2, jt3, jt4, jt5, jt6, jt7, jt8] at r12
          obtain ⟨cc8, mk8, fr8⟩ := r12
          try simp (disch := omega) only [jst_eq, jst_ne, jst_ni, jI_i, jcmp_lt, jcmp_gt, w32_id, jcpy_out, Sum.elim_inl, Sum.elim_inr, jt2, jt3, jt4, jt5, jt6, jt7, jt8] at cc8
          try simp (disch := omega) only [jst_eq, jst_ne, jst_ni, jI_i, jcmp_lt, jcmp_gt, w32_id, jcpy_out, Sum.elim_inl, Sum.elim_inr, jt2, jt3, jt4, jt5, jt6, jt7, jt8] at mk8
          try simp (disch := omega) only [jst_eq, jst_ne, jst_ni, jI_i, jcmp_lt, jcmp_gt, w32_id, jcpy_out, Sum.elim_inl, Sum.elim_inr, jt2, jt3, jt4, jt5, jt6, jt7, jt8] at fr8
          try dsimp only [Sum.elim_inl, Sum.elim_inr, jt2, jt3, jt4, jt5, jt6, jt7, jt8]
          try dsimp only [Sum.elim_inl, Sum.elim_inr, jt2, jt3, jt4, jt5, jt6, jt7, jt8]
          refine ⟨?_, ?_, ?_⟩
          · exact cc8 -- o28 e7.1
          · exact ⟨mk8.1, by rw [cif_p YP]; first | exact mk8.2 | exact mk8.2.trans (if_pos rfl)⟩ -- o29 e7.2
          · exact fr8 -- o30 e7.3
        · skip
          have r13 := r11; clear r11; dsimp only [Sum.elim_inl, Sum.elim_inr] at r13
          try dsimp only [Sum.elim_inl, Sum.elim_inr, jt2, jt3, jt4, jt5, jt6, jt7, jt8] at r13
          have no9 := r13
          clear r13
          try simp (disch := omega) only [jst_eq, jst_ne, jst_ni, jI_i, jcmp_lt, jcmp_gt, w32_id, jcpy_out, Sum.elim_inl, Sum.elim_inr, jt2, jt3, jt4, jt5, jt6, jt7, jt8] at no9
          try dsimp only [Sum.elim_inl, Sum.elim_inr, jt2, jt3, jt4, jt5, jt6, jt7, jt8]
          exact absurd no9 (by decide) -- o31 e8
theorem pcA_v {B : Int → Int} {n : Int} {E : EV} {q : Int} (v : isVl B n q) : pcA B n E q = -1 := if_pos v
theorem pcS_m {B : Int → Int} {n q u a3 a4 a5 a1 D N : Int} {E : EV} {h : AH} (a4e : a4 = pcA B n E q) (x : (isVl B n q ∧ vnM B n q a3 D N h) ∨ (¬ isVl B n q ∧ a3 = -1)) (N8 : 0 ≤ D ∧ N ≤ 8800) (y1 : h (a1 + 3) a5 = pcA B n E u) (y : (isVl B n u ∧ vnM B n u (h (a1 + 2) a5) D N h) ∨ (¬ isVl B n u ∧ h (a1 + 2) a5 = -1)) (ne : ¬ (0 ≤ a4 ∧ a4 = h (a1 + 3) a5)) : (a3 < 0 → ¬ pcS B n E q u) ∧ (0 ≤ a3 → h (a1 + 2) a5 < 0 → ¬ pcS B n E q u) ∧ (0 ≤ a3 → 0 ≤ h (a1 + 2) a5 → (0 ≤ a3 ∧ a3 < 8800 ∧ 0 ≤ h (a1 + 2) a5 ∧ h (a1 + 2) a5 < 8800) ∧ (h 460 a3 = 0 ∧ h 465 a3 = 0) ∧ (pcS B n E q u ↔ (h 460 (h (a1 + 2) a5) = 0 ∧ h 461 a3 = h 461 (h (a1 + 2) a5) ∧ h 462 a3 = h 462 (h (a1 + 2) a5)))) := by
  have PA := pcA_r (B := B) (n := n) (E := E) (q := q)
  have NA : ¬ isVl B n q → ¬ pcS B n E q u := fun nv z => by
    rcases z with z | z
    · exact nv z.1
    · exact ne ⟨by have := z.2.2.1; omega, by rw [a4e, y1]; exact z.2.2.2⟩
  refine ⟨fun c z => ?_, fun c0 c z => ?_, fun c0 c => ?_⟩
  · rcases x with x | x
    · have := x.2.1; omega
    · exact NA x.1 z
  · rcases x with x | x
    · rcases y with y | y
      · have := y.2.1; omega
      · rcases z with z | z
        · exact y.1 z.2.1
        · exact z.1 x.1
    · exact NA x.1 z
  · have X := x.resolve_right (fun z => by omega)
    have Y := y.resolve_right (fun z => by omega)
    obtain ⟨xv, x1, x2, x3, x4, x5⟩ := X
    obtain ⟨yv, w1, w2, w3, w4, w5⟩ := Y
    refine ⟨⟨c0, by omega, c, by omega⟩, ⟨x2, x5.1⟩, ?_⟩
    rw [x3, x4, w3, w4, w2]
    have kq : 0 ≤ vlK B n q ∧ vlK B n q ≤ 2 := by unfold vlK; split <;> (try split) <;> omega
    have ku : 0 ≤ vlK B n u ∧ vlK B n u ≤ 2 := by unfold vlK; split <;> (try split) <;> omega
    rw [kch_inj ⟨by omega, kq.2⟩ ⟨by omega, ku.2⟩]
    constructor
    · rintro (z | z)
      · exact ⟨rfl, z.2.2.1, z.2.2.2⟩
      · exact absurd xv z.1
    · rintro ⟨_, z1, z2⟩
      exact Or.inl ⟨xv, yv, z1, z2⟩
def xxM (B : Int → Int) (n q D N : Int) (h : AH) (v : Int) : Prop := (isVl B n q ∧ vnM B n q v D N h) ∨ (¬ isVl B n q ∧ v = -1)
def pcT (B : Int → Int) (n : Int) (E : EV) (q u a1 a3 a5 : Int) (h : AH) : Prop := (a3 < 0 → ¬ pcS B n E q u) ∧ (0 ≤ a3 → h (a1 + 2) a5 < 0 → ¬ pcS B n E q u) ∧ (0 ≤ a3 → 0 ≤ h (a1 + 2) a5 → (0 ≤ a3 ∧ a3 < 8800 ∧ 0 ≤ h (a1 + 2) a5 ∧ h (a1 + 2) a5 < 8800) ∧ (h 460 a3 = 0 ∧ h 465 a3 = 0) ∧ (pcS B n E q u ↔ (h 460 (h (a1 + 2) a5) = 0 ∧ h 461 a3 = h 461 (h (a1 + 2) a5) ∧ h 462 a3 = h 462 (h (a1 + 2) a5))))
def pcU (B : Int → Int) (n : Int) (E : EV) (q u a1 a3 a4 a5 : Int) (h : AH) : Prop := ¬ (0 ≤ a4 ∧ a4 = h (a1 + 3) a5) → pcT B n E q u a1 a3 a5 h
theorem dupEN {P : Prop} {K0 K1 K2 d0 d1 x : Int} (TK : d1 = min d0 (cif P x 1000000)) (q1 : K1 = min K0 d0) (e : K2 = cif P (min K1 x) K1) (b : K0 ≤ 1000000) : K2 = min K0 d1 := by
  by_cases z : P
  · rw [TK, e, cif_p z, cif_p z, q1]; omega
  · rw [TK, e, cif_n z, cif_n z, q1]; omega
theorem pcS_h {B : Int → Int} {n q D N i1 i3 i4 a5 : Int} {E : EV} {p : Int × Int} {h0 h : AH} (LA : i1 = 476 ∨ i1 = 615) (a4e : i4 = pcA B n E q) (xx : xxM B n q D N h0 i3) (N8 : 0 ≤ D ∧ N ≤ 8800) (PS : h0 (i1 + 3) a5 = pcA B n E p.1 ∧ h0 (i1 + 4) a5 = p.2 ∧ ((isVl B n p.1 ∧ vnM B n p.1 (h0 (i1 + 2) a5) D N h0) ∨ (¬ isVl B n p.1 ∧ h0 (i1 + 2) a5 = -1))) (fr : ∀ b s, ¬ (b = 454 ∧ (s = 30 ∨ s = 31)) → h b s = h0 b s) : h (i1 + 3) a5 = pcA B n E p.1 ∧ pcU B n E q p.1 i1 i3 i4 a5 h := by
  have VF : ∀ u v, vnM B n u v D N h0 → vnM B n u v D N h := fun u v z => ⟨z.1, by rw [fr _ _ (by omega)]; exact z.2.1, by rw [fr _ _ (by omega)]; exact z.2.2.1, by rw [fr _ _ (by omega)]; exact z.2.2.2.1, by rw [fr _ _ (by omega), fr _ _ (by omega)]; exact z.2.2.2.2⟩
  have Y1 : h (i1 + 3) a5 = pcA B n E p.1 := by rw [fr _ _ (by omega)]; exact PS.1
  refine ⟨Y1, fun ne => ?_⟩
  have Y2 : (isVl B n p.1 ∧ vnM B n p.1 (h (i1 + 2) a5) D N h) ∨ (¬ isVl B n p.1 ∧ h (i1 + 2) a5 = -1) := by
    rw [fr (i1 + 2) a5 (by omega)]
    rcases PS.2.2 with z | z
    · exact Or.inl ⟨z.1, VF _ _ z.2⟩
    · exact Or.inr z
  have X2 : (isVl B n q ∧ vnM B n q i3 D N h) ∨ (¬ isVl B n q ∧ i3 = -1) := by
    rcases xx with z | z
    · exact Or.inl ⟨z.1, VF _ _ z.2⟩
    · exact Or.inr z
  exact pcS_m (a1 := i1) (a5 := a5) a4e X2 N8 Y1 Y2 ne
theorem vX14_piece_l64 (i1 : Int) (i2 : Int) (i3 : Int) (i4 : Int) (a50 : Int) {h0 : AH} {B : Int → Int} {n q D N : Int} {E : EV} {l : List (Int × Int)} (lo : isX16 i1) (mi : MI h0) (ps : pcsM B n E h0 i1 D N l) (cn : h0 i1 5 = (l.length : Int)) (pl : i2 = tS B n q ∧ 0 ≤ i2 ∧ i2 ≤ 2001 ∧ 0 ≤ D ∧ N ≤ 8800) (a4e : i4 = pcA B n E q) (xx : xxM B n q D N h0 i3) (h1 : a50 = 0) : OK (gX14_piece_l64 i1 i2 i3 i4 a50 h0) (fun h' => (MI h' ∧ MK h' = min (MK h0) (dupK B n E q (l.take 12))) ∧ (∀ b s, ¬ (b = 454 ∧ (s = 30 ∨ s = 31)) → h' b s = h0 b s)) := by
  have LA : i1 = 476 ∨ i1 = 615 := lo
  have mr := MK_r mi
  unfold gX14_piece_l64
  refine OK_jit (I := (fun (s : Int × AH) => jt2 s fun a5 h => (0 ≤ a5 ∧ a5 ≤ 12 ∧ a5 ≤ (l.length : Int)) ∧ (MI h ∧ MK h = min (MK h0) (dupK B n E q (l.take a5.toNat))) ∧ (∀ b s, ¬ (b = 454 ∧ (s = 30 ∨ s = 31)) → h b s = h0 b s))) (m := (fun (s : Int × AH) => jt2 s fun a5 h => (12 - a5).toNat)) ?_ ?_
  · intro s hs
    obtain ⟨a5, h⟩ := s
    dsimp only [Sum.elim_inl, Sum.elim_inr, jt2, jt3, jt4, jt5, jt6, jt7, jt8] at hs
    obtain ⟨q0, q1, fr⟩ := hs
    unfold gX14_piece_b64
    refine OK_jt2 ?_
    have C5 : h i1 5 = (l.length : Int) := by { rw [fr _ _ (by omega)]; exact cn }
    refine OK_if (fun c1 => ?_) (fun c1 => ?_)
    · skip
      try simp (disch := omega) only [jst_eq, jst_ne, jst_ni, jI_i, jcmp_lt, jcmp_gt, w32_id, jcpy_out, Sum.elim_inl, Sum.elim_inr, jt2, jt3, jt4, jt5, jt6, jt7, jt8] at c1
      refine OK_ir ?_
      try dsimp only [Sum.elim_inl, Sum.elim_inr, jt2, jt3, jt4, jt5, jt6, jt7, jt8]
      refine ⟨?_, ?_⟩
      · (refine ⟨q1.1, ?_⟩; rw [q1.2]; have e : l.take a5.toNat = l.take 12 := (by rw [List.take_of_length_le (show l.length ≤ 12 by omega), List.take_of_length_le (by omega)]); rw [e]) -- o1 e1.1
      · exact fr -- o2 e1.2
    · skip
      try simp (disch := omega) only [jst_eq, jst_ne, jst_ni, jI_i, jcmp_lt, jcmp_gt, w32_id, jcpy_out, Sum.elim_inl, Sum.elim_inr, jt2, jt3, jt4, jt5, jt6, jt7, jt8] at c1
      refine OK_if (fun c2 => ?_) (fun c2 => ?_)
      · skip
        try simp (disch := omega) only [jst_eq, jst_ne, jst_ni, jI_i, jcmp_lt, jcmp_gt, w32_id, jcpy_out, Sum.elim_inl, Sum.elim_inr, jt2, jt3, jt4, jt5, jt6, jt7, jt8] at c2
        refine OK_ir ?_
        try dsimp only [Sum.elim_inl, Sum.elim_inr, jt2, jt3, jt4, jt5, jt6, jt7, jt8]
        refine ⟨?_, ?_⟩
        · (refine ⟨q1.1, ?_⟩; rw [q1.2, show a5.toNat = 12 by omega]) -- o3 e2.1
        · exact fr -- o4 e2.2
      · skip
        try simp (disch := omega) only [jst_eq, jst_ne, jst_ni, jI_i, jcmp_lt, jcmp_gt, w32_id, jcpy_out, Sum.elim_inl, Sum.elim_inr, jt2, jt3, jt4, jt5, jt6, jt7, jt8] at c2
        obtain ⟨p, ep⟩ : ∃ p, l[a5.toNat]? = some p := ⟨l[a5.toNat]'(by omega), List.getElem?_eq_getElem (by omega)⟩
        have PS := ps a5.toNat (by omega) p ep
        rw [show ((a5.toNat : Nat) : Int) = a5 by omega] at PS
        have TK := dupK_tk (B := B) (n := n) (E := E) (q := q) ep
        obtain ⟨Y1, PU⟩ := pcS_h LA a4e xx ⟨pl.2.2.2.1, pl.2.2.2.2⟩ PS fr
        clear PS
        have EN : ∀ hh : AH, MK hh = cif (pcS B n E q p.1) (min (MK h) (i2 * 8 + 3)) (MK h) → MK hh = min (MK h0) (dupK B n E q (l.take (a5 + 1).toNat)) := fun hh e => by { rw [show (a5 + 1).toNat = a5.toNat + 1 by omega]; exact dupEN TK q1.2 (by rw [← pl.1]; exact e) mr.2 }
        refine OK_if (fun c3 => ?_) (fun c3 => ?_)
        · skip
          try simp (disch := omega) only [jst_eq, jst_ne, jst_ni, jI_i, jcmp_lt, jcmp_gt, w32_id, jcpy_out, Sum.elim_inl, Sum.elim_inr, jt2, jt3, jt4, jt5, jt6, jt7, jt8] at c3
          refine OK_mono (vX14_piece_j97_64 (P := pcS B n E q p.1) _ _ _ _ _ (by exact q1.1) (by omega) (by exact (PU (fun z => by omega)).1) (by exact (PU (fun z => by omega)).2.1) (by exact (PU (fun z => by omega)).2.2)) (fun r r1 => ?_)
          rcases r with r | r
          · skip
            have r2 := r1; clear r1; dsimp only [Sum.elim_inl, Sum.elim_inr] at r2
            obtain ⟨y1, y2⟩ := r
            try dsimp only [Sum.elim_inl, Sum.elim_inr, jt2, jt3, jt4, jt5, jt6, jt7, jt8] at r2
            obtain ⟨cc1, mk1, fr1⟩ := r2
            try simp (disch := omega) only [jst_eq, jst_ne, jst_ni, jI_i, jcmp_lt, jcmp_gt, w32_id, jcpy_out, Sum.elim_inl, Sum.elim_inr, jt2, jt3, jt4, jt5, jt6, jt7, jt8] at cc1
            try simp (disch := omega) only [jst_eq, jst_ne, jst_ni, jI_i, jcmp_lt, jcmp_gt, w32_id, jcpy_out, Sum.elim_inl, Sum.elim_inr, jt2, jt3, jt4, jt5, jt6, jt7, jt8] at mk1
            try simp (disch := omega) only [jst_eq, jst_ne, jst_ni, jI_i, jcmp_lt, jcmp_gt, w32_id, jcpy_out, Sum.elim_inl, Sum.elim_inr, jt2, jt3, jt4, jt5, jt6, jt7, jt8] at fr1
            try dsimp only [Sum.elim_inl, Sum.elim_inr, jt2, jt3, jt4, jt5, jt6, jt7, jt8]
            refine ⟨?_, ?_⟩
            · try dsimp only [Sum.elim_inl, Sum.elim_inr, jt2, jt3, jt4, jt5, jt6, jt7, jt8]
              refine ⟨?_, ?_, ?_⟩
              · omega -- o10 e3i.1
              · (rw [cc1]; exact ⟨mk1.1, EN _ mk1.2⟩) -- o11 e3i.2
              · exact fun b s y => (fr1 b s y).trans (fr b s y) -- o12 e3i.3
            · omega -- o13 e3m
          · skip
            have r3 := r1; clear r1; dsimp only [Sum.elim_inl, Sum.elim_inr] at r3
            try dsimp only [Sum.elim_inl, Sum.elim_inr, jt2, jt3, jt4, jt5, jt6, jt7, jt8] at r3
            have no2 := r3
            clear r3
            try simp (disch := omega) only [jst_eq, jst_ne, jst_ni, jI_i, jcmp_lt, jcmp_gt, w32_id, jcpy_out, Sum.elim_inl, Sum.elim_inr, jt2, jt3, jt4, jt5, jt6, jt7, jt8] at no2
            try dsimp only [Sum.elim_inl, Sum.elim_inr, jt2, jt3, jt4, jt5, jt6, jt7, jt8]
            exact absurd no2 (by decide) -- e4
        · skip
          try simp (disch := omega) only [jst_eq, jst_ne, jst_ni, jI_i, jcmp_lt, jcmp_gt, w32_id, jcpy_out, Sum.elim_inl, Sum.elim_inr, jt2, jt3, jt4, jt5, jt6, jt7, jt8] at c3
          refine OK_jg (by (first | assumption | omega | ((try dsimp only [jt2, jt3, jt4]); first | omega | (simp (disch := omega) only [jst_eq, jst_ne, jst_ni, jst_o, jI_i, jcpy_out, w32_id, jdiv_nn, jshr_k, jand_255] <;> first | done | omega | assumption)) | (intros; simp (disch := omega) only [jst_eq, jst_ne, jst_ni, jst_o, jI_i, jcpy_out, w32_id, jdiv_nn, *] <;> first | done | omega) | (intros; simp (disch := omega) only [jst_eq, jst_ne, jst_ni, jst_o, jI_i, jcpy_out, w32_id, jdiv_nn] at * <;> first | done | omega | assumption) | (intros; first | rfl | (exfalso; omega) | ((repeat' apply And.intro) <;> first | assumption | rfl | omega | trivial)))) ?_ -- o14
          refine OK_if (fun c4 => ?_) (fun c4 => ?_)
          · skip
            try simp (disch := omega) only [jst_eq, jst_ne, jst_ni, jI_i, jcmp_lt, jcmp_gt, w32_id, jcpy_out, Sum.elim_inl, Sum.elim_inr, jt2, jt3, jt4, jt5, jt6, jt7, jt8] at c4
            have YS : pcS B n E q p.1 := by { have z : pcA B n E q = pcA B n E p.1 := (by rw [← a4e, ← Y1]; exact c4); have nq : ¬ isVl B n q := (fun v => by have := pcA_v (E := E) v; omega); have nu : ¬ isVl B n p.1 := (fun v => by have := pcA_v (E := E) v; omega); exact Or.inr ⟨nq, nu, by omega, z⟩ }
            refine OK_mono (vX14_piece_j131_64 _ _ _ _ _ _ (by exact Or.inr rfl) (by exact q1.1) (by omega)) (fun r r4 => ?_)
            rcases r with r | r
            · skip
              have r5 := r4; clear r4; dsimp only [Sum.elim_inl, Sum.elim_inr] at r5
              obtain ⟨y3, y4⟩ := r
              try dsimp only [Sum.elim_inl, Sum.elim_inr, jt2, jt3, jt4, jt5, jt6, jt7, jt8] at r5
              obtain ⟨cc3, mk3, fr3⟩ := r5
              try simp (disch := omega) only [jst_eq, jst_ne, jst_ni, jI_i, jcmp_lt, jcmp_gt, w32_id, jcpy_out, Sum.elim_inl, Sum.elim_inr, jt2, jt3, jt4, jt5, jt6, jt7, jt8] at cc3
              try simp (disch := omega) only [jst_eq, jst_ne, jst_ni, jI_i, jcmp_lt, jcmp_gt, w32_id, jcpy_out, Sum.elim_inl, Sum.elim_inr, jt2, jt3, jt4, jt5, jt6, jt7, jt8] at mk3
              try simp (disch := omega) only [jst_eq, jst_ne, jst_ni, jI_i, jcmp_lt, jcmp_gt, w32_id, jcpy_out, Sum.elim_inl, Sum.elim_inr, jt2, jt3, jt4, jt5, jt6, jt7, jt8] at fr3
              try dsimp only [Sum.elim_inl, Sum.elim_inr, jt2, jt3, jt4, jt5, jt6, jt7, jt8]
              refine ⟨?_, ?_⟩
              · try dsimp only [Sum.elim_inl, Sum.elim_inr, jt2, jt3, jt4, jt5, jt6, jt7, jt8]
                refine ⟨?_, ?_, ?_⟩
                · omega -- o18 e5i.1
                · (rw [cc3]; exact ⟨mk3.1, EN _ (by rw [cif_p YS]; first | exact mk3.2 | exact mk3.2.trans (if_pos rfl))⟩) -- o19 e5i.2
                · exact fun b s y => (fr3 b s y).trans (fr b s y) -- o20 e5i.3
              · omega -- o21 e5m
            · skip
              have r6 := r4; clear r4; dsimp only [Sum.elim_inl, Sum.elim_inr] at r6
              try dsimp only [Sum.elim_inl, Sum.elim_inr, jt2, jt3, jt4, jt5, jt6, jt7, jt8] at r6
              have no4 := r6
              clear r6
              try simp (disch := omega) only [jst_eq, jst_ne, jst_ni, jI_i, jcmp_lt, jcmp_gt, w32_id, jcpy_out, Sum.elim_inl, Sum.elim_inr, jt2, jt3, jt4, jt5, jt6, jt7, jt8] at no4
              try dsimp only [Sum.elim_inl, Sum.elim_inr, jt2, jt3, jt4, jt5, jt6, jt7, jt8]
              exact absurd no4 (by decide) -- e6
          · skip
            try simp (disch := omega) only [jst_eq, jst_ne, jst_ni, jI_i, jcmp_lt, jcmp_gt, w32_id, jcpy_out, Sum.elim_inl, Sum.elim_inr, jt2, jt3, jt4, jt5, jt6, jt7, jt8] at c4
            refine OK_mono (vX14_piece_j97_64 (P := pcS B n E q p.1) _ _ _ _ _ (by exact q1.1) (by omega) (by exact (PU (fun z => c4 z.2)).1) (by exact (PU (fun z => c4 z.2)).2.1) (by exact (PU (fun z => c4 z.2)).2.2)) (fun r r7 => ?_)
            rcases r with r | r
            · skip
              have r8 := r7; clear r7; dsimp only [Sum.elim_inl, Sum.elim_inr] at r8
              obtain ⟨y5, y6⟩ := r
              try dsimp only [Sum.elim_inl, Sum.elim_inr, jt2, jt3, jt4, jt5, jt6, jt7, jt8] at r8
              obtain ⟨cc5, mk5, fr5⟩ := r8
              try simp (disch := omega) only [jst_eq, jst_ne, jst_ni, jI_i, jcmp_lt, jcmp_gt, w32_id, jcpy_out, Sum.elim_inl, Sum.elim_inr, jt2, jt3, jt4, jt5, jt6, jt7, jt8] at cc5
              try simp (disch := omega) only [jst_eq, jst_ne, jst_ni, jI_i, jcmp_lt, jcmp_gt, w32_id, jcpy_out, Sum.elim_inl, Sum.elim_inr, jt2, jt3, jt4, jt5, jt6, jt7, jt8] at mk5
              try simp (disch := omega) only [jst_eq, jst_ne, jst_ni, jI_i, jcmp_lt, jcmp_gt, w32_id, jcpy_out, Sum.elim_inl, Sum.elim_inr, jt2, jt3, jt4, jt5, jt6, jt7, jt8] at fr5
              try dsimp only [Sum.elim_inl, Sum.elim_inr, jt2, jt3, jt4, jt5, jt6, jt7, jt8]
              refine ⟨?_, ?_⟩
              · try dsimp only [Sum.elim_inl, Sum.elim_inr, jt2, jt3, jt4, jt5, jt6, jt7, jt8]
                refine ⟨?_, ?_, ?_⟩
                · omega -- o27 e7i.1
                · (rw [cc5]; exact ⟨mk5.1, EN _ mk5.2⟩) -- o28 e7i.2
                · exact fun b s y => (fr5 b s y).trans (fr b s y) -- o29 e7i.3
              · omega -- o30 e7m
            · skip
              have r9 := r7; clear r7; dsimp only [Sum.elim_inl, Sum.elim_inr] at r9
              try dsimp only [Sum.elim_inl, Sum.elim_inr, jt2, jt3, jt4, jt5, jt6, jt7, jt8] at r9
              have no6 := r9
              clear r9
              try simp (disch := omega) only [jst_eq, jst_ne, jst_ni, jI_i, jcmp_lt, jcmp_gt, w32_id, jcpy_out, Sum.elim_inl, Sum.elim_inr, jt2, jt3, jt4, jt5, jt6, jt7, jt8] at no6
              try dsimp only [Sum.elim_inl, Sum.elim_inr, jt2, jt3, jt4, jt5, jt6, jt7, jt8]
              exact absurd no6 (by decide) -- e8
  · try dsimp only [Sum.elim_inl, Sum.elim_inr, jt2, jt3, jt4, jt5, jt6, jt7, jt8]
    refine ⟨?_, ?_, ?_⟩
    · omega -- o31 init.1
    · (rw [h1]; exact ⟨mi, by (show MK h0 = min (MK h0) 1000000; omega)⟩) -- o32 init.2
    · exact fun _ _ _ => rfl -- o33 init.3
/-- a piece is kept -/
theorem vX14_piece_j205 (a1 : Int) (a3 : Int) (a4 : Int) (a5 : Int) {h : AH} {m : Int} (lo : isX16 a1) (m5 : h a1 5 = m ∧ 0 ≤ m ∧ m ≤ 5000) : OK (gX14_piece_j205 a1 a3 a4 a5 h) (fun r => jt2 r fun t h' => (t = 0) ∧ (h' a1 5 = m + 1 ∧ h' (a1 + 2) (min m 12) = a3 ∧ h' (a1 + 3) (min m 12) = a4 ∧ h' (a1 + 4) (min m 12) = a5) ∧ (∀ b s, ¬ (b = a1 ∧ s = 5) → ¬ (a1 + 2 ≤ b ∧ b ≤ a1 + 4 ∧ s = min m 12) → h' b s = h b s)) := by
  have LA : a1 = 476 ∨ a1 = 615 := lo
  unfold gX14_piece_j205
  refine OK_jlx (fun x41 ex41 => ?_)
  try simp (disch := omega) only [jst_eq, jst_ne, jst_ni, jI_i, jcmp_lt, jcmp_gt, w32_id, jcpy_out, Sum.elim_inl, Sum.elim_inr, jt2, jt3, jt4, jt5, jt6, jt7, jt8] at ex41
  have X41 : x41 = min m 12 := by { rw [ex41, m5.1] }
  refine OK_jg (by (first | assumption | omega | ((try dsimp only [jt2, jt3, jt4]); first | omega | (simp (disch := omega) only [jst_eq, jst_ne, jst_ni, jst_o, jI_i, jcpy_out, w32_id, jdiv_nn, jshr_k, jand_255] <;> first | done | omega | assumption)) | (intros; simp (disch := omega) only [jst_eq, jst_ne, jst_ni, jst_o, jI_i, jcpy_out, w32_id, jdiv_nn, *] <;> first | done | omega) | (intros; simp (disch := omega) only [jst_eq, jst_ne, jst_ni, jst_o, jI_i, jcpy_out, w32_id, jdiv_nn] at * <;> first | done | omega | assumption) | (intros; first | rfl | (exfalso; omega) | ((repeat' apply And.intro) <;> first | assumption | rfl | omega | trivial)))) ?_ -- o1
  refine OK_jl ?_
  refine OK_jl ?_
  refine OK_jl ?_
  refine OK_jl ?_
  refine OK_some ?_
  try dsimp only [Sum.elim_inl, Sum.elim_inr, jt2, jt3, jt4, jt5, jt6, jt7, jt8]
  try dsimp only [Sum.elim_inl, Sum.elim_inr, jt2, jt3, jt4, jt5, jt6, jt7, jt8]
  refine ⟨?_, ?_, ?_⟩
  · (first | assumption | omega | ((try dsimp only [jt2, jt3, jt4]); first | omega | (simp (disch := omega) only [jst_eq, jst_ne, jst_ni, jst_o, jI_i, jcpy_out, w32_id, jdiv_nn, jshr_k, jand_255] <;> first | done | omega | assumption)) | (intros; simp (disch := omega) only [jst_eq, jst_ne, jst_ni, jst_o, jI_i, jcpy_out, w32_id, jdiv_nn, *] <;> first | done | omega) | (intros; simp (disch := omega) only [jst_eq, jst_ne, jst_ni, jst_o, jI_i, jcpy_out, w32_id, jdiv_nn] at * <;> first | done | omega | assumption) | (intros; first | rfl | (exfalso; omega) | ((repeat' apply And.intro) <;> first | assumption | rfl | omega | trivial))) -- o2 e1.1
  · (rw [← X41]; refine ⟨?_, ?_, ?_, ?_⟩; { rw [jst_eq, jst_o (by omega), jst_o (by omega), jst_o (by omega), m5.1]; exact w32_id (by omega) (by omega) }; { rw [jst_o (by omega), jst_o (by omega), jst_o (by omega)]; exact jst_eq }; { rw [jst_o (by omega), jst_o (by omega)]; exact jst_eq }; { rw [jst_o (by omega)]; exact jst_eq }) -- o3 e1.2
  · (rw [← X41]; exact fun b s y1 y2 => (by rw [jst_o (by omega), jst_o (by omega), jst_o (by omega), jst_o (by omega)])) -- o4 e1.3
/-- what m has of a piece -/
def p5M (a m a3 a4 p2 : Int) (h : AH) : Prop := h a 5 = m + 1 ∧ h (a + 2) (min m 12) = a3 ∧ h (a + 3) (min m 12) = a4 ∧ h (a + 4) (min m 12) = p2
def frP5 (a m : Int) (h h' : AH) : Prop := ∀ b s, ¬ (b = 454 ∧ 26 ≤ s ∧ s ≤ 29) → ¬ (b = 472 ∧ (s = 6 ∨ s = 7)) → ¬ (b = a ∧ s = 5) → ¬ (a + 2 ≤ b ∧ b ≤ a + 4 ∧ s = min m 12) → h' b s = h b s
theorem vX14_piece_j150 (a1 : Int) (a3 : Int) (a4 : Int) {h : AH} {B : Int → Int} {n q u m : Int} (t : TM B n h) (hB : ∀ i, 0 ≤ i → i < n → 0 ≤ B i ∧ B i < 256) (ms : MS B n u h) (lo : isX16 a1) (m5 : h a1 5 = m ∧ 0 ≤ m ∧ m ≤ 5000) : OK (gX14_piece_j150 a1 a3 a4 h) (fun r => jt2 r fun t h' => (match pPq B n q u with | .inl z => t = 472 ∧ MF z h' | .inr (p, q1) => t = 0 ∧ MS B n q1 h' ∧ p5M a1 m a3 a4 p.2 h') ∧ (frP5 a1 m h h')) := by
  have LA : a1 = 476 ∨ a1 = 615 := lo
  unfold gX14_piece_j150
  refine OK_jb3 (vX14_skipSign (B := B) (n := n) (q := u) _ (by exact t) (by exact hB) (by exact ms)) (fun t26 v27 h28 r1 => ?_)
  try dsimp only [Sum.elim_inl, Sum.elim_inr, jt2, jt3, jt4, jt5, jt6, jt7, jt8] at r1
  obtain ⟨no1, r1, v11, fr1⟩ := r1
  try simp (disch := omega) only [jst_eq, jst_ne, jst_ni, jI_i, jcmp_lt, jcmp_gt, w32_id, jcpy_out, Sum.elim_inl, Sum.elim_inr, jt2, jt3, jt4, jt5, jt6, jt7, jt8] at no1
  try simp (disch := omega) only [jst_eq, jst_ne, jst_ni, jI_i, jcmp_lt, jcmp_gt, w32_id, jcpy_out, Sum.elim_inl, Sum.elim_inr, jt2, jt3, jt4, jt5, jt6, jt7, jt8] at r1
  try simp (disch := omega) only [jst_eq, jst_ne, jst_ni, jI_i, jcmp_lt, jcmp_gt, w32_id, jcpy_out, Sum.elim_inl, Sum.elim_inr, jt2, jt3, jt4, jt5, jt6, jt7, jt8] at v11
  try simp (disch := omega) only [jst_eq, jst_ne, jst_ni, jI_i, jcmp_lt, jcmp_gt, w32_id, jcpy_out, Sum.elim_inl, Sum.elim_inr, jt2, jt3, jt4, jt5, jt6, jt7, jt8] at fr1
  refine OK_jq (fun c1 => ?_) (fun c1 => ?_)
  · skip
    refine OK_some ?_
    try dsimp only [Sum.elim_inl, Sum.elim_inr, jt2, jt3, jt4, jt5, jt6, jt7, jt8]
    try dsimp only [Sum.elim_inl, Sum.elim_inr, jt2, jt3, jt4, jt5, jt6, jt7, jt8]
    refine ⟨?_, ?_⟩
    · (have g : isSg B n u 58 := Classical.byContradiction (fun z => c1 (no1 z).1); obtain ⟨z, e, t1, mf⟩ := rM_l (r1 g) c1; have e2 : pPq B n q u = .inl z := (if_pos g).trans (by rw [e]; rfl); rw [e2]; exact ⟨t1, mf⟩) -- o4 e1.1
    · exact fun b s y1 y2 _ _ => fr1 b s y1 y2 -- o5 e1.2
  · skip
    refine OK_if (fun c2 => ?_) (fun c2 => ?_)
    · skip
      try simp (disch := omega) only [jst_eq, jst_ne, jst_ni, jI_i, jcmp_lt, jcmp_gt, w32_id, jcpy_out, Sum.elim_inl, Sum.elim_inr, jt2, jt3, jt4, jt5, jt6, jt7, jt8] at c2
      have g : ¬ isSg B n u 58 := fun z => by { have := v11 z c1; omega }
      have H28 : h28 = h := (no1 g).2.2
      refine OK_mono (vX14_piece_j205 _ _ _ _ (by exact lo) (by (rw [H28]; exact m5))) (fun r r2 => ?_)
      obtain ⟨y1, y2⟩ := r
      try dsimp only [Sum.elim_inl, Sum.elim_inr, jt2, jt3, jt4, jt5, jt6, jt7, jt8] at r2
      obtain ⟨t02, v2, fr2⟩ := r2
      try simp (disch := omega) only [jst_eq, jst_ne, jst_ni, jI_i, jcmp_lt, jcmp_gt, w32_id, jcpy_out, Sum.elim_inl, Sum.elim_inr, jt2, jt3, jt4, jt5, jt6, jt7, jt8] at t02
      try simp (disch := omega) only [jst_eq, jst_ne, jst_ni, jI_i, jcmp_lt, jcmp_gt, w32_id, jcpy_out, Sum.elim_inl, Sum.elim_inr, jt2, jt3, jt4, jt5, jt6, jt7, jt8] at v2
      try simp (disch := omega) only [jst_eq, jst_ne, jst_ni, jI_i, jcmp_lt, jcmp_gt, w32_id, jcpy_out, Sum.elim_inl, Sum.elim_inr, jt2, jt3, jt4, jt5, jt6, jt7, jt8] at fr2
      try dsimp only [Sum.elim_inl, Sum.elim_inr, jt2, jt3, jt4, jt5, jt6, jt7, jt8]
      try dsimp only [Sum.elim_inl, Sum.elim_inr, jt2, jt3, jt4, jt5, jt6, jt7, jt8]
      refine ⟨?_, ?_⟩
      · (have e2 : pPq B n q u = .inr ((q, 1), u) := if_neg g; rw [e2]; exact ⟨t02, MS_fr ms (fun s s0 s1 => (fr2 454 s (by omega) (by omega)).trans (by rw [H28])), v2⟩) -- o8 e2.1
      · exact fun b s y1 y2 y3 y4 => (fr2 b s y3 y4).trans (by rw [H28]) -- o9 e2.2
    · skip
      try simp (disch := omega) only [jst_eq, jst_ne, jst_ni, jI_i, jcmp_lt, jcmp_gt, w32_id, jcpy_out, Sum.elim_inl, Sum.elim_inr, jt2, jt3, jt4, jt5, jt6, jt7, jt8] at c2
      have g : isSg B n u 58 := Classical.byContradiction (fun z => c2 (no1 z).2.1)
      obtain ⟨w, ew, ms2⟩ := rM_r (r1 g) c1
      have PQ2 : pPq B n q u = pPr B n q w := (if_pos g).trans (by rw [ew]; rfl)
      have O2 : h28 454 27 = tO B n w := ms2.1.2.1
      have V2 : tO B n w ≠ 0 → h28 454 28 = tV B n w := ms2.1.2.2.2
      have S2 : h28 454 29 = tS B n w := ms2.1.1
      refine OK_if (fun c3 => ?_) (fun c3 => ?_)
      · skip
        try simp (disch := omega) only [jst_eq, jst_ne, jst_ni, jI_i, jcmp_lt, jcmp_gt, w32_id, jcpy_out, Sum.elim_inl, Sum.elim_inr, jt2, jt3, jt4, jt5, jt6, jt7, jt8] at c3
        refine OK_jb (vX14_in _ _ _) (fun v33 r3 => ?_)
        try dsimp only [Sum.elim_inl, Sum.elim_inr, jt2, jt3, jt4, jt5, jt6, jt7, jt8] at r3
        have v3 := r3
        clear r3
        try simp (disch := omega) only [jst_eq, jst_ne, jst_ni, jI_i, jcmp_lt, jcmp_gt, w32_id, jcpy_out, Sum.elim_inl, Sum.elim_inr, jt2, jt3, jt4, jt5, jt6, jt7, jt8] at v3
        refine OK_if (fun c4 => ?_) (fun c4 => ?_)
        · skip
          try simp (disch := omega) only [jst_eq, jst_ne, jst_ni, jI_i, jcmp_lt, jcmp_gt, w32_id, jcpy_out, Sum.elim_inl, Sum.elim_inr, jt2, jt3, jt4, jt5, jt6, jt7, jt8] at c4
          have NG : ¬ (tO B n w = 2 ∧ 1 ≤ tV B n w ∧ tV B n w ≤ 9) := fun z => by { have := V2 (by omega); rcases v3 with y | y; { omega }; { omega } }
          unfold gX14_piece_j184
          refine OK_jb2 (vX14_fail _ _) (fun v47 h48 r4 => ?_)
          try dsimp only [Sum.elim_inl, Sum.elim_inr, jt2, jt3, jt4, jt5, jt6, jt7, jt8] at r4
          obtain ⟨fv4, fh4⟩ := r4
          try simp (disch := omega) only [jst_eq, jst_ne, jst_ni, jI_i, jcmp_lt, jcmp_gt, w32_id, jcpy_out, Sum.elim_inl, Sum.elim_inr, jt2, jt3, jt4, jt5, jt6, jt7, jt8] at fv4
          try simp (disch := omega) only [jst_eq, jst_ne, jst_ni, jI_i, jcmp_lt, jcmp_gt, w32_id, jcpy_out, Sum.elim_inl, Sum.elim_inr, jt2, jt3, jt4, jt5, jt6, jt7, jt8] at fh4
          refine OK_jg (by (first | assumption | omega | ((try dsimp only [jt2, jt3, jt4]); first | omega | (simp (disch := omega) only [jst_eq, jst_ne, jst_ni, jst_o, jI_i, jcpy_out, w32_id, jdiv_nn, jshr_k, jand_255] <;> first | done | omega | assumption)) | (intros; simp (disch := omega) only [jst_eq, jst_ne, jst_ni, jst_o, jI_i, jcpy_out, w32_id, jdiv_nn, *] <;> first | done | omega) | (intros; simp (disch := omega) only [jst_eq, jst_ne, jst_ni, jst_o, jI_i, jcpy_out, w32_id, jdiv_nn] at * <;> first | done | omega | assumption) | (intros; first | rfl | (exfalso; omega) | ((repeat' apply And.intro) <;> first | assumption | rfl | omega | trivial)))) ?_ -- o10
          refine OK_some ?_
          try dsimp only [Sum.elim_inl, Sum.elim_inr, jt2, jt3, jt4, jt5, jt6, jt7, jt8]
          try dsimp only [Sum.elim_inl, Sum.elim_inr, jt2, jt3, jt4, jt5, jt6, jt7, jt8]
          refine ⟨?_, ?_⟩
          · (have e2 : pPq B n q u = .inl (tS B n w) := PQ2.trans (if_neg NG); rw [e2]; refine ⟨rfl, ?_, ?_⟩; { rw [fh4]; (try simp (disch := omega) only [jst_eq, jst_ne, jst_ni, jI_i, jcmp_lt, jcmp_gt, w32_id, jcpy_out, Sum.elim_inl, Sum.elim_inr, jt2, jt3, jt4, jt5, jt6, jt7, jt8]) }; { rw [fh4, jst_eq]; exact S2 }) -- o11 e3.1
          · (rw [fh4]; exact fun b s y1 y2 _ _ => (by rw [jst_o (by omega), jst_o (by omega)]; exact fr1 b s y1 y2)) -- o12 e3.2
        · skip
          try simp (disch := omega) only [jst_eq, jst_ne, jst_ni, jI_i, jcmp_lt, jcmp_gt, w32_id, jcpy_out, Sum.elim_inl, Sum.elim_inr, jt2, jt3, jt4, jt5, jt6, jt7, jt8] at c4
          have YG : tO B n w = 2 ∧ 1 ≤ tV B n w ∧ tV B n w ≤ 9 := by { have e := V2 (by omega); rcases v3 with y | y; { omega }; { omega } }
          refine OK_jlx (fun x35 ex35 => ?_)
          try simp (disch := omega) only [jst_eq, jst_ne, jst_ni, jI_i, jcmp_lt, jcmp_gt, w32_id, jcpy_out, Sum.elim_inl, Sum.elim_inr, jt2, jt3, jt4, jt5, jt6, jt7, jt8] at ex35
          have X35 : x35 = tV B n w := by { rw [ex35, V2 (by omega)] <;> exact w32_id (by omega) (by omega) }
          have PQ3 : pPq B n q u = bS (nx B n w) fun q3 => .inr ((q, tV B n w), q3) := PQ2.trans (if_pos YG)
          refine OK_jb2 (vX14_nextS (by exact TM_fr t (fr1 _ _ (by omega) (by omega)) (fun s => fr1 _ _ (by omega) (by omega))) (by exact hB) (by exact ms2)) (fun t37 h39 r5 => ?_)
          try dsimp only [Sum.elim_inl, Sum.elim_inr, jt2, jt3, jt4, jt5, jt6, jt7, jt8] at r5
          obtain ⟨nx5, fr5⟩ := r5
          try simp (disch := omega) only [jst_eq, jst_ne, jst_ni, jI_i, jcmp_lt, jcmp_gt, w32_id, jcpy_out, Sum.elim_inl, Sum.elim_inr, jt2, jt3, jt4, jt5, jt6, jt7, jt8] at nx5
          try simp (disch := omega) only [jst_eq, jst_ne, jst_ni, jI_i, jcmp_lt, jcmp_gt, w32_id, jcpy_out, Sum.elim_inl, Sum.elim_inr, jt2, jt3, jt4, jt5, jt6, jt7, jt8] at fr5
          refine OK_jq (fun c5 => ?_) (fun c5 => ?_)
          · skip
            refine OK_some ?_
            try dsimp only [Sum.elim_inl, Sum.elim_inr, jt2, jt3, jt4, jt5, jt6, jt7, jt8]
            try dsimp only [Sum.elim_inl, Sum.elim_inr, jt2, jt3, jt4, jt5, jt6, jt7, jt8]
            refine ⟨?_, ?_⟩
            · (obtain ⟨z, e, t1, mf⟩ := rM_l nx5 c5; rw [PQ3, e]; exact ⟨t1, mf⟩) -- o16 e4.1
            · exact fun b s y1 y2 _ _ => (fr5 b s y1 y2).trans (fr1 b s y1 y2) -- o17 e4.2
          · skip
            obtain ⟨w2, ew2, ms3⟩ := rM_r nx5 c5
            refine OK_mono (vX14_piece_j205 _ _ _ _ (by exact lo) (by (rw [fr5 _ _ (by omega) (by omega), fr1 _ _ (by omega) (by omega)]; exact m5))) (fun r r6 => ?_)
            obtain ⟨y3, y4⟩ := r
            try dsimp only [Sum.elim_inl, Sum.elim_inr, jt2, jt3, jt4, jt5, jt6, jt7, jt8] at r6
            obtain ⟨t06, v6, fr6⟩ := r6
            try simp (disch := omega) only [jst_eq, jst_ne, jst_ni, jI_i, jcmp_lt, jcmp_gt, w32_id, jcpy_out, Sum.elim_inl, Sum.elim_inr, jt2, jt3, jt4, jt5, jt6, jt7, jt8] at t06
            try simp (disch := omega) only [jst_eq, jst_ne, jst_ni, jI_i, jcmp_lt, jcmp_gt, w32_id, jcpy_out, Sum.elim_inl, Sum.elim_inr, jt2, jt3, jt4, jt5, jt6, jt7, jt8] at v6
            try simp (disch := omega) only [jst_eq, jst_ne, jst_ni, jI_i, jcmp_lt, jcmp_gt, w32_id, jcpy_out, Sum.elim_inl, Sum.elim_inr, jt2, jt3, jt4, jt5, jt6, jt7, jt8] at fr6
            try dsimp only [Sum.elim_inl, Sum.elim_inr, jt2, jt3, jt4, jt5, jt6, jt7, jt8]
            try dsimp only [Sum.elim_inl, Sum.elim_inr, jt2, jt3, jt4, jt5, jt6, jt7, jt8]
            refine ⟨?_, ?_⟩
            · (rw [PQ3, ew2]; exact ⟨t06, MS_fr ms3 (fun s s0 s1 => fr6 454 s (by omega) (by omega)), by rw [← X35]; exact v6⟩) -- o20 e5.1
            · exact fun b s y1 y2 y3 y4 => (fr6 b s y3 y4).trans ((fr5 b s y1 y2).trans (fr1 b s y1 y2)) -- o21 e5.2
      · skip
        try simp (disch := omega) only [jst_eq, jst_ne, jst_ni, jI_i, jcmp_lt, jcmp_gt, w32_id, jcpy_out, Sum.elim_inl, Sum.elim_inr, jt2, jt3, jt4, jt5, jt6, jt7, jt8] at c3
        unfold gX14_piece_j184
        refine OK_jb2 (vX14_fail _ _) (fun v47 h48 r7 => ?_)
        try dsimp only [Sum.elim_inl, Sum.elim_inr, jt2, jt3, jt4, jt5, jt6, jt7, jt8] at r7
        obtain ⟨fv7, fh7⟩ := r7
        try simp (disch := omega) only [jst_eq, jst_ne, jst_ni, jI_i, jcmp_lt, jcmp_gt, w32_id, jcpy_out, Sum.elim_inl, Sum.elim_inr, jt2, jt3, jt4, jt5, jt6, jt7, jt8] at fv7
        try simp (disch := omega) only [jst_eq, jst_ne, jst_ni, jI_i, jcmp_lt, jcmp_gt, w32_id, jcpy_out, Sum.elim_inl, Sum.elim_inr, jt2, jt3, jt4, jt5, jt6, jt7, jt8] at fh7
        refine OK_jg (by (first | assumption | omega | ((try dsimp only [jt2, jt3, jt4]); first | omega | (simp (disch := omega) only [jst_eq, jst_ne, jst_ni, jst_o, jI_i, jcpy_out, w32_id, jdiv_nn, jshr_k, jand_255] <;> first | done | omega | assumption)) | (intros; simp (disch := omega) only [jst_eq, jst_ne, jst_ni, jst_o, jI_i, jcpy_out, w32_id, jdiv_nn, *] <;> first | done | omega) | (intros; simp (disch := omega) only [jst_eq, jst_ne, jst_ni, jst_o, jI_i, jcpy_out, w32_id, jdiv_nn] at * <;> first | done | omega | assumption) | (intros; first | rfl | (exfalso; omega) | ((repeat' apply And.intro) <;> first | assumption | rfl | omega | trivial)))) ?_ -- o22
        refine OK_some ?_
        try dsimp only [Sum.elim_inl, Sum.elim_inr, jt2, jt3, jt4, jt5, jt6, jt7, jt8]
        try dsimp only [Sum.elim_inl, Sum.elim_inr, jt2, jt3, jt4, jt5, jt6, jt7, jt8]
        refine ⟨?_, ?_⟩
        · (have NG : ¬ (tO B n w = 2 ∧ 1 ≤ tV B n w ∧ tV B n w ≤ 9) := (fun z => by omega); have e2 : pPq B n q u = .inl (tS B n w) := PQ2.trans (if_neg NG); rw [e2]; refine ⟨rfl, ?_, ?_⟩; { rw [fh7]; (try simp (disch := omega) only [jst_eq, jst_ne, jst_ni, jI_i, jcmp_lt, jcmp_gt, w32_id, jcpy_out, Sum.elim_inl, Sum.elim_inr, jt2, jt3, jt4, jt5, jt6, jt7, jt8]) }; { rw [fh7, jst_eq]; exact S2 }) -- o23 e6.1
        · (rw [fh7]; exact fun b s y1 y2 _ _ => (by rw [jst_o (by omega), jst_o (by omega)]; exact fr1 b s y1 y2)) -- o24 e6.2
/-- what is known of pieces at m's reader -/
def pcQM (B : Int → Int) (n a D : Int) (E : EV) (l : List (Int × Int)) (h : AH) : Prop := TM B n h ∧ MI h ∧ actM h E ∧ (isX16 a ∧ h a 5 = (l.length : Int) ∧ l.length ≤ 2001) ∧ (0 ≤ D ∧ D ≤ h 454 17 ∧ h 454 17 < 8800) ∧ pcsM B n E h a D (h 454 17) l
/-- what m's reader of a piece may change -/
def frPm (a D : Int) (h h' : AH) : Prop := ∀ b s, ¬ (b = 454 ∧ (s = 17 ∨ (26 ≤ s ∧ s ≤ 31))) → ¬ (b = 472 ∧ (s = 6 ∨ s = 7)) → ¬ (460 ≤ b ∧ b ≤ 469 ∧ b ≠ 464 ∧ D ≤ s ∧ s < D + 1100) → ¬ (b = a ∧ s = 5) → ¬ (a + 2 ≤ b ∧ b ≤ a + 4 ∧ 0 ≤ s ∧ s ≤ 12) → h' b s = h b s
def poM (B : Int → Int) (n a D N : Int) (E : EV) (l : List (Int × Int)) (K : Int) (P : Int ⊕ ((Int × Int) × Int)) (t : Int) (h' : AH) : Prop := match P with
  | .inl z => t = 472 ∧ MF z h'
  | .inr (p, q1) => t = 0 ∧ MS B n q1 h' ∧ MI h' ∧ MK h' = min K (pk1 B n E l p.1) ∧ pcsM B n E h' a D (h' 454 17) (l ++ [p]) ∧ h' a 5 = ((l.length + 1 : Nat) : Int) ∧ N ≤ h' 454 17 ∧ h' 454 17 ≤ N + 1
theorem pcsM_a {B : Int → Int} {n a D N N' : Int} {E : EV} {h h' : AH} {l : List (Int × Int)} {p : Int × Int} (LA : a = 476 ∨ a = 615) (NN : 0 ≤ D ∧ N ≤ N') (x : pcsM B n E h a D N l) (f : ∀ b s, (b = a + 2 ∨ b = a + 3 ∨ b = a + 4) → 0 ≤ s → s < 12 → s ≠ (l.length : Int) → h' b s = h b s) (g : ∀ b s, (b = 460 ∨ b = 461 ∨ b = 462 ∨ b = 465 ∨ b = 466) → D ≤ s → s < N → h' b s = h b s) (v : l.length < 12 → h' (a + 3) l.length = pcA B n E p.1 ∧ h' (a + 4) l.length = p.2 ∧ ((isVl B n p.1 ∧ vnM B n p.1 (h' (a + 2) l.length) D N' h') ∨ (¬ isVl B n p.1 ∧ h' (a + 2) l.length = -1))) : pcsM B n E h' a D N' (l ++ [p]) := fun i i12 u eu => by
  rcases app_ixg eu with ⟨y1, y2⟩ | ⟨y1, y2⟩
  · obtain ⟨z1, z2, z3⟩ := x i i12 u y2
    rw [f (a + 3) i (by omega) (by omega) (by omega) (by omega), f (a + 4) i (by omega) (by omega) (by omega) (by omega), f (a + 2) i (by omega) (by omega) (by omega) (by omega)]
    refine ⟨z1, z2, ?_⟩
    rcases z3 with z | z
    · obtain ⟨w1, w2, w3, w4, w5⟩ := z.2
      exact Or.inl ⟨z.1, ⟨w1.1, by omega⟩, by rw [g _ _ (by omega) w1.1 w1.2]; exact w2, by rw [g _ _ (by omega) w1.1 w1.2]; exact w3, by rw [g _ _ (by omega) w1.1 w1.2]; exact w4, by rw [g _ _ (by omega) w1.1 w1.2, g _ _ (by omega) w1.1 w1.2]; exact w5⟩
    · exact Or.inr z
  · rw [y2, y1]; exact v (by omega)
theorem pPq_q {B : Int → Int} {n q u q1 : Int} {p : Int × Int} (w : pPq B n q u = .inr (p, q1)) : p.1 = q := by
  unfold pPq at w
  by_cases g : isSg B n u 58
  · rw [if_pos g] at w
    obtain ⟨v, e1, w⟩ := bS_r w
    unfold pPr at w
    by_cases c : tO B n v = 2 ∧ 1 ≤ tV B n v ∧ tV B n v ≤ 9
    · rw [if_pos c] at w
      obtain ⟨z, e2, w⟩ := bS_r w
      cases w; rfl
    · rw [if_neg c] at w; cases w
  · rw [if_neg g] at w; cases w; rfl
theorem vX14_piece_j61 (a1 : Int) (a2 : Int) (a3 : Int) (a4 : Int) {h : AH} {B : Int → Int} {n q u D N : Int} {E : EV} {l : List (Int × Int)} (hB : ∀ i, 0 ≤ i → i < n → 0 ≤ B i ∧ B i < 256) (t : TM B n h) (mi : MI h) (lo : isX16 a1 ∧ h a1 5 = (l.length : Int) ∧ l.length ≤ 2001) (dn : 0 ≤ D ∧ D ≤ N ∧ N ≤ h 454 17 ∧ h 454 17 ≤ N + 1 ∧ h 454 17 < 8800) (ps : pcsM B n E h a1 D N l) (pl : a2 = tS B n q ∧ 0 ≤ a2 ∧ a2 ≤ 2001) (a4e : a4 = pcA B n E q) (xx : xxM B n q D (h 454 17) h a3) (ms : MS B n u h) : OK (gX14_piece_j61 a1 a2 a3 a4 h) (fun r => jt2 r fun t h' => (match pPq B n q u with | .inl z => t = 472 ∧ MF z h' | .inr (p, q1) => t = 0 ∧ MS B n q1 h' ∧ MI h' ∧ MK h' = min (MK h) (dupK B n E p.1 (l.take 12)) ∧ pcsM B n E h' a1 D (h' 454 17) (l ++ [p]) ∧ h' a1 5 = ((l.length + 1 : Nat) : Int) ∧ N ≤ h' 454 17 ∧ h' 454 17 ≤ N + 1) ∧ (frPm a1 D h h')) := by
  have LA : a1 = 476 ∨ a1 = 615 := lo.1
  have PS2 : pcsM B n E h a1 D (h 454 17) l := fun i i12 p ep => by { obtain ⟨z1, z2, z3⟩ := ps i i12 p ep; refine ⟨z1, z2, ?_⟩; rcases z3 with z | z; { exact Or.inl ⟨z.1, ⟨z.2.1.1, by have := z.2.1.2; omega⟩, z.2.2⟩ }; { exact Or.inr z } }
  unfold gX14_piece_j61
  refine OK_jb (vX14_piece_l64 (B := B) (n := n) (q := q) (D := D) (N := h 454 17) (E := E) (l := l) _ _ _ _ _ (by exact lo.1) (by exact mi) (by exact PS2) (by exact lo.2.1) (by omega) (by exact a4e) (by exact xx) (by rfl)) (fun o23 r1 => ?_)
  try dsimp only [Sum.elim_inl, Sum.elim_inr, jt2, jt3, jt4, jt5, jt6, jt7, jt8] at r1
  obtain ⟨mk1, fr1⟩ := r1
  try simp (disch := omega) only [jst_eq, jst_ne, jst_ni, jI_i, jcmp_lt, jcmp_gt, w32_id, jcpy_out, Sum.elim_inl, Sum.elim_inr, jt2, jt3, jt4, jt5, jt6, jt7, jt8] at mk1
  try simp (disch := omega) only [jst_eq, jst_ne, jst_ni, jI_i, jcmp_lt, jcmp_gt, w32_id, jcpy_out, Sum.elim_inl, Sum.elim_inr, jt2, jt3, jt4, jt5, jt6, jt7, jt8] at fr1
  refine OK_mono (vX14_piece_j150 (B := B) (n := n) (q := q) (u := u) (m := (l.length : Int)) _ _ _ (by exact TM_fr t (fr1 _ _ (by omega)) (fun s => fr1 _ _ (by omega))) (by exact hB) (by exact MS_fr ms (fun s s0 s1 => fr1 _ _ (by omega))) (by exact lo.1) (by exact ⟨by rw [fr1 _ _ (by omega)]; exact lo.2.1, by omega, by omega⟩)) (fun r r2 => ?_)
  obtain ⟨y1, y2⟩ := r
  try dsimp only [Sum.elim_inl, Sum.elim_inr, jt2, jt3, jt4, jt5, jt6, jt7, jt8] at r2
  obtain ⟨ok2, fr2⟩ := r2
  try simp (disch := omega) only [jst_eq, jst_ne, jst_ni, jI_i, jcmp_lt, jcmp_gt, w32_id, jcpy_out, Sum.elim_inl, Sum.elim_inr, jt2, jt3, jt4, jt5, jt6, jt7, jt8] at ok2
  try simp (disch := omega) only [jst_eq, jst_ne, jst_ni, jI_i, jcmp_lt, jcmp_gt, w32_id, jcpy_out, Sum.elim_inl, Sum.elim_inr, jt2, jt3, jt4, jt5, jt6, jt7, jt8] at fr2
  try dsimp only [Sum.elim_inl, Sum.elim_inr, jt2, jt3, jt4, jt5, jt6, jt7, jt8]
  have F2 : ∀ b s, ¬ (b = 454 ∧ 26 ≤ s ∧ s ≤ 29) → ¬ (b = 472 ∧ (s = 6 ∨ s = 7)) → ¬ (b = a1 ∧ s = 5) → ¬ (a1 + 2 ≤ b ∧ b ≤ a1 + 4 ∧ s = min (l.length : Int) 12) → y2 b s = o23 b s := fr2
  try dsimp only [Sum.elim_inl, Sum.elim_inr, jt2, jt3, jt4, jt5, jt6, jt7, jt8]
  refine ⟨?_, ?_⟩
  · (cases e : pPq B n q u with | inl z => (rw [e] at ok2; exact ok2) | inr x => (obtain ⟨p, q1⟩ := x; rw [e] at ok2; obtain ⟨o1, o2, o3, o4, o5, o6⟩ := ok2; have pe := pPq_q e; refine ⟨o1, o2, MI_fr (F2 _ _ (by omega) (by omega) (by omega) (by omega)) (F2 _ _ (by omega) (by omega) (by omega) (by omega)) mk1.1, ?_, ?_, by rw [o3]; rfl, by rw [F2 _ _ (by omega) (by omega) (by omega) (by omega), fr1 _ _ (by omega)]; omega, by rw [F2 _ _ (by omega) (by omega) (by omega) (by omega), fr1 _ _ (by omega)]; omega⟩; { rw [MK_fr (F2 _ _ (by omega) (by omega) (by omega) (by omega)) (F2 _ _ (by omega) (by omega) (by omega) (by omega)), mk1.2, pe] }; { refine pcsM_a LA ⟨dn.1, by rw [F2 _ _ (by omega) (by omega) (by omega) (by omega), fr1 _ _ (by omega)]; omega⟩ PS2 (fun b s y1 s0 s1 s2 => by rw [F2 b s (by omega) (by omega) (by omega) (by omega)]; exact fr1 _ _ (by omega)) (fun b s y1 s0 s1 => by rw [F2 b s (by omega) (by omega) (by omega) (by omega)]; exact fr1 _ _ (by omega)) (fun lt => ?_); rw [show min (l.length : Int) 12 = (l.length : Int) by omega] at o4 o5 o6; refine ⟨by rw [o5, a4e, pe], o6, ?_⟩; rw [o4, pe]; rcases xx with z | z; { obtain ⟨w1, w2, w3, w4, w5⟩ := z.2; exact Or.inl ⟨z.1, ⟨w1.1, by rw [F2 _ _ (by omega) (by omega) (by omega) (by omega), fr1 _ _ (by omega)]; exact w1.2⟩, by rw [F2 _ _ (by omega) (by omega) (by omega) (by omega), fr1 _ _ (by omega)]; exact w2, by rw [F2 _ _ (by omega) (by omega) (by omega) (by omega), fr1 _ _ (by omega)]; exact w3, by rw [F2 _ _ (by omega) (by omega) (by omega) (by omega), fr1 _ _ (by omega)]; exact w4, by rw [F2 _ _ (by omega) (by omega) (by omega) (by omega), fr1 _ _ (by omega), F2 _ _ (by omega) (by omega) (by omega) (by omega), fr1 _ _ (by omega)]; exact w5⟩ }; { exact Or.inr z } })) -- o14 e1.1
  · exact fun b s y1 y2 y3 y4 y5 => (F2 b s (by omega) y2 y4 (by omega)).trans (fr1 b s (by omega)) -- o15 e1.2
def poJ (B : Int → Int) (n a D N : Int) (E : EV) (l : List (Int × Int)) (K : Int) (P : Int ⊕ ((Int × Int) × Int)) (t : Int) (h' : AH) : Prop := match P with
  | .inl z => t = 472 ∧ MF z h'
  | .inr (p, q1) => t = 0 ∧ MS B n q1 h' ∧ MI h' ∧ MK h' = min K (dupK B n E p.1 (l.take 12)) ∧ pcsM B n E h' a D (h' 454 17) (l ++ [p]) ∧ h' a 5 = ((l.length + 1 : Nat) : Int) ∧ N ≤ h' 454 17 ∧ h' 454 17 ≤ N + 1
theorem pcsM_f {B : Int → Int} {n a D N : Int} {E : EV} {h h' : AH} {l : List (Int × Int)} (x : pcsM B n E h a D N l) (f : ∀ b s, ((a + 2 ≤ b ∧ b ≤ a + 4) ∨ ((b = 460 ∨ b = 461 ∨ b = 462 ∨ b = 465 ∨ b = 466) ∧ D ≤ s ∧ s < N)) → h' b s = h b s) : pcsM B n E h' a D N l := fun i i12 u eu => by
  obtain ⟨z1, z2, z3⟩ := x i i12 u eu
  rw [f (a + 3) i (by omega), f (a + 4) i (by omega), f (a + 2) i (by omega)]
  refine ⟨z1, z2, ?_⟩
  rcases z3 with z | z
  · obtain ⟨w1, w2, w3, w4, w5⟩ := z.2
    exact Or.inl ⟨z.1, w1, by rw [f _ _ (by omega)]; exact w2, by rw [f _ _ (by omega)]; exact w3, by rw [f _ _ (by omega)]; exact w4, by rw [f _ _ (by omega), f _ _ (by omega)]; exact w5⟩
  · exact Or.inr z
theorem vX14_piece_j20 (a1 : Int) (a2 : Int) {h : AH} {B : Int → Int} {n q D : Int} {E : EV} {l : List (Int × Int)} (hB : ∀ i, 0 ≤ i → i < n → 0 ≤ B i ∧ B i < 256) (pc : pcQM B n a1 D E l h) (ms : MS B n q h) (pl : a2 = tS B n q) (rm : h 454 17 + 1 ≤ D + 1100 ∧ D ≤ 1100) : OK (gX14_piece_j20 a1 a2 h) (fun r => jt2 r fun t h' => (poJ B n a1 D (h 454 17) E l (min (MK h) (if ¬ isVl B n q ∧ pcA B n E q = -1 then tS B n q * 8 + 2 else 1000000)) (pPc B n q) t h') ∧ (frPm a1 D h h')) := by
  obtain ⟨x1, x2, x3, ⟨x4, x5, x6⟩, ⟨x7, x8, x9⟩, x10⟩ := pc
  have LA : a1 = 476 ∨ a1 = 615 := x4
  have SR := tS_r (B := B) ms.2.2.2
  have n2 := x1.2.2.1
  have q0 := ms.2.2
  unfold gX14_piece_j20
  refine OK_jb (vX14_isValue (B := B) (n := n) (q := q) (by exact ms)) (fun v6 r1 => ?_)
  try dsimp only [Sum.elim_inl, Sum.elim_inr, jt2, jt3, jt4, jt5, jt6, jt7, jt8] at r1
  have v1 := r1
  clear r1
  try simp (disch := omega) only [jst_eq, jst_ne, jst_ni, jI_i, jcmp_lt, jcmp_gt, w32_id, jcpy_out, Sum.elim_inl, Sum.elim_inr, jt2, jt3, jt4, jt5, jt6, jt7, jt8] at v1
  refine OK_if (fun c1 => ?_) (fun c1 => ?_)
  · skip
    try simp (disch := omega) only [jst_eq, jst_ne, jst_ni, jI_i, jcmp_lt, jcmp_gt, w32_id, jcpy_out, Sum.elim_inl, Sum.elim_inr, jt2, jt3, jt4, jt5, jt6, jt7, jt8] at c1
    have NV : ¬ isVl B n q := fun z => by { rw [if_pos z] at v1; omega }
    refine OK_jb3 (vX14_takeName (B := B) (n := n) (q := q) (by exact x1) (by exact hB) (by exact ms)) (fun t9 v10 h11 r2 => ?_)
    try dsimp only [Sum.elim_inl, Sum.elim_inr, jt2, jt3, jt4, jt5, jt6, jt7, jt8] at r2
    obtain ⟨no2, r2, v12, fr2⟩ := r2
    try simp (disch := omega) only [jst_eq, jst_ne, jst_ni, jI_i, jcmp_lt, jcmp_gt, w32_id, jcpy_out, Sum.elim_inl, Sum.elim_inr, jt2, jt3, jt4, jt5, jt6, jt7, jt8] at no2
    try simp (disch := omega) only [jst_eq, jst_ne, jst_ni, jI_i, jcmp_lt, jcmp_gt, w32_id, jcpy_out, Sum.elim_inl, Sum.elim_inr, jt2, jt3, jt4, jt5, jt6, jt7, jt8] at r2
    try simp (disch := omega) only [jst_eq, jst_ne, jst_ni, jI_i, jcmp_lt, jcmp_gt, w32_id, jcpy_out, Sum.elim_inl, Sum.elim_inr, jt2, jt3, jt4, jt5, jt6, jt7, jt8] at v12
    try simp (disch := omega) only [jst_eq, jst_ne, jst_ni, jI_i, jcmp_lt, jcmp_gt, w32_id, jcpy_out, Sum.elim_inl, Sum.elim_inr, jt2, jt3, jt4, jt5, jt6, jt7, jt8] at fr2
    refine OK_jq (fun c2 => ?_) (fun c2 => ?_)
    · skip
      refine OK_some ?_
      try dsimp only [Sum.elim_inl, Sum.elim_inr, jt2, jt3, jt4, jt5, jt6, jt7, jt8]
      try dsimp only [Sum.elim_inl, Sum.elim_inr, jt2, jt3, jt4, jt5, jt6, jt7, jt8]
      refine ⟨?_, ?_⟩
      · (by_cases o : tO B n q = 1; { obtain ⟨z, e, t1, mf⟩ := rM_l (r2 o) c2; have w : pPc B n q = .inl z := (by rw [pPc_e, if_pos (Or.inr o), e]; rfl); rw [w]; exact ⟨t1, mf⟩ }; { have w : pPc B n q = .inl (tS B n q) := (by rw [pPc_e, if_neg (fun z => z.elim NV o)]); rw [w]; exact no2 o }) -- o5 e1.1
      · exact fun b s y1 y2 y3 y4 y5 => fr2 b s (by omega) y2 -- o6 e1.2
    · skip
      have o : tO B n q = 1 := Classical.byContradiction fun z => by { have := (no2 z).1; omega }
      obtain ⟨u, eu, ms2⟩ := rM_r (r2 o) c2
      have V10 : v10 = tV B n q := v12 o c2
      have WP : pPc B n q = pPq B n q u := by { rw [pPc_e, if_pos (Or.inr o), eu]; rfl }
      have PA : pcA B n E q = fA E.1.2.1 (tV B n q) E.1.1.toNat 0 := if_neg NV
      have T11 : TM B n h11 := TM_fr x1 (fr2 _ _ (by omega) (by omega)) (fun s => fr2 _ _ (by omega) (by omega))
      have I11 : MI h11 := MI_fr (fr2 _ _ (by omega) (by omega)) (fr2 _ _ (by omega) (by omega)) x2
      have K11 : MK h11 = MK h := MK_fr (fr2 _ _ (by omega) (by omega)) (fr2 _ _ (by omega) (by omega))
      have mr := MK_r x2
      have e17 : h11 454 17 = h 454 17 := fr2 _ _ (by omega) (by omega)
      refine OK_jb (vX14_actOf (E := E) _ (by exact actM_fr x3 (fr2 _ _ (by omega) (by omega)) (fun b s b0 b1 => fr2 _ _ (by omega) (by omega)))) (fun v14 r3 => ?_)
      try dsimp only [Sum.elim_inl, Sum.elim_inr, jt2, jt3, jt4, jt5, jt6, jt7, jt8] at r3
      have v3 := r3
      clear r3
      try simp (disch := omega) only [jst_eq, jst_ne, jst_ni, jI_i, jcmp_lt, jcmp_gt, w32_id, jcpy_out, Sum.elim_inl, Sum.elim_inr, jt2, jt3, jt4, jt5, jt6, jt7, jt8] at v3
      have A14 : v14 = pcA B n E q := by { rw [v3, V10, PA] }
      refine OK_if (fun c3 => ?_) (fun c3 => ?_)
      · skip
        try simp (disch := omega) only [jst_eq, jst_ne, jst_ni, jI_i, jcmp_lt, jcmp_gt, w32_id, jcpy_out, Sum.elim_inl, Sum.elim_inr, jt2, jt3, jt4, jt5, jt6, jt7, jt8] at c3
        refine OK_mono (vX14_piece_j61 (B := B) (n := n) (q := q) (D := D) (N := h 454 17) (E := E) (l := l) _ _ _ _ (by exact hB) (by exact T11) (by exact I11) (by exact ⟨x4, by rw [fr2 _ _ (by omega) (by omega)]; exact x5, x6⟩) (by omega) (by exact pcsM_f x10 (fun b s y => fr2 b s (by omega) (by omega))) (by omega) (by exact A14) (by exact Or.inr ⟨NV, rfl⟩) (by exact ms2)) (fun r r4 => ?_)
        obtain ⟨y1, y2⟩ := r
        try dsimp only [Sum.elim_inl, Sum.elim_inr, jt2, jt3, jt4, jt5, jt6, jt7, jt8] at r4
        obtain ⟨ok4, fr4⟩ := r4
        try simp (disch := omega) only [jst_eq, jst_ne, jst_ni, jI_i, jcmp_lt, jcmp_gt, w32_id, jcpy_out, Sum.elim_inl, Sum.elim_inr, jt2, jt3, jt4, jt5, jt6, jt7, jt8] at ok4
        try simp (disch := omega) only [jst_eq, jst_ne, jst_ni, jI_i, jcmp_lt, jcmp_gt, w32_id, jcpy_out, Sum.elim_inl, Sum.elim_inr, jt2, jt3, jt4, jt5, jt6, jt7, jt8] at fr4
        try dsimp only [Sum.elim_inl, Sum.elim_inr, jt2, jt3, jt4, jt5, jt6, jt7, jt8]
        try dsimp only [Sum.elim_inl, Sum.elim_inr, jt2, jt3, jt4, jt5, jt6, jt7, jt8]
        refine ⟨?_, ?_⟩
        · (have o4 : poJ B n a1 D (h 454 17) E l (MK h11) (pPq B n q u) y1 y2 := ok4; have KE : MK h11 = min (MK h) (if ¬ isVl B n q ∧ pcA B n E q = -1 then tS B n q * 8 + 2 else 1000000) := (by rw [if_neg (fun z => by omega), K11]; omega); rw [KE] at o4; rw [WP]; exact o4) -- o18 e2.1
        · exact fun b s y1 y2 y3 y4 y5 => (fr4 b s y1 y2 y3 y4 y5).trans (fr2 b s (by omega) y2) -- o19 e2.2
      · skip
        try simp (disch := omega) only [jst_eq, jst_ne, jst_ni, jI_i, jcmp_lt, jcmp_gt, w32_id, jcpy_out, Sum.elim_inl, Sum.elim_inr, jt2, jt3, jt4, jt5, jt6, jt7, jt8] at c3
        refine OK_jb (vX14_note _ _ (by exact I11) (by omega)) (fun h17 r5 => ?_)
        try dsimp only [Sum.elim_inl, Sum.elim_inr, jt2, jt3, jt4, jt5, jt6, jt7, jt8] at r5
        obtain ⟨m5, k5, fr5⟩ := r5
        try simp (disch := omega) only [jst_eq, jst_ne, jst_ni, jI_i, jcmp_lt, jcmp_gt, w32_id, jcpy_out, Sum.elim_inl, Sum.elim_inr, jt2, jt3, jt4, jt5, jt6, jt7, jt8] at m5
        try simp (disch := omega) only [jst_eq, jst_ne, jst_ni, jI_i, jcmp_lt, jcmp_gt, w32_id, jcpy_out, Sum.elim_inl, Sum.elim_inr, jt2, jt3, jt4, jt5, jt6, jt7, jt8] at k5
        try simp (disch := omega) only [jst_eq, jst_ne, jst_ni, jI_i, jcmp_lt, jcmp_gt, w32_id, jcpy_out, Sum.elim_inl, Sum.elim_inr, jt2, jt3, jt4, jt5, jt6, jt7, jt8] at fr5
        refine OK_mono (vX14_piece_j61 (B := B) (n := n) (q := q) (D := D) (N := h 454 17) (E := E) (l := l) _ _ _ _ (by exact hB) (by exact TM_fr T11 (fr5 _ _ (by omega)) (fun s => fr5 _ _ (by omega))) (by exact m5) (by exact ⟨x4, by rw [fr5 _ _ (by omega), fr2 _ _ (by omega) (by omega)]; exact x5, x6⟩) (by (rw [fr5 _ _ (by omega)]; omega)) (by exact pcsM_f x10 (fun b s y => (fr5 b s (by omega)).trans (fr2 b s (by omega) (by omega)))) (by omega) (by exact A14) (by exact Or.inr ⟨NV, rfl⟩) (by exact MS_fr ms2 (fun s s0 s1 => fr5 _ _ (by omega)))) (fun r r6 => ?_)
        obtain ⟨y3, y4⟩ := r
        try dsimp only [Sum.elim_inl, Sum.elim_inr, jt2, jt3, jt4, jt5, jt6, jt7, jt8] at r6
        obtain ⟨ok6, fr6⟩ := r6
        try simp (disch := omega) only [jst_eq, jst_ne, jst_ni, jI_i, jcmp_lt, jcmp_gt, w32_id, jcpy_out, Sum.elim_inl, Sum.elim_inr, jt2, jt3, jt4, jt5, jt6, jt7, jt8] at ok6
        try simp (disch := omega) only [jst_eq, jst_ne, jst_ni, jI_i, jcmp_lt, jcmp_gt, w32_id, jcpy_out, Sum.elim_inl, Sum.elim_inr, jt2, jt3, jt4, jt5, jt6, jt7, jt8] at fr6
        try dsimp only [Sum.elim_inl, Sum.elim_inr, jt2, jt3, jt4, jt5, jt6, jt7, jt8]
        try dsimp only [Sum.elim_inl, Sum.elim_inr, jt2, jt3, jt4, jt5, jt6, jt7, jt8]
        refine ⟨?_, ?_⟩
        · (have o4 : poJ B n a1 D (h 454 17) E l (MK h17) (pPq B n q u) y3 y4 := ok6; have PR := pcA_r (B := B) (n := n) (E := E) (q := q); have KE : MK h17 = min (MK h) (if ¬ isVl B n q ∧ pcA B n E q = -1 then tS B n q * 8 + 2 else 1000000) := (by rw [if_pos ⟨NV, by omega⟩, k5, K11, pl]); rw [KE] at o4; rw [WP]; exact o4) -- o32 e3.1
        · exact fun b s y1 y2 y3 y4 y5 => (fr6 b s y1 y2 y3 y4 y5).trans ((fr5 b s (by omega)).trans (fr2 b s (by omega) y2)) -- o33 e3.2
  · skip
    try simp (disch := omega) only [jst_eq, jst_ne, jst_ni, jI_i, jcmp_lt, jcmp_gt, w32_id, jcpy_out, Sum.elim_inl, Sum.elim_inr, jt2, jt3, jt4, jt5, jt6, jt7, jt8] at c1
    have VL : isVl B n q := Classical.byContradiction fun z => by { rw [if_neg z] at v1; omega }
    refine OK_jb3 (vX14_takeValue (B := B) (n := n) (q := q) (by exact x1) (by exact hB) (by exact ms) (by omega)) (fun t19 v20 h21 r7 => ?_)
    try dsimp only [Sum.elim_inl, Sum.elim_inr, jt2, jt3, jt4, jt5, jt6, jt7, jt8] at r7
    obtain ⟨no7, r7, nd7, tv7, fr7⟩ := r7
    try simp (disch := omega) only [jst_eq, jst_ne, jst_ni, jI_i, jcmp_lt, jcmp_gt, w32_id, jcpy_out, Sum.elim_inl, Sum.elim_inr, jt2, jt3, jt4, jt5, jt6, jt7, jt8] at no7
    try simp (disch := omega) only [jst_eq, jst_ne, jst_ni, jI_i, jcmp_lt, jcmp_gt, w32_id, jcpy_out, Sum.elim_inl, Sum.elim_inr, jt2, jt3, jt4, jt5, jt6, jt7, jt8] at r7
    try simp (disch := omega) only [jst_eq, jst_ne, jst_ni, jI_i, jcmp_lt, jcmp_gt, w32_id, jcpy_out, Sum.elim_inl, Sum.elim_inr, jt2, jt3, jt4, jt5, jt6, jt7, jt8] at nd7
    try simp (disch := omega) only [jst_eq, jst_ne, jst_ni, jI_i, jcmp_lt, jcmp_gt, w32_id, jcpy_out, Sum.elim_inl, Sum.elim_inr, jt2, jt3, jt4, jt5, jt6, jt7, jt8] at tv7
    try simp (disch := omega) only [jst_eq, jst_ne, jst_ni, jI_i, jcmp_lt, jcmp_gt, w32_id, jcpy_out, Sum.elim_inl, Sum.elim_inr, jt2, jt3, jt4, jt5, jt6, jt7, jt8] at fr7
    refine OK_jq (fun c4 => ?_) (fun c4 => ?_)
    · skip
      refine OK_some ?_
      try dsimp only [Sum.elim_inl, Sum.elim_inr, jt2, jt3, jt4, jt5, jt6, jt7, jt8]
      try dsimp only [Sum.elim_inl, Sum.elim_inr, jt2, jt3, jt4, jt5, jt6, jt7, jt8]
      refine ⟨?_, ?_⟩
      · (obtain ⟨z, e, t1, mf⟩ := rM_l (r7 VL) c4; have w : pPc B n q = .inl z := (by rw [pPc_e, if_pos (Or.inl VL), e]; rfl); rw [w]; exact ⟨t1, mf⟩) -- o38 e4.1
      · exact fun b s y1 y2 y3 y4 y5 => fr7 b s (by omega) y2 (by omega) -- o39 e4.2
    · skip
      obtain ⟨u, eu, ms2⟩ := rM_r (r7 VL) c4
      have V20 : v20 = h 454 17 := tv7 c4
      obtain ⟨n1, ⟨n2a, _⟩, n3, n4⟩ := nd7 VL
      have N2 := n2a rfl
      have WP : pPc B n q = pPq B n q u := by { rw [pPc_e, if_pos (Or.inl VL), eu]; rfl }
      have mr := MK_r x2
      refine OK_mono (vX14_piece_j61 (B := B) (n := n) (q := q) (D := D) (N := h 454 17) (E := E) (l := l) _ _ _ _ (by exact hB) (by exact TM_fr x1 (fr7 _ _ (by omega) (by omega) (by omega)) (fun s => fr7 _ _ (by omega) (by omega) (by omega))) (by exact MI_fr (fr7 _ _ (by omega) (by omega) (by omega)) (fr7 _ _ (by omega) (by omega) (by omega)) x2) (by exact ⟨x4, by rw [fr7 _ _ (by omega) (by omega) (by omega)]; exact x5, x6⟩) (by omega) (by exact pcsM_f x10 (fun b s y => fr7 b s (by omega) (by omega) (by omega))) (by omega) (by exact (pcA_v VL).symm) (by (refine Or.inl ?_; refine ⟨VL, ⟨by omega, by omega⟩, ?_, ?_, ?_, ?_⟩; { rw [V20]; exact N2.1 }; { rw [V20]; exact N2.2.1 }; { rw [V20]; exact N2.2.2 }; { rw [V20]; exact ⟨n3, n4⟩ })) (by exact ms2)) (fun r r8 => ?_)
      obtain ⟨y5, y6⟩ := r
      try dsimp only [Sum.elim_inl, Sum.elim_inr, jt2, jt3, jt4, jt5, jt6, jt7, jt8] at r8
      obtain ⟨ok8, fr8⟩ := r8
      try simp (disch := omega) only [jst_eq, jst_ne, jst_ni, jI_i, jcmp_lt, jcmp_gt, w32_id, jcpy_out, Sum.elim_inl, Sum.elim_inr, jt2, jt3, jt4, jt5, jt6, jt7, jt8] at ok8
      try simp (disch := omega) only [jst_eq, jst_ne, jst_ni, jI_i, jcmp_lt, jcmp_gt, w32_id, jcpy_out, Sum.elim_inl, Sum.elim_inr, jt2, jt3, jt4, jt5, jt6, jt7, jt8] at fr8
      try dsimp only [Sum.elim_inl, Sum.elim_inr, jt2, jt3, jt4, jt5, jt6, jt7, jt8]
      try dsimp only [Sum.elim_inl, Sum.elim_inr, jt2, jt3, jt4, jt5, jt6, jt7, jt8]
      refine ⟨?_, ?_⟩
      · (have o4 : poJ B n a1 D (h 454 17) E l (MK h21) (pPq B n q u) y5 y6 := ok8; have KE : MK h21 = min (MK h) (if ¬ isVl B n q ∧ pcA B n E q = -1 then tS B n q * 8 + 2 else 1000000) := (by rw [if_neg (fun z => z.1 VL), MK_fr (fr7 _ _ (by omega) (by omega) (by omega)) (fr7 _ _ (by omega) (by omega) (by omega))]; omega); rw [KE] at o4; rw [WP]; exact o4) -- o50 e5.1
      · exact fun b s y1 y2 y3 y4 y5 => (fr8 b s y1 y2 y3 y4 y5).trans (fr7 b s (by omega) y2 (by omega)) -- o51 e5.2
theorem pcQM_f {B : Int → Int} {n a D : Int} {E : EV} {l : List (Int × Int)} {h h' : AH} (x : pcQM B n a D E l h) (m : MI h') (f : ∀ b s, ¬ (b = 454 ∧ (s = 30 ∨ s = 31)) → h' b s = h b s) : pcQM B n a D E l h' := by
  obtain ⟨x1, x2, x3, ⟨x4, x5, x6⟩, ⟨x7, x8, x9⟩, x10⟩ := x
  have LA : a = 476 ∨ a = 615 := x4
  have e17 : h' 454 17 = h 454 17 := f _ _ (by omega)
  refine ⟨TM_fr x1 (f _ _ (by omega)) (fun s => f _ _ (by omega)), m, actM_fr x3 (f _ _ (by omega)) (fun b s b0 b1 => f _ _ (by omega)), ⟨x4, by rw [f _ _ (by omega)]; exact x5, x6⟩, ⟨x7, by omega, by omega⟩, ?_⟩
  rw [e17]
  exact pcsM_f x10 (fun b s y => f b s (by omega))
theorem poM_of {B : Int → Int} {n a D N K K' : Int} {E : EV} {l : List (Int × Int)} {q : Int} {t : Int} {h' : AH} (o : poJ B n a D N E l K' (pPc B n q) t h') (e : ∀ p q1, pPc B n q = .inr (p, q1) → min K' (dupK B n E p.1 (l.take 12)) = min K (pk1 B n E l p.1)) : poM B n a D N E l K (pPc B n q) t h' := by
  cases w : pPc B n q with
  | inl z => rw [w] at o; exact o
  | inr x =>
    obtain ⟨p, q1⟩ := x
    rw [w] at o
    obtain ⟨o1, o2, o3, o4, o5⟩ := o
    exact ⟨o1, o2, o3, o4.trans (e p q1 w), o5⟩
theorem pPc_q {B : Int → Int} {n q q1 : Int} {p : Int × Int} (w : pPc B n q = .inr (p, q1)) : p.1 = q := by
  rw [pPc_e] at w
  by_cases c : isVl B n q ∨ tO B n q = 1
  · rw [if_pos c] at w
    obtain ⟨r, e, w⟩ := bS_r w
    exact pPq_q w
  · rw [if_neg c] at w; cases w
theorem vX14_piece (a1 : Int) {h : AH} {B : Int → Int} {n q D : Int} {E : EV} {l : List (Int × Int)} (hB : ∀ i, 0 ≤ i → i < n → 0 ≤ B i ∧ B i < 256) (pc : pcQM B n a1 D E l h) (ms : MS B n q h) (rm : h 454 17 + 1 ≤ D + 1100 ∧ D ≤ 1100) (un : 12 < l.length → MK h ≤ tS B n q * 8 + 5) : OK (gX14_piece a1 h) (fun r => jt2 r fun t h' => (poM B n a1 D (h 454 17) E l (MK h) (pPc B n q) t h') ∧ (frPm a1 D h h')) := by
  have LA : a1 = 476 ∨ a1 = 615 := pc.2.2.2.1.1
  have C5 := pc.2.2.2.1.2.1
  have mr := MK_r pc.2.1
  have SR := tS_r (B := B) ms.2.2.2
  have n2 := pc.1.2.2.1
  have q0 := ms.2.2
  have Q1 : h 454 29 = tS B n q := ms.1.1
  unfold gX14_piece
  refine OK_jlx (fun x1 ex1 => ?_)
  try simp (disch := omega) only [jst_eq, jst_ne, jst_ni, jI_i, jcmp_lt, jcmp_gt, w32_id, jcpy_out, Sum.elim_inl, Sum.elim_inr, jt2, jt3, jt4, jt5, jt6, jt7, jt8] at ex1
  refine OK_if (fun c1 => ?_) (fun c1 => ?_)
  · skip
    try simp (disch := omega) only [jst_eq, jst_ne, jst_ni, jI_i, jcmp_lt, jcmp_gt, w32_id, jcpy_out, Sum.elim_inl, Sum.elim_inr, jt2, jt3, jt4, jt5, jt6, jt7, jt8] at c1
    refine OK_jb (vX14_note _ _ (by exact pc.2.1) (by omega)) (fun h4 r1 => ?_)
    try dsimp only [Sum.elim_inl, Sum.elim_inr, jt2, jt3, jt4, jt5, jt6, jt7, jt8] at r1
    obtain ⟨m1, k1, fr1⟩ := r1
    try simp (disch := omega) only [jst_eq, jst_ne, jst_ni, jI_i, jcmp_lt, jcmp_gt, w32_id, jcpy_out, Sum.elim_inl, Sum.elim_inr, jt2, jt3, jt4, jt5, jt6, jt7, jt8] at m1
    try simp (disch := omega) only [jst_eq, jst_ne, jst_ni, jI_i, jcmp_lt, jcmp_gt, w32_id, jcpy_out, Sum.elim_inl, Sum.elim_inr, jt2, jt3, jt4, jt5, jt6, jt7, jt8] at k1
    try simp (disch := omega) only [jst_eq, jst_ne, jst_ni, jI_i, jcmp_lt, jcmp_gt, w32_id, jcpy_out, Sum.elim_inl, Sum.elim_inr, jt2, jt3, jt4, jt5, jt6, jt7, jt8] at fr1
    have E17 : h4 454 17 = h 454 17 := fr1 _ _ (by omega)
    refine OK_mono (vX14_piece_j20 (B := B) (n := n) (q := q) (D := D) (E := E) (l := l) _ _ (by exact hB) (by exact pcQM_f pc m1 (fun b s y => fr1 b s (by omega))) (by exact MS_fr ms (fun s s0 s1 => fr1 _ _ (by omega))) (by omega) (by (rw [fr1 _ _ (by omega)]; exact rm))) (fun r r2 => ?_)
    obtain ⟨y1, y2⟩ := r
    try dsimp only [Sum.elim_inl, Sum.elim_inr, jt2, jt3, jt4, jt5, jt6, jt7, jt8] at r2
    obtain ⟨ok2, fr2⟩ := r2
    try simp (disch := omega) only [jst_eq, jst_ne, jst_ni, jI_i, jcmp_lt, jcmp_gt, w32_id, jcpy_out, Sum.elim_inl, Sum.elim_inr, jt2, jt3, jt4, jt5, jt6, jt7, jt8] at ok2
    try simp (disch := omega) only [jst_eq, jst_ne, jst_ni, jI_i, jcmp_lt, jcmp_gt, w32_id, jcpy_out, Sum.elim_inl, Sum.elim_inr, jt2, jt3, jt4, jt5, jt6, jt7, jt8] at fr2
    try dsimp only [Sum.elim_inl, Sum.elim_inr, jt2, jt3, jt4, jt5, jt6, jt7, jt8]
    try dsimp only [Sum.elim_inl, Sum.elim_inr, jt2, jt3, jt4, jt5, jt6, jt7, jt8]
    refine ⟨?_, ?_⟩
    · exact poM_of (by rw [E17] at ok2; exact ok2) (fun p q1 w => by (rw [k1, pPc_q w, ex1, Q1]; unfold pk1; rw [if_pos (show 12 ≤ l.length by omega)]; generalize (if ¬ isVl B n q ∧ pcA B n E q = -1 then tS B n q * 8 + 2 else 1000000) = x; omega)) -- o8 e1.1
    · exact fun b s y1 y2 y3 y4 y5 => (fr2 b s y1 y2 y3 y4 y5).trans (fr1 b s (by omega)) -- o9 e1.2
  · skip
    try simp (disch := omega) only [jst_eq, jst_ne, jst_ni, jI_i, jcmp_lt, jcmp_gt, w32_id, jcpy_out, Sum.elim_inl, Sum.elim_inr, jt2, jt3, jt4, jt5, jt6, jt7, jt8] at c1
    refine OK_mono (vX14_piece_j20 (B := B) (n := n) (q := q) (D := D) (E := E) (l := l) _ _ (by exact hB) (by exact pc) (by exact ms) (by omega) (by exact rm)) (fun r r3 => ?_)
    obtain ⟨y3, y4⟩ := r
    try dsimp only [Sum.elim_inl, Sum.elim_inr, jt2, jt3, jt4, jt5, jt6, jt7, jt8] at r3
    obtain ⟨ok3, fr3⟩ := r3
    try simp (disch := omega) only [jst_eq, jst_ne, jst_ni, jI_i, jcmp_lt, jcmp_gt, w32_id, jcpy_out, Sum.elim_inl, Sum.elim_inr, jt2, jt3, jt4, jt5, jt6, jt7, jt8] at ok3
    try simp (disch := omega) only [jst_eq, jst_ne, jst_ni, jI_i, jcmp_lt, jcmp_gt, w32_id, jcpy_out, Sum.elim_inl, Sum.elim_inr, jt2, jt3, jt4, jt5, jt6, jt7, jt8] at fr3
    try dsimp only [Sum.elim_inl, Sum.elim_inr, jt2, jt3, jt4, jt5, jt6, jt7, jt8]
    try dsimp only [Sum.elim_inl, Sum.elim_inr, jt2, jt3, jt4, jt5, jt6, jt7, jt8]
    refine ⟨?_, ?_⟩
    · exact poM_of ok3 (fun p q1 w => by (rw [pPc_q w]; unfold pk1; generalize (if ¬ isVl B n q ∧ pcA B n E q = -1 then tS B n q * 8 + 2 else 1000000) = x; by_cases c : 12 ≤ l.length; { rw [if_pos c]; have := un (by omega); omega }; { rw [if_neg c]; omega })) -- o15 e2.1
    · exact fr3 -- o16 e2.2

