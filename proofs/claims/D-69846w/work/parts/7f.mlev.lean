/-! m's levels: one more -/
def BTI (h : AH) (p1 p2 p3 p4 p8 : Int) (L : Nat) : Prop := TK h p1 p2 p3 p4 p8 ∧ (h 454 146 = L ∧ 1 ≤ L ∧ L ≤ 5) ∧ ∃ cd, PT h p1 p2 p8 (h 871 L) ∧ h 454 145 = h 871 L ∧ FUL (h p1) (h p2) (h p3) (h p4) cd (h 871) L
theorem BTI_l {h : AH} {p1 p2 p3 p4 p8 : Int} {L : Nat} (w : BTI h p1 p2 p3 p4 p8 L) (l : L ≤ 4) : LVI h p1 p2 p3 p4 p8 L (h 871 ((L : Int) - 1)) 0 := by
  obtain ⟨t, q, cd, pt, hN, f⟩ := w
  exact ⟨t, ⟨q.1, q.2.1, l⟩, cd, h 871 L, pt, hN, PLv_0 f (by omega)⟩
theorem TK_g {h h' : AH} {p1 p2 p3 p4 p8 : Int} (t : TK h p1 p2 p3 p4 p8) (f : ∀ a s, a ≠ 871 → ¬ (a = 454 ∧ (s = 145 ∨ s = 146)) → h' a s = h a s) : TK h' p1 p2 p3 p4 p8 := by
  obtain ⟨⟨k1, k2, k3, k4, k8⟩, ⟨s1, s2, s3, s4, s8⟩, z1, z2, z3, z4, z8⟩ := t
  unfold TK
  rw [f 454 141 (by omega) (by omega), f 454 142 (by omega) (by omega), f 454 143 (by omega) (by omega), f 454 144 (by omega) (by omega), f 454 148 (by omega) (by omega), f p1 (-2) (by omega) (by omega), f p1 (-1) (by omega) (by omega), f p2 (-2) (by omega) (by omega), f p2 (-1) (by omega) (by omega), f p3 (-2) (by omega) (by omega), f p3 (-1) (by omega) (by omega), f p4 (-2) (by omega) (by omega), f p4 (-1) (by omega) (by omega), f p8 (-2) (by omega) (by omega), f p8 (-1) (by omega) (by omega)]
  exact ⟨⟨k1, k2, k3, k4, k8⟩, ⟨s1, s2, s3, s4, s8⟩, z1, z2, z3, z4, z8⟩
theorem BTI_s {o h' : AH} {p1 p2 p3 p4 p8 : Int} {L : Nat} (w : LVI o p1 p2 p3 p4 p8 L (o 871 L) 0) (e1 : h' 454 146 = (L : Int) + 1) (e2 : h' 871 ((L : Int) + 1) = o 454 145) (e3 : h' 454 145 = o 454 145) (f : ∀ a s, ¬ (a = 454 ∧ s = 146) → ¬ (a = 871 ∧ s = (L : Int) + 1) → h' a s = o a s) : BTI h' p1 p2 p3 p4 p8 (L + 1) := by
  obtain ⟨t, q, cd, N, pt, hN, pl⟩ := w
  have tz := t.2.2
  have cL : ((L + 1 : Nat) : Int) = (L : Int) + 1 := by omega
  have g : ∀ p, 1078 ≤ p → h' p = o p := fun p l => funext fun s => f p s (by omega) (by omega)
  refine ⟨TK_g t (fun a s y1 y2 => f a s (by omega) (by omega)), ⟨by rw [e1, cL], by omega, by omega⟩, cd, ?_, ?_, ?_⟩
  · rw [cL, e2, hN]
    unfold PT
    rw [g p1 (by omega), g p2 (by omega), g p8 (by omega)]
    exact pt
  · rw [cL, e2, e3]
  · rw [g p1 (by omega), g p2 (by omega), g p3 (by omega), g p4 (by omega)]
    exact PLv_e pl (fun i l => f 871 i (by omega) (by omega)) (by rw [e2, hN])
theorem vX14_findLevel_l85z (a10 : Int) {h0 : AH} (hl : h0 454 146 = 0) : OK (gX14_findLevel_l85 a10 h0) (fun h' => h' = h0) := by
  try subst hl
  unfold gX14_findLevel_l85
  refine OK_jit (I := (fun (s : Int × AH) => jt2 s fun a1 h => h = h0)) (m := (fun (s : Int × AH) => jt2 s fun a1 h => 0)) ?_ ?_
  · intro s hs
    obtain ⟨a1, h⟩ := s
    dsimp only [Sum.elim_inl, Sum.elim_inr, jt2, jt3, jt4, jt5, jt6, jt7, jt8] at hs
    have fr := hs; clear hs
    unfold gX14_findLevel_b85
    refine OK_jt2 ?_
    have e146 : h 454 146 = 0 := by rw [fr]; exact hl
    refine OK_if (fun c1 => ?_) (fun c1 => ?_)
    · skip
      try simp (disch := omega) only [jst_eq, jst_ne, jst_ni, jI_i, jcmp_lt, jcmp_gt, w32_id, jcpy_out, Sum.elim_inl, Sum.elim_inr, jt2, jt3, jt4, jt5, jt6, jt7, jt8] at c1
      refine OK_ir ?_
      (first | assumption | omega | ((try dsimp only [jt2, jt3, jt4]); first | omega | (simp (disch := omega) only [jst_eq, jst_ne, jst_ni, jst_o, jI_i, jcpy_out, w32_id, jdiv_nn, jshr_k, jand_255] <;> first | done | omega | assumption)) | (intros; simp (disch := omega) only [jst_eq, jst_ne, jst_ni, jst_o, jI_i, jcpy_out, w32_id, jdiv_nn, *] <;> first | done | omega) | (intros; simp (disch := omega) only [jst_eq, jst_ne, jst_ni, jst_o, jI_i, jcpy_out, w32_id, jdiv_nn] at * <;> first | done | omega | assumption) | (intros; first | rfl | (exfalso; omega) | ((repeat' apply And.intro) <;> first | assumption | rfl | omega | trivial))) -- o1 e1
    · skip
      try simp (disch := omega) only [jst_eq, jst_ne, jst_ni, jI_i, jcmp_lt, jcmp_gt, w32_id, jcpy_out, Sum.elim_inl, Sum.elim_inr, jt2, jt3, jt4, jt5, jt6, jt7, jt8] at c1
      exfalso
      omega
  · (first | assumption | omega | ((try dsimp only [jt2, jt3, jt4]); first | omega | (simp (disch := omega) only [jst_eq, jst_ne, jst_ni, jst_o, jI_i, jcpy_out, w32_id, jdiv_nn, jshr_k, jand_255] <;> first | done | omega | assumption)) | (intros; simp (disch := omega) only [jst_eq, jst_ne, jst_ni, jst_o, jI_i, jcpy_out, w32_id, jdiv_nn, *] <;> first | done | omega) | (intros; simp (disch := omega) only [jst_eq, jst_ne, jst_ni, jst_o, jI_i, jcpy_out, w32_id, jdiv_nn] at * <;> first | done | omega | assumption) | (intros; first | rfl | (exfalso; omega) | ((repeat' apply And.intro) <;> first | assumption | rfl | omega | trivial))) -- o2 init
/-- an array that is made and put to its place -/
def nwP (h g : AH) (k n f : Int) : Prop := g 0 0 = h 0 0 + 1 ∧ g 0 1 = h 0 1 + 1 ∧ g 0 2 = h 0 2 + n ∧ g 454 f = h 0 0 ∧ g (h 0 0) (-2) = k ∧ g (h 0 0) (-1) = n ∧ (∀ s, 0 ≤ s → g (h 0 0) s = 0) ∧ ∀ a s, a ≠ 0 → a ≠ h 0 0 → ¬ (a = 454 ∧ s = f) → g a s = h a s
theorem nwY {h : AH} (k n f : Int) (hz : 1078 ≤ h 0 0) : nwP h (jst (jnew h k n) 454 f (h 0 0)) k n f := by
  refine ⟨?_, ?_, ?_, jst_eq, ?_, ?_, fun s s0 => ?_, fun a s y1 y2 y3 => ?_⟩
  · rw [jst_ne (by omega), jnew_0 (by omega), if_pos rfl]
  · rw [jst_ne (by omega), jnew_0 (by omega), if_neg (by omega), if_pos rfl]
  · rw [jst_ne (by omega), jnew_0 (by omega), if_neg (by omega), if_neg (by omega), if_pos rfl]
  · rw [jst_ne (by omega), jnew_at, if_pos rfl]
  · rw [jst_ne (by omega), jnew_at, if_neg (by omega), if_pos rfl]
  · rw [jst_ne (by omega), jnew_at, if_neg (by omega), if_neg (by omega)]
  · rw [jst_o y3, jnew_ne y2 y1]
theorem TK_new {h g3 g5 g7 g9 g11 : AH} (hz : 1078 ≤ h 0 0) (n3 : nwP h g3 102 111152 141) (n5 : nwP g3 g5 102 111152 142) (n7 : nwP g5 g7 101 111152 143) (n9 : nwP g7 g9 103 111152 144) (n11 : nwP g9 g11 101 262144 148) : TK g11 (h 0 0) (h 0 0 + 1) (h 0 0 + 2) (h 0 0 + 3) (h 0 0 + 4) ∧ (g11 0 0 = h 0 0 + 5 ∧ g11 0 1 = h 0 1 + 5 ∧ g11 0 2 = h 0 2 + 706752) ∧ (∀ s, 0 ≤ s → g11 (h 0 0 + 4) s = 0) ∧ ∀ a s, a ≠ 0 → a < h 0 0 → ¬ (a = 454 ∧ (s = 141 ∨ s = 142 ∨ s = 143 ∨ s = 144 ∨ s = 148)) → g11 a s = h a s := by
  obtain ⟨a1, a2, a3, a4, a5, a6, a7, a8⟩ := n3
  obtain ⟨b1, b2, b3, b4, b5, b6, b7, b8⟩ := n5
  obtain ⟨c1, c2, c3, c4, c5, c6, c7, c8⟩ := n7
  obtain ⟨d1, d2, d3, d4, d5, d6, d7, d8⟩ := n9
  obtain ⟨e1, e2, e3, e4, e5, e6, e7, e8⟩ := n11
  have y2 : g3 0 0 = h 0 0 + 1 := a1
  have y3 : g5 0 0 = h 0 0 + 2 := by omega
  have y4 : g7 0 0 = h 0 0 + 3 := by omega
  have y5 : g9 0 0 = h 0 0 + 4 := by omega
  rw [y2] at b4 b5 b6 b7
  rw [y3] at c4 c5 c6 c7
  rw [y4] at d4 d5 d6 d7
  rw [y5] at e4 e5 e6 e7
  refine ⟨⟨⟨?_, ?_, ?_, ?_, e4⟩, ⟨⟨?_, ?_⟩, ⟨?_, ?_⟩, ⟨?_, ?_⟩, ⟨?_, ?_⟩, e5, e6⟩, hz, by omega, by omega, by omega, by omega⟩, ⟨by omega, by omega, by omega⟩, e7, fun a s u1 u2 u3 => ?_⟩
  · rw [e8 _ _ (by omega) (by omega) (by omega), d8 _ _ (by omega) (by omega) (by omega), c8 _ _ (by omega) (by omega) (by omega), b8 _ _ (by omega) (by omega) (by omega), a4]
  · rw [e8 _ _ (by omega) (by omega) (by omega), d8 _ _ (by omega) (by omega) (by omega), c8 _ _ (by omega) (by omega) (by omega), b4]
  · rw [e8 _ _ (by omega) (by omega) (by omega), d8 _ _ (by omega) (by omega) (by omega), c4]
  · rw [e8 _ _ (by omega) (by omega) (by omega), d4]
  · rw [e8 _ _ (by omega) (by omega) (by omega), d8 _ _ (by omega) (by omega) (by omega), c8 _ _ (by omega) (by omega) (by omega), b8 _ _ (by omega) (by omega) (by omega), a5]
  · rw [e8 _ _ (by omega) (by omega) (by omega), d8 _ _ (by omega) (by omega) (by omega), c8 _ _ (by omega) (by omega) (by omega), b8 _ _ (by omega) (by omega) (by omega), a6]
  · rw [e8 _ _ (by omega) (by omega) (by omega), d8 _ _ (by omega) (by omega) (by omega), c8 _ _ (by omega) (by omega) (by omega), b5]
  · rw [e8 _ _ (by omega) (by omega) (by omega), d8 _ _ (by omega) (by omega) (by omega), c8 _ _ (by omega) (by omega) (by omega), b6]
  · rw [e8 _ _ (by omega) (by omega) (by omega), d8 _ _ (by omega) (by omega) (by omega), c5]
  · rw [e8 _ _ (by omega) (by omega) (by omega), d8 _ _ (by omega) (by omega) (by omega), c6]
  · rw [e8 _ _ (by omega) (by omega) (by omega), d5]
  · rw [e8 _ _ (by omega) (by omega) (by omega), d6]
  · rw [e8 _ _ (by omega) (by omega) (by omega), d8 _ _ (by omega) (by omega) (by omega), c8 _ _ (by omega) (by omega) (by omega), b8 _ _ (by omega) (by omega) (by omega), a8 _ _ (by omega) (by omega) (by omega)]
theorem vX14_findLevel0 {h : AH} (h0 : h 454 146 = 0 ∧ h 454 145 = 0 ∧ h 871 0 = 0) (hr : room h 5 706752) (hz : 1078 ≤ h 0 0) : OK (gX14_findLevel h) (fun h' => (BTI h' (h 0 0) (h 0 0 + 1) (h 0 0 + 2) (h 0 0 + 3) (h 0 0 + 4) 1) ∧ (h' 0 0 = h 0 0 + 5 ∧ h' 0 1 = h 0 1 + 5 ∧ h' 0 2 = h 0 2 + 706752) ∧ (∀ a s, a ≠ 0 → a < h 0 0 → ¬ (a = 454 ∧ 141 ≤ s ∧ s ≤ 148) → ¬ (a = 871 ∧ s = 1) → h' a s = h a s)) := by
  have r1 := hr.2.2.1
  have r2 := hr.2.2.2
  unfold gX14_findLevel
  refine OK_if (fun c1 => ?_) (fun c1 => ?_)
  · skip
    try simp (disch := omega) only [jst_eq, jst_ne, jst_ni, jI_i, jcmp_lt, jcmp_gt, w32_id, jcpy_out, Sum.elim_inl, Sum.elim_inr, jt2, jt3, jt4, jt5, jt6, jt7, jt8] at c1
    refine OK_jg (by (first | ((exact ⟨by decide, by omega, by omega⟩)) | (first | assumption | omega | ((try dsimp only [jt2, jt3, jt4]); first | omega | (simp (disch := omega) only [jst_eq, jst_ne, jst_ni, jst_o, jI_i, jcpy_out, w32_id, jdiv_nn, jshr_k, jand_255] <;> first | done | omega | assumption)) | (intros; simp (disch := omega) only [jst_eq, jst_ne, jst_ni, jst_o, jI_i, jcpy_out, w32_id, jdiv_nn, *] <;> first | done | omega) | (intros; simp (disch := omega) only [jst_eq, jst_ne, jst_ni, jst_o, jI_i, jcpy_out, w32_id, jdiv_nn] at * <;> first | done | omega | assumption) | (intros; first | rfl | (exfalso; omega) | ((repeat' apply And.intro) <;> first | assumption | rfl | omega | trivial))))) ?_ -- o1
    refine OK_jl ?_
    refine OK_jl ?_
    have N3 := nwY 102 111152 141 hz
    generalize jst (jnew h 102 111152) 454 141 (h 0 0) = g3 at *
    have m3 := N3.1
    have u3 := N3.2.1
    have w3 := N3.2.2.1
    refine OK_jg (by (first | ((exact ⟨by decide, by omega, by omega⟩)) | (first | assumption | omega | ((try dsimp only [jt2, jt3, jt4]); first | omega | (simp (disch := omega) only [jst_eq, jst_ne, jst_ni, jst_o, jI_i, jcpy_out, w32_id, jdiv_nn, jshr_k, jand_255] <;> first | done | omega | assumption)) | (intros; simp (disch := omega) only [jst_eq, jst_ne, jst_ni, jst_o, jI_i, jcpy_out, w32_id, jdiv_nn, *] <;> first | done | omega) | (intros; simp (disch := omega) only [jst_eq, jst_ne, jst_ni, jst_o, jI_i, jcpy_out, w32_id, jdiv_nn] at * <;> first | done | omega | assumption) | (intros; first | rfl | (exfalso; omega) | ((repeat' apply And.intro) <;> first | assumption | rfl | omega | trivial))))) ?_ -- o2
    refine OK_jl ?_
    refine OK_jl ?_
    have N5 := nwY (h := g3) 102 111152 142 (by omega)
    generalize jst (jnew g3 102 111152) 454 142 (g3 0 0) = g5 at *
    have m5 := N5.1
    have u5 := N5.2.1
    have w5 := N5.2.2.1
    refine OK_jg (by (first | ((exact ⟨by decide, by omega, by omega⟩)) | (first | assumption | omega | ((try dsimp only [jt2, jt3, jt4]); first | omega | (simp (disch := omega) only [jst_eq, jst_ne, jst_ni, jst_o, jI_i, jcpy_out, w32_id, jdiv_nn, jshr_k, jand_255] <;> first | done | omega | assumption)) | (intros; simp (disch := omega) only [jst_eq, jst_ne, jst_ni, jst_o, jI_i, jcpy_out, w32_id, jdiv_nn, *] <;> first | done | omega) | (intros; simp (disch := omega) only [jst_eq, jst_ne, jst_ni, jst_o, jI_i, jcpy_out, w32_id, jdiv_nn] at * <;> first | done | omega | assumption) | (intros; first | rfl | (exfalso; omega) | ((repeat' apply And.intro) <;> first | assumption | rfl | omega | trivial))))) ?_ -- o3
    refine OK_jl ?_
    refine OK_jl ?_
    have N7 := nwY (h := g5) 101 111152 143 (by omega)
    generalize jst (jnew g5 101 111152) 454 143 (g5 0 0) = g7 at *
    have m7 := N7.1
    have u7 := N7.2.1
    have w7 := N7.2.2.1
    refine OK_jg (by (first | ((exact ⟨by decide, by omega, by omega⟩)) | (first | assumption | omega | ((try dsimp only [jt2, jt3, jt4]); first | omega | (simp (disch := omega) only [jst_eq, jst_ne, jst_ni, jst_o, jI_i, jcpy_out, w32_id, jdiv_nn, jshr_k, jand_255] <;> first | done | omega | assumption)) | (intros; simp (disch := omega) only [jst_eq, jst_ne, jst_ni, jst_o, jI_i, jcpy_out, w32_id, jdiv_nn, *] <;> first | done | omega) | (intros; simp (disch := omega) only [jst_eq, jst_ne, jst_ni, jst_o, jI_i, jcpy_out, w32_id, jdiv_nn] at * <;> first | done | omega | assumption) | (intros; first | rfl | (exfalso; omega) | ((repeat' apply And.intro) <;> first | assumption | rfl | omega | trivial))))) ?_ -- o4
    refine OK_jl ?_
    refine OK_jl ?_
    have N9 := nwY (h := g7) 103 111152 144 (by omega)
    generalize jst (jnew g7 103 111152) 454 144 (g7 0 0) = g9 at *
    have m9 := N9.1
    have u9 := N9.2.1
    have w9 := N9.2.2.1
    refine OK_jg (by (first | ((exact ⟨by decide, by omega, by omega⟩)) | (first | assumption | omega | ((try dsimp only [jt2, jt3, jt4]); first | omega | (simp (disch := omega) only [jst_eq, jst_ne, jst_ni, jst_o, jI_i, jcpy_out, w32_id, jdiv_nn, jshr_k, jand_255] <;> first | done | omega | assumption)) | (intros; simp (disch := omega) only [jst_eq, jst_ne, jst_ni, jst_o, jI_i, jcpy_out, w32_id, jdiv_nn, *] <;> first | done | omega) | (intros; simp (disch := omega) only [jst_eq, jst_ne, jst_ni, jst_o, jI_i, jcpy_out, w32_id, jdiv_nn] at * <;> first | done | omega | assumption) | (intros; first | rfl | (exfalso; omega) | ((repeat' apply And.intro) <;> first | assumption | rfl | omega | trivial))))) ?_ -- o5
    refine OK_jl ?_
    refine OK_jl ?_
    have N11 := nwY (h := g9) 101 262144 148 (by omega)
    generalize jst (jnew g9 101 262144) 454 148 (g9 0 0) = g11 at *
    obtain ⟨T, nn, zz, ff⟩ := TK_new hz N3 N5 N7 N9 N11
    refine OK_jb (vX14_addState (p1 := h 0 0) (p2 := h 0 0 + 1) (p3 := h 0 0 + 2) (p4 := h 0 0 + 3) (p8 := h 0 0 + 4) (N := 0) _ _ _ _ (by exact T) (by exact prT_0 (by omega) (fun p p0 p1 => zz p p0)) (by exact ⟨by rw [ff _ _ (by omega) (by omega) (by omega)]; exact h0.2.1, by omega, by omega⟩) (by (first | ((exact ⟨by decide, by omega, by omega⟩)) | (first | assumption | omega | ((try dsimp only [jt2, jt3, jt4]); first | omega | (simp (disch := omega) only [jst_eq, jst_ne, jst_ni, jst_o, jI_i, jcpy_out, w32_id, jdiv_nn, jshr_k, jand_255] <;> first | done | omega | assumption)) | (intros; simp (disch := omega) only [jst_eq, jst_ne, jst_ni, jst_o, jI_i, jcpy_out, w32_id, jdiv_nn, *] <;> first | done | omega) | (intros; simp (disch := omega) only [jst_eq, jst_ne, jst_ni, jst_o, jI_i, jcpy_out, w32_id, jdiv_nn] at * <;> first | done | omega | assumption) | (intros; first | rfl | (exfalso; omega) | ((repeat' apply And.intro) <;> first | assumption | rfl | omega | trivial)))))) (fun h13 r1 => ?_)
    try dsimp only [Sum.elim_inl, Sum.elim_inr, jt2, jt3, jt4, jt5, jt6, jt7, jt8] at r1
    have c1 := r1
    clear r1
    try simp (disch := omega) only [jst_eq, jst_ne, jst_ni, jI_i, jcmp_lt, jcmp_gt, w32_id, jcpy_out, Sum.elim_inl, Sum.elim_inr, jt2, jt3, jt4, jt5, jt6, jt7, jt8] at c1
    obtain ⟨⟨x1, x2, x3, x4, x5⟩, x6, x7⟩ := c1.resolve_left (fun z => by { obtain ⟨_, k, k0, k1, _⟩ := z; omega })
    have f13 : frB (h 0 0) (h 0 0 + 1) (h 0 0 + 2) (h 0 0 + 3) (h 0 0 + 4) g11 h13 := fun a s y1 y2 => x7 a s (by omega) y2 (by omega)
    have e13 : h13 454 146 = 0 := by { rw [f13 _ _ (by omega) (by omega), ff _ _ (by omega) (by omega) (by omega)]; exact h0.1 }
    have T13 := TK_f T f13
    unfold gX14_findLevel_j62
    refine OK_if (fun c2 => ?_) (fun c2 => ?_)
    · skip
      try simp (disch := omega) only [jst_eq, jst_ne, jst_ni, jI_i, jcmp_lt, jcmp_gt, w32_id, jcpy_out, Sum.elim_inl, Sum.elim_inr, jt2, jt3, jt4, jt5, jt6, jt7, jt8] at c2
      unfold gX14_findLevel_j84
      refine OK_jb (vX14_findLevel_l85z _ (by (first | ((exact ⟨by decide, by omega, by omega⟩)) | (first | assumption | omega | ((try dsimp only [jt2, jt3, jt4]); first | omega | (simp (disch := omega) only [jst_eq, jst_ne, jst_ni, jst_o, jI_i, jcpy_out, w32_id, jdiv_nn, jshr_k, jand_255] <;> first | done | omega | assumption)) | (intros; simp (disch := omega) only [jst_eq, jst_ne, jst_ni, jst_o, jI_i, jcpy_out, w32_id, jdiv_nn, *] <;> first | done | omega) | (intros; simp (disch := omega) only [jst_eq, jst_ne, jst_ni, jst_o, jI_i, jcpy_out, w32_id, jdiv_nn] at * <;> first | done | omega | assumption) | (intros; first | rfl | (exfalso; omega) | ((repeat' apply And.intro) <;> first | assumption | rfl | omega | trivial)))))) (fun o15 r2 => ?_)
      try dsimp only [Sum.elim_inl, Sum.elim_inr, jt2, jt3, jt4, jt5, jt6, jt7, jt8] at r2
      have e2 := r2
      clear r2
      try simp (disch := omega) only [jst_eq, jst_ne, jst_ni, jI_i, jcmp_lt, jcmp_gt, w32_id, jcpy_out, Sum.elim_inl, Sum.elim_inr, jt2, jt3, jt4, jt5, jt6, jt7, jt8] at e2
      subst e2
      unfold gX14_findLevel_j217
      refine OK_jl ?_
      refine OK_jg (by (first | ((exact ⟨by decide, by omega, by omega⟩)) | (first | assumption | omega | ((try dsimp only [jt2, jt3, jt4]); first | omega | (simp (disch := omega) only [jst_eq, jst_ne, jst_ni, jst_o, jI_i, jcpy_out, w32_id, jdiv_nn, jshr_k, jand_255] <;> first | done | omega | assumption)) | (intros; simp (disch := omega) only [jst_eq, jst_ne, jst_ni, jst_o, jI_i, jcpy_out, w32_id, jdiv_nn, *] <;> first | done | omega) | (intros; simp (disch := omega) only [jst_eq, jst_ne, jst_ni, jst_o, jI_i, jcpy_out, w32_id, jdiv_nn] at * <;> first | done | omega | assumption) | (intros; first | rfl | (exfalso; omega) | ((repeat' apply And.intro) <;> first | assumption | rfl | omega | trivial))))) ?_ -- o11
      refine OK_jl ?_
      have W1 : w32 (o15 454 146 + 1) = 1 := by { rw [e13]; decide }
      simp (disch := omega) only [W1, jst_eq, jst_ni]
      have X1 : ∀ a s, ¬ (a = 454 ∧ s = 146) → ¬ (a = 871 ∧ s = 1) → jst (jst o15 454 146 1) 871 1 (o15 454 145) a s = o15 a s := fun a s y1 y2 => by { rw [jst_o (by omega), jst_o (by omega)] }
      have X2 : jst (jst o15 454 146 1) 871 1 (o15 454 145) 454 146 = 1 := by { rw [jst_ne (by decide), jst_eq] }
      have X3 : jst (jst o15 454 146 1) 871 1 (o15 454 145) 871 1 = o15 454 145 := jst_eq
      generalize jst (jst o15 454 146 1) 871 1 (o15 454 145) = g18 at *
      have GG : ∀ p, 1078 ≤ p → g18 p = o15 p := fun p l => funext fun s => X1 p s (by omega) (by omega)
      have Z0 : g18 871 0 = 0 := by { rw [X1 _ _ (by omega) (by omega), f13 _ _ (by omega) (by omega), ff _ _ (by omega) (by omega) (by omega)]; exact h0.2.2 }
      have Z1 : g18 871 1 = 1 := by { rw [X3, x5]; decide }
      refine OK_some ?_
      try dsimp only [Sum.elim_inl, Sum.elim_inr, jt2, jt3, jt4, jt5, jt6, jt7, jt8]
      try dsimp only [Sum.elim_inl, Sum.elim_inr, jt2, jt3, jt4, jt5, jt6, jt7, jt8]
      refine ⟨?_, ?_, ?_⟩
      · (refine ⟨TK_g T13 (fun a s y1 y2 => X1 a s (by omega) (by omega)), ⟨X2, by omega, by omega⟩, fun _ => 0, ?_, ?_, ?_⟩; { show PT g18 _ _ _ (g18 871 1); rw [Z1]; unfold PT; rw [GG _ hz, GG _ (by omega), GG _ (by omega)]; exact x6 }; { show g18 454 145 = g18 871 1; rw [X3, X1 _ _ (by omega) (by omega)] }; { refine FUL_1 rfl ?_ Z0 Z1; rw [GG _ hz, GG _ (by omega), x1, x2]; rfl }) -- o12 e1.1
      · (rw [X1 _ _ (by omega) (by omega), X1 _ _ (by omega) (by omega), X1 _ _ (by omega) (by omega), f13 _ _ (by omega) (by omega), f13 _ _ (by omega) (by omega), f13 _ _ (by omega) (by omega)]; exact nn) -- o13 e1.2
      · (intro a s y1 y2 y3 y4; rw [X1 _ _ (by omega) (by omega), f13 _ _ (by omega) (by omega)]; exact ff a s y1 y2 (by omega)) -- o14 e1.3
    · skip
      try simp (disch := omega) only [jst_eq, jst_ne, jst_ni, jI_i, jcmp_lt, jcmp_gt, w32_id, jcpy_out, Sum.elim_inl, Sum.elim_inr, jt2, jt3, jt4, jt5, jt6, jt7, jt8] at c2
      exfalso
      exact c2 e13
  · skip
    try simp (disch := omega) only [jst_eq, jst_ne, jst_ni, jI_i, jcmp_lt, jcmp_gt, w32_id, jcpy_out, Sum.elim_inl, Sum.elim_inr, jt2, jt3, jt4, jt5, jt6, jt7, jt8] at c1
    exfalso
    exact c1 h0.1
theorem vX14_findLevel {h : AH} {p1 p2 p3 p4 p8 : Int} {L : Nat} (hl : BTI h p1 p2 p3 p4 p8 L) (hL : L ≤ 4) : OK (gX14_findLevel h) (fun h' => (BTI h' p1 p2 p3 p4 p8 (L + 1)) ∧ (∀ a s, ¬ ((a = p1 ∨ a = p2 ∨ a = p3 ∨ a = p4 ∨ a = p8) ∧ 0 ≤ s) → ¬ (a = 454 ∧ (s = 145 ∨ s = 146)) → ¬ (a = 871 ∧ s = (L : Int) + 1) → h' a s = h a s)) := by
  have B := BTI_l hl hL
  obtain ⟨q1, q2, q3⟩ := hl.2.1
  have tz := hl.1.2.2
  have wL : w32 (h 454 146 - 1) = (L : Int) - 1 := by rw [q1]; exact w32_id (by omega) (by omega)
  unfold gX14_findLevel
  refine OK_if (fun c1 => ?_) (fun c1 => ?_)
  · skip
    try simp (disch := omega) only [jst_eq, jst_ne, jst_ni, jI_i, jcmp_lt, jcmp_gt, w32_id, jcpy_out, Sum.elim_inl, Sum.elim_inr, jt2, jt3, jt4, jt5, jt6, jt7, jt8] at c1
    exfalso
    omega
  · skip
    try simp (disch := omega) only [jst_eq, jst_ne, jst_ni, jI_i, jcmp_lt, jcmp_gt, w32_id, jcpy_out, Sum.elim_inl, Sum.elim_inr, jt2, jt3, jt4, jt5, jt6, jt7, jt8] at c1
    unfold gX14_findLevel_j62
    refine OK_if (fun c2 => ?_) (fun c2 => ?_)
    · skip
      try simp (disch := omega) only [jst_eq, jst_ne, jst_ni, jI_i, jcmp_lt, jcmp_gt, w32_id, jcpy_out, Sum.elim_inl, Sum.elim_inr, jt2, jt3, jt4, jt5, jt6, jt7, jt8] at c2
      exfalso
      omega
    · skip
      try simp (disch := omega) only [jst_eq, jst_ne, jst_ni, jI_i, jcmp_lt, jcmp_gt, w32_id, jcpy_out, Sum.elim_inl, Sum.elim_inr, jt2, jt3, jt4, jt5, jt6, jt7, jt8] at c2
      refine OK_jg (by (first | assumption | omega | ((try dsimp only [jt2, jt3, jt4]); first | omega | (simp (disch := omega) only [jst_eq, jst_ne, jst_ni, jst_o, jI_i, jcpy_out, w32_id, jdiv_nn, jshr_k, jand_255] <;> first | done | omega | assumption)) | (intros; simp (disch := omega) only [jst_eq, jst_ne, jst_ni, jst_o, jI_i, jcpy_out, w32_id, jdiv_nn, *] <;> first | done | omega) | (intros; simp (disch := omega) only [jst_eq, jst_ne, jst_ni, jst_o, jI_i, jcpy_out, w32_id, jdiv_nn] at * <;> first | done | omega | assumption) | (intros; first | rfl | (exfalso; omega) | ((repeat' apply And.intro) <;> first | assumption | rfl | omega | trivial)))) ?_ -- o1
      unfold gX14_findLevel_j84
      refine OK_jb (vX14_findLevel_l85 (p1 := p1) (p2 := p2) (p3 := p3) (p4 := p4) (p8 := p8) (L := L) _ (by (rw [wL]; exact B))) (fun o15 r1 => ?_)
      try dsimp only [Sum.elim_inl, Sum.elim_inr, jt2, jt3, jt4, jt5, jt6, jt7, jt8] at r1
      obtain ⟨l1, fr1⟩ := r1
      try simp (disch := omega) only [jst_eq, jst_ne, jst_ni, jI_i, jcmp_lt, jcmp_gt, w32_id, jcpy_out, Sum.elim_inl, Sum.elim_inr, jt2, jt3, jt4, jt5, jt6, jt7, jt8] at l1
      try simp (disch := omega) only [jst_eq, jst_ne, jst_ni, jI_i, jcmp_lt, jcmp_gt, w32_id, jcpy_out, Sum.elim_inl, Sum.elim_inr, jt2, jt3, jt4, jt5, jt6, jt7, jt8] at fr1
      have o146 := l1.2.1.1
      have o1 : o15 871 L = h 871 L := fr1 871 _ (by omega) (by omega)
      unfold gX14_findLevel_j217
      refine OK_jl ?_
      refine OK_jg (by (first | assumption | omega | ((try dsimp only [jt2, jt3, jt4]); first | omega | (simp (disch := omega) only [jst_eq, jst_ne, jst_ni, jst_o, jI_i, jcpy_out, w32_id, jdiv_nn, jshr_k, jand_255] <;> first | done | omega | assumption)) | (intros; simp (disch := omega) only [jst_eq, jst_ne, jst_ni, jst_o, jI_i, jcpy_out, w32_id, jdiv_nn, *] <;> first | done | omega) | (intros; simp (disch := omega) only [jst_eq, jst_ne, jst_ni, jst_o, jI_i, jcpy_out, w32_id, jdiv_nn] at * <;> first | done | omega | assumption) | (intros; first | rfl | (exfalso; omega) | ((repeat' apply And.intro) <;> first | assumption | rfl | omega | trivial)))) ?_ -- o3
      refine OK_jl ?_
      simp (disch := omega) only [o146, jst_eq, jst_ni, jst_ne, w32_id]
      refine OK_some ?_
      try dsimp only [Sum.elim_inl, Sum.elim_inr, jt2, jt3, jt4, jt5, jt6, jt7, jt8]
      try dsimp only [Sum.elim_inl, Sum.elim_inr, jt2, jt3, jt4, jt5, jt6, jt7, jt8]
      refine ⟨?_, ?_⟩
      · exact BTI_s l1 (by rw [jst_ne (by decide), jst_eq]) jst_eq (by rw [jst_ne (by decide), jst_ni (by decide)]) (fun a s y1 y2 => by rw [jst_o (by omega), jst_o (by omega)]) -- o4 e1.1
      · (intro a s y1 y2 y3; rw [jst_o (by omega), jst_o (by omega)]; exact fr1 a s y1 (by omega)) -- o5 e1.2

