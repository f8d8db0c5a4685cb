/-! m: rows of examples come and go -/
/-- a record is put behind what waits -/
def reX (h h' : AH) (kd : Int) (B : Int → Int) (n : Int) : Prop := h' 434 5 = h 434 5 + 3 + n ∧ h' 434 6 = h 434 6 + 1 ∧ (h' 436 (h 434 5) % 256 = kd ∧ h' 436 (h 434 5 + 1) % 256 = n / 256 ∧ h' 436 (h 434 5 + 2) % 256 = n % 256) ∧ ∀ k, 0 ≤ k → k < n → h' 436 (h 434 5 + 3 + k) % 256 = B k
def reM (h h' : AH) (kd : Int) (B : Int → Int) (n : Int) : Prop := h' 454 156 = h 454 156 + 3 + n ∧ h' 454 154 = h 454 154 + 1 ∧ (h' 872 (h 454 156) = kd ∧ h' 872 (h 454 156 + 1) = n / 256 ∧ h' 872 (h 454 156 + 2) = n % 256) ∧ ∀ k, 0 ≤ k → k < n → h' 872 (h 454 156 + 3 + k) = B k
def lgX (h : AH) : Prop := (0 ≤ h 434 5 ∧ h 434 5 ≤ 24200) ∧ (0 ≤ h 434 4 ∧ h 434 4 ≤ 200) ∧ 0 ≤ h 434 6 ∧ h 434 6 ≤ 30000
def lgM (h : AH) : Prop := (0 ≤ h 454 156 ∧ h 454 156 ≤ 24200) ∧ (0 ≤ h 454 160 ∧ h 454 160 ≤ 200) ∧ 0 ≤ h 454 154 ∧ h 454 154 ≤ 30000
def rmM (h : AH) (n : Int) : Prop := (h 454 156 + n + 123) / 121 ≤ 200 - h 454 160
theorem vX14_example_2_l168 (i1 : Int) (i2 : Int) (i4 : Int) (a50 : Int) {h0 : AH} {c : Int → Int} {R : Int} (hR : h0 454 109 = R ∧ 0 ≤ R ∧ R < 8) (hn : (0 ≤ i2 ∧ i2 ≤ 10) ∧ 1 ≤ i4 - i2 ∧ i4 - i2 ≤ 10) (hi : 0 ≤ i1 ∧ i1 ≤ 1) (hc : ∀ k, 0 ≤ k → k < i4 → h0 473 (i1 + k) = c k + 97 ∧ 0 ≤ c k ∧ c k < 26) (h4 : a50 = 0) : OK (gX14_example_2_l168 i1 i2 i4 a50 h0) (fun h' => (∀ s, h' 819 s = if 10 * R ≤ s ∧ s < 10 * R + i2 then c (s - 10 * R) else h0 819 s) ∧ (∀ s, h' 820 s = if 10 * R ≤ s ∧ s < 10 * R + (i4 - i2) then c (s - 10 * R + i2) else h0 820 s) ∧ (∀ a s, ¬ (a = 819 ∨ a = 820) → h' a s = h0 a s)) := by
  unfold gX14_example_2_l168
  refine OK_jit (I := (fun (s : Int × AH) => jt2 s fun a5 h => (0 ≤ a5 ∧ a5 ≤ i4) ∧ (∀ s, h 819 s = if 10 * R ≤ s ∧ s < 10 * R + min a5 i2 then c (s - 10 * R) else h0 819 s) ∧ (∀ s, h 820 s = if 10 * R ≤ s ∧ s < 10 * R + (a5 - i2) then c (s - 10 * R + i2) else h0 820 s) ∧ (∀ a s, ¬ (a = 819 ∨ a = 820) → h a s = h0 a s))) (m := (fun (s : Int × AH) => jt2 s fun a5 h => (i4 - a5).toNat)) ?_ ?_
  · intro s hs
    obtain ⟨a5, h⟩ := s
    dsimp only [Sum.elim_inl, Sum.elim_inr, jt2, jt3, jt4, jt5, jt6, jt7, jt8] at hs
    obtain ⟨q0, q1, q2, fr⟩ := hs
    unfold gX14_example_2_b168
    refine OK_jt2 ?_
    have F0 : h 454 109 = R := by rw [fr _ _ (by omega)]; exact hR.1
    refine OK_if (fun c1 => ?_) (fun c1 => ?_)
    · skip
      try simp (disch := omega) only [jst_eq, jst_ne, jst_ni, jI_i, jcmp_lt, jcmp_gt, w32_id, jcpy_out, Sum.elim_inl, Sum.elim_inr, jt2, jt3, jt4, jt5, jt6, jt7, jt8] at c1
      refine OK_ir ?_
      try dsimp only [Sum.elim_inl, Sum.elim_inr, jt2, jt3, jt4, jt5, jt6, jt7, jt8]
      refine ⟨?_, ?_, ?_⟩
      · (intro s; rw [q1 s, show min a5 i2 = i2 by omega]) -- o1 e1.1
      · (intro s; rw [q2 s, show a5 - i2 = i4 - i2 by omega]) -- o2 e1.2
      · (first | assumption | omega | ((try dsimp only [jt2, jt3, jt4]); first | omega | (simp (disch := omega) only [jst_eq, jst_ne, jst_ni, jst_o, jI_i, jcpy_out, w32_id, jdiv_nn, jshr_k, jand_255] <;> first | done | omega | assumption)) | (intros; simp (disch := omega) only [jst_eq, jst_ne, jst_ni, jst_o, jI_i, jcpy_out, w32_id, jdiv_nn, *] <;> first | done | omega) | (intros; simp (disch := omega) only [jst_eq, jst_ne, jst_ni, jst_o, jI_i, jcpy_out, w32_id, jdiv_nn] at * <;> first | done | omega | assumption) | (intros; first | rfl | (exfalso; omega) | ((repeat' apply And.intro) <;> first | assumption | rfl | omega | trivial))) -- o3 e1.3
    · skip
      try simp (disch := omega) only [jst_eq, jst_ne, jst_ni, jI_i, jcmp_lt, jcmp_gt, w32_id, jcpy_out, Sum.elim_inl, Sum.elim_inr, jt2, jt3, jt4, jt5, jt6, jt7, jt8] at c1
      have C := hc a5 q0.1 (by omega)
      have W0 : w32 (i1 + a5) = i1 + a5 := w32_id (by omega) (by omega)
      have W1 : w32 (w32 (10 * h 454 109) + a5) = 10 * R + a5 := by { rw [F0, w32_id (x := 10 * R) (by omega) (by omega), w32_id (by omega) (by omega)] }
      have W2 : w32 (w32 (w32 (10 * h 454 109) + a5) - i2) = 10 * R + a5 - i2 := by { rw [W1, w32_id (by omega) (by omega)] }
      rw [W1] at W2
      have B1 : w32 (h 473 (i1 + a5) - 97) = c a5 := by { rw [fr _ _ (by omega), C.1, w32_id (by omega) (by omega)]; omega }
      rw [W0, W1, W2, B1]
      refine OK_jg (by (first | assumption | omega | ((try dsimp only [jt2, jt3, jt4]); first | omega | (simp (disch := omega) only [jst_eq, jst_ne, jst_ni, jst_o, jI_i, jcpy_out, w32_id, jdiv_nn, jshr_k, jand_255] <;> first | done | omega | assumption)) | (intros; simp (disch := omega) only [jst_eq, jst_ne, jst_ni, jst_o, jI_i, jcpy_out, w32_id, jdiv_nn, *] <;> first | done | omega) | (intros; simp (disch := omega) only [jst_eq, jst_ne, jst_ni, jst_o, jI_i, jcpy_out, w32_id, jdiv_nn] at * <;> first | done | omega | assumption) | (intros; first | rfl | (exfalso; omega) | ((repeat' apply And.intro) <;> first | assumption | rfl | omega | trivial)))) ?_ -- o4
      refine OK_jlx (fun x29 ex29 => ?_)
      try simp (disch := omega) only [jst_eq, jst_ne, jst_ni, jI_i, jcmp_lt, jcmp_gt, w32_id, jcpy_out, Sum.elim_inl, Sum.elim_inr, jt2, jt3, jt4, jt5, jt6, jt7, jt8] at ex29
      refine OK_if (fun c2 => ?_) (fun c2 => ?_)
      · skip
        try simp (disch := omega) only [jst_eq, jst_ne, jst_ni, jI_i, jcmp_lt, jcmp_gt, w32_id, jcpy_out, Sum.elim_inl, Sum.elim_inr, jt2, jt3, jt4, jt5, jt6, jt7, jt8] at c2
        refine OK_jg (by (first | assumption | omega | ((try dsimp only [jt2, jt3, jt4]); first | omega | (simp (disch := omega) only [jst_eq, jst_ne, jst_ni, jst_o, jI_i, jcpy_out, w32_id, jdiv_nn, jshr_k, jand_255] <;> first | done | omega | assumption)) | (intros; simp (disch := omega) only [jst_eq, jst_ne, jst_ni, jst_o, jI_i, jcpy_out, w32_id, jdiv_nn, *] <;> first | done | omega) | (intros; simp (disch := omega) only [jst_eq, jst_ne, jst_ni, jst_o, jI_i, jcpy_out, w32_id, jdiv_nn] at * <;> first | done | omega | assumption) | (intros; first | rfl | (exfalso; omega) | ((repeat' apply And.intro) <;> first | assumption | rfl | omega | trivial)))) ?_ -- o5
        refine OK_jl ?_
        unfold gX14_example_2_j234_168
        refine OK_jlx (fun x33 ex33 => ?_)
        try simp (disch := omega) only [jst_eq, jst_ne, jst_ni, jI_i, jcmp_lt, jcmp_gt, w32_id, jcpy_out, Sum.elim_inl, Sum.elim_inr, jt2, jt3, jt4, jt5, jt6, jt7, jt8] at ex33
        refine OK_il ?_ ?_
        · try dsimp only [Sum.elim_inl, Sum.elim_inr, jt2, jt3, jt4, jt5, jt6, jt7, jt8]
          refine ⟨?_, ?_, ?_, ?_⟩
          · (first | assumption | omega | ((try dsimp only [jt2, jt3, jt4]); first | omega | (simp (disch := omega) only [jst_eq, jst_ne, jst_ni, jst_o, jI_i, jcpy_out, w32_id, jdiv_nn, jshr_k, jand_255] <;> first | done | omega | assumption)) | (intros; simp (disch := omega) only [jst_eq, jst_ne, jst_ni, jst_o, jI_i, jcpy_out, w32_id, jdiv_nn, *] <;> first | done | omega) | (intros; simp (disch := omega) only [jst_eq, jst_ne, jst_ni, jst_o, jI_i, jcpy_out, w32_id, jdiv_nn] at * <;> first | done | omega | assumption) | (intros; first | rfl | (exfalso; omega) | ((repeat' apply And.intro) <;> first | assumption | rfl | omega | trivial))) -- o6 e2i.1
          · (first | assumption | omega | ((try dsimp only [jt2, jt3, jt4]); first | omega | (simp (disch := omega) only [jst_eq, jst_ne, jst_ni, jst_o, jI_i, jcpy_out, w32_id, jdiv_nn, jshr_k, jand_255] <;> first | done | omega | assumption)) | (intros; simp (disch := omega) only [jst_eq, jst_ne, jst_ni, jst_o, jI_i, jcpy_out, w32_id, jdiv_nn, *] <;> first | done | omega) | (intros; simp (disch := omega) only [jst_eq, jst_ne, jst_ni, jst_o, jI_i, jcpy_out, w32_id, jdiv_nn] at * <;> first | done | omega | assumption) | (intros; first | rfl | (exfalso; omega) | ((repeat' apply And.intro) <;> first | assumption | rfl | omega | trivial))) -- o7 e2i.2
          · (intro s; by_cases y : s = 10 * R + a5 - i2; { rw [y, jst_eq, if_pos (by omega), show 10 * R + a5 - i2 - 10 * R + i2 = a5 by omega]; omega }; { rw [jst_ni y, q2 s]; by_cases z : 10 * R ≤ s ∧ s < 10 * R + (a5 - i2); { rw [if_pos z, if_pos (by omega)] }; { rw [if_neg z, if_neg (by omega)] } }) -- o8 e2i.3
          · (first | assumption | omega | ((try dsimp only [jt2, jt3, jt4]); first | omega | (simp (disch := omega) only [jst_eq, jst_ne, jst_ni, jst_o, jI_i, jcpy_out, w32_id, jdiv_nn, jshr_k, jand_255] <;> first | done | omega | assumption)) | (intros; simp (disch := omega) only [jst_eq, jst_ne, jst_ni, jst_o, jI_i, jcpy_out, w32_id, jdiv_nn, *] <;> first | done | omega) | (intros; simp (disch := omega) only [jst_eq, jst_ne, jst_ni, jst_o, jI_i, jcpy_out, w32_id, jdiv_nn] at * <;> first | done | omega | assumption) | (intros; first | rfl | (exfalso; omega) | ((repeat' apply And.intro) <;> first | assumption | rfl | omega | trivial))) -- o9 e2i.4
        · (first | assumption | omega | ((try dsimp only [jt2, jt3, jt4]); first | omega | (simp (disch := omega) only [jst_eq, jst_ne, jst_ni, jst_o, jI_i, jcpy_out, w32_id, jdiv_nn, jshr_k, jand_255] <;> first | done | omega | assumption)) | (intros; simp (disch := omega) only [jst_eq, jst_ne, jst_ni, jst_o, jI_i, jcpy_out, w32_id, jdiv_nn, *] <;> first | done | omega) | (intros; simp (disch := omega) only [jst_eq, jst_ne, jst_ni, jst_o, jI_i, jcpy_out, w32_id, jdiv_nn] at * <;> first | done | omega | assumption) | (intros; first | rfl | (exfalso; omega) | ((repeat' apply And.intro) <;> first | assumption | rfl | omega | trivial))) -- o10 e2m
      · skip
        try simp (disch := omega) only [jst_eq, jst_ne, jst_ni, jI_i, jcmp_lt, jcmp_gt, w32_id, jcpy_out, Sum.elim_inl, Sum.elim_inr, jt2, jt3, jt4, jt5, jt6, jt7, jt8] at c2
        refine OK_jg (by (first | assumption | omega | ((try dsimp only [jt2, jt3, jt4]); first | omega | (simp (disch := omega) only [jst_eq, jst_ne, jst_ni, jst_o, jI_i, jcpy_out, w32_id, jdiv_nn, jshr_k, jand_255] <;> first | done | omega | assumption)) | (intros; simp (disch := omega) only [jst_eq, jst_ne, jst_ni, jst_o, jI_i, jcpy_out, w32_id, jdiv_nn, *] <;> first | done | omega) | (intros; simp (disch := omega) only [jst_eq, jst_ne, jst_ni, jst_o, jI_i, jcpy_out, w32_id, jdiv_nn] at * <;> first | done | omega | assumption) | (intros; first | rfl | (exfalso; omega) | ((repeat' apply And.intro) <;> first | assumption | rfl | omega | trivial)))) ?_ -- o11
        refine OK_jl ?_
        unfold gX14_example_2_j234_168
        refine OK_jlx (fun x33 ex33 => ?_)
        try simp (disch := omega) only [jst_eq, jst_ne, jst_ni, jI_i, jcmp_lt, jcmp_gt, w32_id, jcpy_out, Sum.elim_inl, Sum.elim_inr, jt2, jt3, jt4, jt5, jt6, jt7, jt8] at ex33
        refine OK_il ?_ ?_
        · try dsimp only [Sum.elim_inl, Sum.elim_inr, jt2, jt3, jt4, jt5, jt6, jt7, jt8]
          refine ⟨?_, ?_, ?_, ?_⟩
          · (first | assumption | omega | ((try dsimp only [jt2, jt3, jt4]); first | omega | (simp (disch := omega) only [jst_eq, jst_ne, jst_ni, jst_o, jI_i, jcpy_out, w32_id, jdiv_nn, jshr_k, jand_255] <;> first | done | omega | assumption)) | (intros; simp (disch := omega) only [jst_eq, jst_ne, jst_ni, jst_o, jI_i, jcpy_out, w32_id, jdiv_nn, *] <;> first | done | omega) | (intros; simp (disch := omega) only [jst_eq, jst_ne, jst_ni, jst_o, jI_i, jcpy_out, w32_id, jdiv_nn] at * <;> first | done | omega | assumption) | (intros; first | rfl | (exfalso; omega) | ((repeat' apply And.intro) <;> first | assumption | rfl | omega | trivial))) -- o12 e3i.1
          · (intro s; by_cases y : s = 10 * R + a5; { rw [y, jst_eq, if_pos (by omega), show 10 * R + a5 - 10 * R = a5 by omega]; omega }; { rw [jst_ni y, q1 s]; by_cases z : 10 * R ≤ s ∧ s < 10 * R + min a5 i2; { rw [if_pos z, if_pos (by omega)] }; { rw [if_neg z, if_neg (by omega)] } }) -- o13 e3i.2
          · (first | assumption | omega | ((try dsimp only [jt2, jt3, jt4]); first | omega | (simp (disch := omega) only [jst_eq, jst_ne, jst_ni, jst_o, jI_i, jcpy_out, w32_id, jdiv_nn, jshr_k, jand_255] <;> first | done | omega | assumption)) | (intros; simp (disch := omega) only [jst_eq, jst_ne, jst_ni, jst_o, jI_i, jcpy_out, w32_id, jdiv_nn, *] <;> first | done | omega) | (intros; simp (disch := omega) only [jst_eq, jst_ne, jst_ni, jst_o, jI_i, jcpy_out, w32_id, jdiv_nn] at * <;> first | done | omega | assumption) | (intros; first | rfl | (exfalso; omega) | ((repeat' apply And.intro) <;> first | assumption | rfl | omega | trivial))) -- o14 e3i.3
          · (first | assumption | omega | ((try dsimp only [jt2, jt3, jt4]); first | omega | (simp (disch := omega) only [jst_eq, jst_ne, jst_ni, jst_o, jI_i, jcpy_out, w32_id, jdiv_nn, jshr_k, jand_255] <;> first | done | omega | assumption)) | (intros; simp (disch := omega) only [jst_eq, jst_ne, jst_ni, jst_o, jI_i, jcpy_out, w32_id, jdiv_nn, *] <;> first | done | omega) | (intros; simp (disch := omega) only [jst_eq, jst_ne, jst_ni, jst_o, jI_i, jcpy_out, w32_id, jdiv_nn] at * <;> first | done | omega | assumption) | (intros; first | rfl | (exfalso; omega) | ((repeat' apply And.intro) <;> first | assumption | rfl | omega | trivial))) -- o15 e3i.4
        · (first | assumption | omega | ((try dsimp only [jt2, jt3, jt4]); first | omega | (simp (disch := omega) only [jst_eq, jst_ne, jst_ni, jst_o, jI_i, jcpy_out, w32_id, jdiv_nn, jshr_k, jand_255] <;> first | done | omega | assumption)) | (intros; simp (disch := omega) only [jst_eq, jst_ne, jst_ni, jst_o, jI_i, jcpy_out, w32_id, jdiv_nn, *] <;> first | done | omega) | (intros; simp (disch := omega) only [jst_eq, jst_ne, jst_ni, jst_o, jI_i, jcpy_out, w32_id, jdiv_nn] at * <;> first | done | omega | assumption) | (intros; first | rfl | (exfalso; omega) | ((repeat' apply And.intro) <;> first | assumption | rfl | omega | trivial))) -- o16 e3m
  · try dsimp only [Sum.elim_inl, Sum.elim_inr, jt2, jt3, jt4, jt5, jt6, jt7, jt8]
    refine ⟨?_, ?_, ?_, ?_⟩
    · (first | assumption | omega | ((try dsimp only [jt2, jt3, jt4]); first | omega | (simp (disch := omega) only [jst_eq, jst_ne, jst_ni, jst_o, jI_i, jcpy_out, w32_id, jdiv_nn, jshr_k, jand_255] <;> first | done | omega | assumption)) | (intros; simp (disch := omega) only [jst_eq, jst_ne, jst_ni, jst_o, jI_i, jcpy_out, w32_id, jdiv_nn, *] <;> first | done | omega) | (intros; simp (disch := omega) only [jst_eq, jst_ne, jst_ni, jst_o, jI_i, jcpy_out, w32_id, jdiv_nn] at * <;> first | done | omega | assumption) | (intros; first | rfl | (exfalso; omega) | ((repeat' apply And.intro) <;> first | assumption | rfl | omega | trivial))) -- o17 init.1
    · (intro s; rw [h4, if_neg (by omega)]) -- o18 init.2
    · (intro s; rw [h4, if_neg (by omega)]) -- o19 init.3
    · exact fun _ _ _ => rfl -- o20 init.4
theorem addM {h o : AH} {e : CE} {c : Int → Int} {n m : Int} (he : cuM h e) (hv : ∀ r, 0 ≤ r → r < e.1 → (0 ≤ e.2.2.2.1 r ∧ e.2.2.2.1 r ≤ 10) ∧ 1 ≤ e.2.2.2.2 r ∧ e.2.2.2.2 r ≤ 10) (q1 : ∀ s, o 819 s = if 10 * e.1 ≤ s ∧ s < 10 * e.1 + n then c (s - 10 * e.1) else h 819 s) (q2 : ∀ s, o 820 s = if 10 * e.1 ≤ s ∧ s < 10 * e.1 + m then c (s - 10 * e.1 + n) else h 820 s) (g1 : ∀ r, o 817 r = if r = e.1 then n else h 817 r) (g2 : ∀ r, o 818 r = if r = e.1 then m else h 818 r) : cuM (jst o 454 109 (e.1 + 1)) (addE e c (fun k => c (k + n)) n m) := by
  refine ⟨by rw [jst_eq]; rfl, fun r r0 r1 => ?_⟩
  have r2 : r < e.1 + 1 := r1
  have f : ∀ a s, ¬ (a = 454) → jst o 454 109 (e.1 + 1) a s = o a s := fun a s y => jst_o (by omega)
  unfold addE
  dsimp only
  refine ⟨?_, ?_, fun k k0 k1 => ?_, fun k k0 k1 => ?_⟩
  · rw [f _ _ (by decide), g1]
    by_cases y : r = e.1
    · rw [if_pos y, if_pos y]
    · rw [if_neg y, if_neg y]; exact (he.2 r r0 (by omega)).1
  · rw [f _ _ (by decide), g2]
    by_cases y : r = e.1
    · rw [if_pos y, if_pos y]
    · rw [if_neg y, if_neg y]; exact (he.2 r r0 (by omega)).2.1
  · rw [f _ _ (by decide), q1]
    by_cases y : r = e.1
    · rw [if_pos y] at k1
      rw [if_pos (by omega), if_pos y, show 10 * r + k - 10 * e.1 = k by omega]
    · rw [if_neg y] at k1
      have v := hv r r0 (by omega)
      rw [if_neg (by omega), if_neg y]
      exact (he.2 r r0 (by omega)).2.2.1 k k0 k1
  · rw [f _ _ (by decide), q2]
    by_cases y : r = e.1
    · rw [if_pos y] at k1
      rw [if_pos (by omega), if_pos y, show 10 * r + k - 10 * e.1 = k by omega]
    · rw [if_neg y] at k1
      have v := hv r r0 (by omega)
      rw [if_neg (by omega), if_neg y]
      exact (he.2 r r0 (by omega)).2.2.2 k k0 k1
theorem vX14_example_2_j142 (a1 : Int) (a2 : Int) (a4 : Int) {h : AH} {e : CE} {c : Int → Int} (he : cuM h e ∧ 0 ≤ e.1 ∧ e.1 < 8) (hv : ∀ r, 0 ≤ r → r < e.1 → (0 ≤ e.2.2.2.1 r ∧ e.2.2.2.1 r ≤ 10) ∧ 1 ≤ e.2.2.2.2 r ∧ e.2.2.2.2 r ≤ 10) (hn : (0 ≤ a2 ∧ a2 ≤ 10) ∧ 1 ≤ a4 - a2 ∧ a4 - a2 ≤ 10) (hi : 0 ≤ a1 ∧ a1 ≤ 1) (hc : ∀ k, 0 ≤ k → k < a4 → h 473 (a1 + k) = c k + 97 ∧ 0 ≤ c k ∧ c k < 26) : OK (gX14_example_2_j142 a1 a2 a4 h) (fun r => jt2 r fun v h' => (v = e.1 + 1 ∧ cuM h' (addE e c (fun k => c (k + a2)) a2 (a4 - a2))) ∧ (∀ a s, ¬ (a = 454 ∧ s = 109) → ¬ (817 ≤ a ∧ a ≤ 820 ∧ 0 ≤ s) → h' a s = h a s)) := by
  have E9 := he.1.1
  have W4 : w32 (a4 - a2) = a4 - a2 := w32_id (by omega) (by omega)
  unfold gX14_example_2_j142
  refine OK_jg (by (first | assumption | omega | ((try dsimp only [jt2, jt3, jt4]); first | omega | (simp (disch := omega) only [jst_eq, jst_ne, jst_ni, jst_o, jI_i, jcpy_out, w32_id, jdiv_nn, jshr_k, jand_255] <;> first | done | omega | assumption)) | (intros; simp (disch := omega) only [jst_eq, jst_ne, jst_ni, jst_o, jI_i, jcpy_out, w32_id, jdiv_nn, *] <;> first | done | omega) | (intros; simp (disch := omega) only [jst_eq, jst_ne, jst_ni, jst_o, jI_i, jcpy_out, w32_id, jdiv_nn] at * <;> first | done | omega | assumption) | (intros; first | rfl | (exfalso; omega) | ((repeat' apply And.intro) <;> first | assumption | rfl | omega | trivial)))) ?_ -- o1
  refine OK_jl ?_
  rw [E9]
  have P1 : jst h 817 e.1 a2 454 109 = e.1 := by { rw [jst_ne (by decide)]; exact E9 }
  rw [P1, W4]
  refine OK_jg (by (first | assumption | omega | ((try dsimp only [jt2, jt3, jt4]); first | omega | (simp (disch := omega) only [jst_eq, jst_ne, jst_ni, jst_o, jI_i, jcpy_out, w32_id, jdiv_nn, jshr_k, jand_255] <;> first | done | omega | assumption)) | (intros; simp (disch := omega) only [jst_eq, jst_ne, jst_ni, jst_o, jI_i, jcpy_out, w32_id, jdiv_nn, *] <;> first | done | omega) | (intros; simp (disch := omega) only [jst_eq, jst_ne, jst_ni, jst_o, jI_i, jcpy_out, w32_id, jdiv_nn] at * <;> first | done | omega | assumption) | (intros; first | rfl | (exfalso; omega) | ((repeat' apply And.intro) <;> first | assumption | rfl | omega | trivial)))) ?_ -- o2
  refine OK_jl ?_
  refine OK_jb (vX14_example_2_l168 (c := c) (R := e.1) _ _ _ _ (by (rw [jst_ne (by decide), jst_ne (by decide)]; exact ⟨E9, he.2⟩)) (by (first | assumption | omega | ((try dsimp only [jt2, jt3, jt4]); first | omega | (simp (disch := omega) only [jst_eq, jst_ne, jst_ni, jst_o, jI_i, jcpy_out, w32_id, jdiv_nn, jshr_k, jand_255] <;> first | done | omega | assumption)) | (intros; simp (disch := omega) only [jst_eq, jst_ne, jst_ni, jst_o, jI_i, jcpy_out, w32_id, jdiv_nn, *] <;> first | done | omega) | (intros; simp (disch := omega) only [jst_eq, jst_ne, jst_ni, jst_o, jI_i, jcpy_out, w32_id, jdiv_nn] at * <;> first | done | omega | assumption) | (intros; first | rfl | (exfalso; omega) | ((repeat' apply And.intro) <;> first | assumption | rfl | omega | trivial)))) (by (first | assumption | omega | ((try dsimp only [jt2, jt3, jt4]); first | omega | (simp (disch := omega) only [jst_eq, jst_ne, jst_ni, jst_o, jI_i, jcpy_out, w32_id, jdiv_nn, jshr_k, jand_255] <;> first | done | omega | assumption)) | (intros; simp (disch := omega) only [jst_eq, jst_ne, jst_ni, jst_o, jI_i, jcpy_out, w32_id, jdiv_nn, *] <;> first | done | omega) | (intros; simp (disch := omega) only [jst_eq, jst_ne, jst_ni, jst_o, jI_i, jcpy_out, w32_id, jdiv_nn] at * <;> first | done | omega | assumption) | (intros; first | rfl | (exfalso; omega) | ((repeat' apply And.intro) <;> first | assumption | rfl | omega | trivial)))) (by (intro k k0 k1; rw [jst_ne (by decide), jst_ne (by decide)]; exact hc k k0 k1)) (by rfl)) (fun o25 r1 => ?_)
  try dsimp only [Sum.elim_inl, Sum.elim_inr, jt2, jt3, jt4, jt5, jt6, jt7, jt8] at r1
  obtain ⟨q11, q21, fr1⟩ := r1
  try simp (disch := omega) only [jst_eq, jst_ne, jst_ni, jI_i, jcmp_lt, jcmp_gt, w32_id, jcpy_out, Sum.elim_inl, Sum.elim_inr, jt2, jt3, jt4, jt5, jt6, jt7, jt8] at q11
  try simp (disch := omega) only [jst_eq, jst_ne, jst_ni, jI_i, jcmp_lt, jcmp_gt, w32_id, jcpy_out, Sum.elim_inl, Sum.elim_inr, jt2, jt3, jt4, jt5, jt6, jt7, jt8] at q21
  try simp (disch := omega) only [jst_eq, jst_ne, jst_ni, jI_i, jcmp_lt, jcmp_gt, w32_id, jcpy_out, Sum.elim_inl, Sum.elim_inr, jt2, jt3, jt4, jt5, jt6, jt7, jt8] at fr1
  have F25 : ∀ a s, ¬ (a = 819 ∨ a = 820) → o25 a s = jst (jst h 817 e.1 a2) 818 e.1 (a4 - a2) a s := by assumption
  have Q1 : ∀ s, o25 819 s = if 10 * e.1 ≤ s ∧ s < 10 * e.1 + a2 then c (s - 10 * e.1) else jst (jst h 817 e.1 a2) 818 e.1 (a4 - a2) 819 s := by assumption
  have Q2 : ∀ s, o25 820 s = if 10 * e.1 ≤ s ∧ s < 10 * e.1 + (a4 - a2) then c (s - 10 * e.1 + a2) else jst (jst h 817 e.1 a2) 818 e.1 (a4 - a2) 820 s := by assumption
  have P2 : o25 454 109 = e.1 := by { rw [F25 _ _ (by omega), jst_ne (by decide), jst_ne (by decide)]; exact E9 }
  rw [P2, w32_id (x := e.1 + 1) (by omega) (by omega)]
  refine OK_jl ?_
  refine OK_some ?_
  try dsimp only [Sum.elim_inl, Sum.elim_inr, jt2, jt3, jt4, jt5, jt6, jt7, jt8]
  try dsimp only [Sum.elim_inl, Sum.elim_inr, jt2, jt3, jt4, jt5, jt6, jt7, jt8]
  refine ⟨?_, ?_⟩
  · (refine ⟨jst_eq, addM he.1 hv (fun s => by rw [Q1 s, jst_ne (by decide), jst_ne (by decide)]) (fun s => by rw [Q2 s, jst_ne (by decide), jst_ne (by decide)]) (fun r => ?_) (fun r => ?_)⟩; { rw [F25 _ _ (by omega), jst_ne (by decide), jst_at] }; { rw [F25 _ _ (by omega), jst_at, jst_ne (by decide)] }) -- o8 e1.1
  · exact fun a s y1 y2 => by rw [jst_o (by omega)]; by_cases z : a = 819 ∨ a = 820; { rcases z with z | z; { rw [z, Q1 s, if_neg (by omega), jst_ne (by decide), jst_ne (by decide)] }; { rw [z, Q2 s, if_neg (by omega), jst_ne (by decide), jst_ne (by decide)] } }; { rw [F25 a s z, jst_o (by omega), jst_o (by omega)] } -- o9 e1.2
theorem vX14_example_2_l96 (i1 : Int) (i2 : Int) (i4 : Int) (a50 : Int) {h0 : AH} (hb : 0 ≤ i1 ∧ i1 ≤ 1 ∧ i4 ≤ 20) (h5 : a50 = 0) : OK (gX14_example_2_l96 i1 i2 i4 a50 h0) (fun h' => (∀ k, 0 ≤ k → k < i4 → h' 471 (1 + k) = h0 473 (i1 + k)) ∧ (∀ a x, ¬ (a = 471 ∧ 1 ≤ x) → h' a x = h0 a x)) := by
  unfold gX14_example_2_l96
  refine OK_jit (I := (fun (s : Int × AH) => jt2 s fun a5 h => (0 ≤ a5 ∧ (a5 ≤ i4 ∨ a5 = 0)) ∧ (∀ k, 0 ≤ k → k < a5 → h 471 (1 + k) = h0 473 (i1 + k)) ∧ (∀ a x, ¬ (a = 471 ∧ 1 ≤ x) → h a x = h0 a x))) (m := (fun (s : Int × AH) => jt2 s fun a5 h => (i4 - a5).toNat)) ?_ ?_
  · intro s hs
    obtain ⟨a5, h⟩ := s
    dsimp only [Sum.elim_inl, Sum.elim_inr, jt2, jt3, jt4, jt5, jt6, jt7, jt8] at hs
    obtain ⟨q0, q1, fr⟩ := hs
    unfold gX14_example_2_b96
    refine OK_jt2 ?_
    refine OK_if (fun c1 => ?_) (fun c1 => ?_)
    · skip
      try simp (disch := omega) only [jst_eq, jst_ne, jst_ni, jI_i, jcmp_lt, jcmp_gt, w32_id, jcpy_out, Sum.elim_inl, Sum.elim_inr, jt2, jt3, jt4, jt5, jt6, jt7, jt8] at c1
      refine OK_ir ?_
      try dsimp only [Sum.elim_inl, Sum.elim_inr, jt2, jt3, jt4, jt5, jt6, jt7, jt8]
      refine ⟨?_, ?_⟩
      · exact fun k k0 k1 => q1 k k0 (by omega) -- o1 e1.1
      · (first | assumption | omega | ((try dsimp only [jt2, jt3, jt4]); first | omega | (simp (disch := omega) only [jst_eq, jst_ne, jst_ni, jst_o, jI_i, jcpy_out, w32_id, jdiv_nn, jshr_k, jand_255] <;> first | done | omega | assumption)) | (intros; simp (disch := omega) only [jst_eq, jst_ne, jst_ni, jst_o, jI_i, jcpy_out, w32_id, jdiv_nn, *] <;> first | done | omega) | (intros; simp (disch := omega) only [jst_eq, jst_ne, jst_ni, jst_o, jI_i, jcpy_out, w32_id, jdiv_nn] at * <;> first | done | omega | assumption) | (intros; first | rfl | (exfalso; omega) | ((repeat' apply And.intro) <;> first | assumption | rfl | omega | trivial))) -- o2 e1.2
    · skip
      try simp (disch := omega) only [jst_eq, jst_ne, jst_ni, jI_i, jcmp_lt, jcmp_gt, w32_id, jcpy_out, Sum.elim_inl, Sum.elim_inr, jt2, jt3, jt4, jt5, jt6, jt7, jt8] at c1
      have W0 : w32 (i1 + a5) = i1 + a5 := w32_id (by omega) (by omega)
      have W1 : w32 (1 + a5) = 1 + a5 := w32_id (by omega) (by omega)
      rw [W0, W1, fr 473 (i1 + a5) (by omega)]
      refine OK_jg (by (first | assumption | omega | ((try dsimp only [jt2, jt3, jt4]); first | omega | (simp (disch := omega) only [jst_eq, jst_ne, jst_ni, jst_o, jI_i, jcpy_out, w32_id, jdiv_nn, jshr_k, jand_255] <;> first | done | omega | assumption)) | (intros; simp (disch := omega) only [jst_eq, jst_ne, jst_ni, jst_o, jI_i, jcpy_out, w32_id, jdiv_nn, *] <;> first | done | omega) | (intros; simp (disch := omega) only [jst_eq, jst_ne, jst_ni, jst_o, jI_i, jcpy_out, w32_id, jdiv_nn] at * <;> first | done | omega | assumption) | (intros; first | rfl | (exfalso; omega) | ((repeat' apply And.intro) <;> first | assumption | rfl | omega | trivial)))) ?_ -- o3
      refine OK_jg (by (first | assumption | omega | ((try dsimp only [jt2, jt3, jt4]); first | omega | (simp (disch := omega) only [jst_eq, jst_ne, jst_ni, jst_o, jI_i, jcpy_out, w32_id, jdiv_nn, jshr_k, jand_255] <;> first | done | omega | assumption)) | (intros; simp (disch := omega) only [jst_eq, jst_ne, jst_ni, jst_o, jI_i, jcpy_out, w32_id, jdiv_nn, *] <;> first | done | omega) | (intros; simp (disch := omega) only [jst_eq, jst_ne, jst_ni, jst_o, jI_i, jcpy_out, w32_id, jdiv_nn] at * <;> first | done | omega | assumption) | (intros; first | rfl | (exfalso; omega) | ((repeat' apply And.intro) <;> first | assumption | rfl | omega | trivial)))) ?_ -- o4
      refine OK_jl ?_
      refine OK_jlx (fun x36 ex36 => ?_)
      try simp (disch := omega) only [jst_eq, jst_ne, jst_ni, jI_i, jcmp_lt, jcmp_gt, w32_id, jcpy_out, Sum.elim_inl, Sum.elim_inr, jt2, jt3, jt4, jt5, jt6, jt7, jt8] at ex36
      refine OK_il ?_ ?_
      · try dsimp only [Sum.elim_inl, Sum.elim_inr, jt2, jt3, jt4, jt5, jt6, jt7, jt8]
        refine ⟨?_, ?_, ?_⟩
        · (first | assumption | omega | ((try dsimp only [jt2, jt3, jt4]); first | omega | (simp (disch := omega) only [jst_eq, jst_ne, jst_ni, jst_o, jI_i, jcpy_out, w32_id, jdiv_nn, jshr_k, jand_255] <;> first | done | omega | assumption)) | (intros; simp (disch := omega) only [jst_eq, jst_ne, jst_ni, jst_o, jI_i, jcpy_out, w32_id, jdiv_nn, *] <;> first | done | omega) | (intros; simp (disch := omega) only [jst_eq, jst_ne, jst_ni, jst_o, jI_i, jcpy_out, w32_id, jdiv_nn] at * <;> first | done | omega | assumption) | (intros; first | rfl | (exfalso; omega) | ((repeat' apply And.intro) <;> first | assumption | rfl | omega | trivial))) -- o5 e2i.1
        · (intro k k0 k1; by_cases y : k = a5; { rw [y, jst_eq] }; { rw [jst_ni (by omega)]; exact q1 k k0 (by omega) }) -- o6 e2i.2
        · exact fun a x y => by rw [jst_o (by omega)]; exact fr a x y -- o7 e2i.3
      · (first | assumption | omega | ((try dsimp only [jt2, jt3, jt4]); first | omega | (simp (disch := omega) only [jst_eq, jst_ne, jst_ni, jst_o, jI_i, jcpy_out, w32_id, jdiv_nn, jshr_k, jand_255] <;> first | done | omega | assumption)) | (intros; simp (disch := omega) only [jst_eq, jst_ne, jst_ni, jst_o, jI_i, jcpy_out, w32_id, jdiv_nn, *] <;> first | done | omega) | (intros; simp (disch := omega) only [jst_eq, jst_ne, jst_ni, jst_o, jI_i, jcpy_out, w32_id, jdiv_nn] at * <;> first | done | omega | assumption) | (intros; first | rfl | (exfalso; omega) | ((repeat' apply And.intro) <;> first | assumption | rfl | omega | trivial))) -- o8 e2m
  · try dsimp only [Sum.elim_inl, Sum.elim_inr, jt2, jt3, jt4, jt5, jt6, jt7, jt8]
    refine ⟨?_, ?_, ?_⟩
    · (first | assumption | omega | ((try dsimp only [jt2, jt3, jt4]); first | omega | (simp (disch := omega) only [jst_eq, jst_ne, jst_ni, jst_o, jI_i, jcpy_out, w32_id, jdiv_nn, jshr_k, jand_255] <;> first | done | omega | assumption)) | (intros; simp (disch := omega) only [jst_eq, jst_ne, jst_ni, jst_o, jI_i, jcpy_out, w32_id, jdiv_nn, *] <;> first | done | omega) | (intros; simp (disch := omega) only [jst_eq, jst_ne, jst_ni, jst_o, jI_i, jcpy_out, w32_id, jdiv_nn] at * <;> first | done | omega | assumption) | (intros; first | rfl | (exfalso; omega) | ((repeat' apply And.intro) <;> first | assumption | rfl | omega | trivial))) -- o9 init.1
    · (intro k k0 k1; omega) -- o10 init.2
    · exact fun _ _ _ => rfl -- o11 init.3
theorem vX14_example_2_j82 (a1 : Int) (a2 : Int) (a3 : Int) (a4 : Int) {h : AH} {e : CE} {c : Int → Int} (he : cuM h e ∧ 0 ≤ e.1 ∧ e.1 < 8) (hv : ∀ r, 0 ≤ r → r < e.1 → (0 ≤ e.2.2.2.1 r ∧ e.2.2.2.1 r ≤ 10) ∧ 1 ≤ e.2.2.2.2 r ∧ e.2.2.2.2 r ≤ 10) (hn : (0 ≤ a2 ∧ a2 ≤ 10) ∧ 1 ≤ a4 - a2 ∧ a4 - a2 ≤ 10) (hi : 0 ≤ a1 ∧ a1 ≤ 1) (hc : ∀ k, 0 ≤ k → k < a4 → h 473 (a1 + k) = c k + 97 ∧ 0 ≤ c k ∧ c k < 26) (h3 : a3 = 0 ∨ (a3 = 1 ∧ lgM h ∧ rmM h (a4 + 1) ∧ h 471 (-2) = 101 ∧ h 471 (-1) = 4000)) : OK (gX14_example_2_j82 a1 a2 a3 a4 h) (fun r => jt2 r fun v h' => (v = e.1 + 1 ∧ cuM h' (addE e c (fun k => c (k + a2)) a2 (a4 - a2))) ∧ (a3 = 1 → reM h h' 6 (fun k => if k = 0 then a2 else c (k - 1) + 97) (a4 + 1)) ∧ (∀ a s, ¬ (a = 454 ∧ (s = 109 ∨ (a3 = 1 ∧ (s = 154 ∨ s = 156)))) → ¬ (((817 ≤ a ∧ a ≤ 820) ∨ a = 471) ∧ 0 ≤ s) → ¬ (a3 = 1 ∧ a = 872 ∧ h 454 156 ≤ s) → h' a s = h a s)) := by
  unfold gX14_example_2_j82
  refine OK_if (fun c1 => ?_) (fun c1 => ?_)
  · skip
    try simp (disch := omega) only [jst_eq, jst_ne, jst_ni, jI_i, jcmp_lt, jcmp_gt, w32_id, jcpy_out, Sum.elim_inl, Sum.elim_inr, jt2, jt3, jt4, jt5, jt6, jt7, jt8] at c1
    refine OK_mono (vX14_example_2_j142 (e := e) (c := c) _ _ _ (by exact he) (by (first | assumption | omega | ((try dsimp only [jt2, jt3, jt4]); first | omega | (simp (disch := omega) only [jst_eq, jst_ne, jst_ni, jst_o, jI_i, jcpy_out, w32_id, jdiv_nn, jshr_k, jand_255] <;> first | done | omega | assumption)) | (intros; simp (disch := omega) only [jst_eq, jst_ne, jst_ni, jst_o, jI_i, jcpy_out, w32_id, jdiv_nn, *] <;> first | done | omega) | (intros; simp (disch := omega) only [jst_eq, jst_ne, jst_ni, jst_o, jI_i, jcpy_out, w32_id, jdiv_nn] at * <;> first | done | omega | assumption) | (intros; first | rfl | (exfalso; omega) | ((repeat' apply And.intro) <;> first | assumption | rfl | omega | trivial)))) (by (first | assumption | omega | ((try dsimp only [jt2, jt3, jt4]); first | omega | (simp (disch := omega) only [jst_eq, jst_ne, jst_ni, jst_o, jI_i, jcpy_out, w32_id, jdiv_nn, jshr_k, jand_255] <;> first | done | omega | assumption)) | (intros; simp (disch := omega) only [jst_eq, jst_ne, jst_ni, jst_o, jI_i, jcpy_out, w32_id, jdiv_nn, *] <;> first | done | omega) | (intros; simp (disch := omega) only [jst_eq, jst_ne, jst_ni, jst_o, jI_i, jcpy_out, w32_id, jdiv_nn] at * <;> first | done | omega | assumption) | (intros; first | rfl | (exfalso; omega) | ((repeat' apply And.intro) <;> first | assumption | rfl | omega | trivial)))) (by (first | assumption | omega | ((try dsimp only [jt2, jt3, jt4]); first | omega | (simp (disch := omega) only [jst_eq, jst_ne, jst_ni, jst_o, jI_i, jcpy_out, w32_id, jdiv_nn, jshr_k, jand_255] <;> first | done | omega | assumption)) | (intros; simp (disch := omega) only [jst_eq, jst_ne, jst_ni, jst_o, jI_i, jcpy_out, w32_id, jdiv_nn, *] <;> first | done | omega) | (intros; simp (disch := omega) only [jst_eq, jst_ne, jst_ni, jst_o, jI_i, jcpy_out, w32_id, jdiv_nn] at * <;> first | done | omega | assumption) | (intros; first | rfl | (exfalso; omega) | ((repeat' apply And.intro) <;> first | assumption | rfl | omega | trivial)))) (by exact hc)) (fun r r1 => ?_)
    obtain ⟨y1, y2⟩ := r
    try dsimp only [Sum.elim_inl, Sum.elim_inr, jt2, jt3, jt4, jt5, jt6, jt7, jt8] at r1
    obtain ⟨ad1, fr1⟩ := r1
    try simp (disch := omega) only [jst_eq, jst_ne, jst_ni, jI_i, jcmp_lt, jcmp_gt, w32_id, jcpy_out, Sum.elim_inl, Sum.elim_inr, jt2, jt3, jt4, jt5, jt6, jt7, jt8] at ad1
    try simp (disch := omega) only [jst_eq, jst_ne, jst_ni, jI_i, jcmp_lt, jcmp_gt, w32_id, jcpy_out, Sum.elim_inl, Sum.elim_inr, jt2, jt3, jt4, jt5, jt6, jt7, jt8] at fr1
    try dsimp only [Sum.elim_inl, Sum.elim_inr, jt2, jt3, jt4, jt5, jt6, jt7, jt8]
    try dsimp only [Sum.elim_inl, Sum.elim_inr, jt2, jt3, jt4, jt5, jt6, jt7, jt8]
    refine ⟨?_, ?_, ?_⟩
    · assumption -- o6 e1.1
    · (intro z; omega) -- o7 e1.2
    · (have F1 : ∀ a s, ¬ (a = 454 ∧ s = 109) → ¬ (817 ≤ a ∧ a ≤ 820 ∧ 0 ≤ s) → y2 a s = h a s := (by assumption); exact fun a s y1 y2 y3 => F1 a s (by omega) (by omega)) -- o8 e1.3
  · skip
    try simp (disch := omega) only [jst_eq, jst_ne, jst_ni, jI_i, jcmp_lt, jcmp_gt, w32_id, jcpy_out, Sum.elim_inl, Sum.elim_inr, jt2, jt3, jt4, jt5, jt6, jt7, jt8] at c1
    have H3 := (h3.resolve_left c1).2
    have H4 := H3.1
    have H5 := H3.2.1
    unfold lgM at H4
    unfold rmM at H5
    refine OK_jl ?_
    refine OK_jb (vX14_example_2_l96 _ _ _ _ (by omega) (by rfl)) (fun o19 r2 => ?_)
    try dsimp only [Sum.elim_inl, Sum.elim_inr, jt2, jt3, jt4, jt5, jt6, jt7, jt8] at r2
    obtain ⟨q12, fr2⟩ := r2
    try simp (disch := omega) only [jst_eq, jst_ne, jst_ni, jI_i, jcmp_lt, jcmp_gt, w32_id, jcpy_out, Sum.elim_inl, Sum.elim_inr, jt2, jt3, jt4, jt5, jt6, jt7, jt8] at q12
    try simp (disch := omega) only [jst_eq, jst_ne, jst_ni, jI_i, jcmp_lt, jcmp_gt, w32_id, jcpy_out, Sum.elim_inl, Sum.elim_inr, jt2, jt3, jt4, jt5, jt6, jt7, jt8] at fr2
    have F19 : ∀ a x, ¬ (a = 471 ∧ 0 ≤ x) → o19 a x = h a x := fun a x y => by { have z : ∀ a x, ¬ (a = 471 ∧ 1 ≤ x) → o19 a x = jst h 471 0 a2 a x := (by assumption); rw [z a x (by omega), jst_o (by omega)] }
    have G19 : o19 471 0 = a2 := by { have z : ∀ a x, ¬ (a = 471 ∧ 1 ≤ x) → o19 a x = jst h 471 0 a2 a x := (by assumption); rw [z _ _ (by omega), jst_eq] }
    have Q19 : ∀ k, 0 ≤ k → k < a4 → o19 471 (1 + k) = c k + 97 := fun k k0 k1 => by { have z : ∀ k, 0 ≤ k → k < a4 → o19 471 (1 + k) = jst h 471 0 a2 473 (a1 + k) := (by assumption); rw [z k k0 k1, jst_ne (by decide)]; exact (hc k k0 k1).1 }
    have W1 : w32 (a4 + 1) = a4 + 1 := w32_id (by omega) (by omega)
    rw [W1]
    refine OK_jb (vX14_record _ _ _ _ (by (rw [F19 _ _ (by omega), F19 _ _ (by omega), H3.2.2.1, H3.2.2.2]; omega)) (by omega) (by (rw [F19 _ _ (by omega)]; omega)) (by (rw [F19 _ _ (by omega)]; omega))) (fun h22 r3 => ?_)
    try dsimp only [Sum.elim_inl, Sum.elim_inr, jt2, jt3, jt4, jt5, jt6, jt7, jt8] at r3
    obtain ⟨z3, n3, b03, b13, b23, b33, fr3⟩ := r3
    try simp (disch := omega) only [jst_eq, jst_ne, jst_ni, jI_i, jcmp_lt, jcmp_gt, w32_id, jcpy_out, Sum.elim_inl, Sum.elim_inr, jt2, jt3, jt4, jt5, jt6, jt7, jt8] at z3
    try simp (disch := omega) only [jst_eq, jst_ne, jst_ni, jI_i, jcmp_lt, jcmp_gt, w32_id, jcpy_out, Sum.elim_inl, Sum.elim_inr, jt2, jt3, jt4, jt5, jt6, jt7, jt8] at n3
    try simp (disch := omega) only [jst_eq, jst_ne, jst_ni, jI_i, jcmp_lt, jcmp_gt, w32_id, jcpy_out, Sum.elim_inl, Sum.elim_inr, jt2, jt3, jt4, jt5, jt6, jt7, jt8] at b03
    try simp (disch := omega) only [jst_eq, jst_ne, jst_ni, jI_i, jcmp_lt, jcmp_gt, w32_id, jcpy_out, Sum.elim_inl, Sum.elim_inr, jt2, jt3, jt4, jt5, jt6, jt7, jt8] at b13
    try simp (disch := omega) only [jst_eq, jst_ne, jst_ni, jI_i, jcmp_lt, jcmp_gt, w32_id, jcpy_out, Sum.elim_inl, Sum.elim_inr, jt2, jt3, jt4, jt5, jt6, jt7, jt8] at b23
    try simp (disch := omega) only [jst_eq, jst_ne, jst_ni, jI_i, jcmp_lt, jcmp_gt, w32_id, jcpy_out, Sum.elim_inl, Sum.elim_inr, jt2, jt3, jt4, jt5, jt6, jt7, jt8] at b33
    try simp (disch := omega) only [jst_eq, jst_ne, jst_ni, jI_i, jcmp_lt, jcmp_gt, w32_id, jcpy_out, Sum.elim_inl, Sum.elim_inr, jt2, jt3, jt4, jt5, jt6, jt7, jt8] at fr3
    have N0 : o19 454 156 = h 454 156 := F19 _ _ (by omega)
    have N1 : o19 454 154 = h 454 154 := F19 _ _ (by omega)
    have F22 : ∀ a s, ¬ (a = 471 ∧ 0 ≤ s) → ¬ (a = 454 ∧ (s = 154 ∨ s = 156)) → ¬ (a = 872 ∧ h 454 156 ≤ s) → h22 a s = h a s := fun a s y1 y2 y3 => by { rw [fr3 a s y2 (by omega)]; exact F19 a s y1 }
    have RE : reM h h22 6 (fun k => if k = 0 then a2 else c (k - 1) + 97) (a4 + 1) := ⟨by omega, by omega, ⟨by rw [← N0]; exact b03, by rw [← N0, b13, Int.sub_zero], by rw [← N0, b23, Int.sub_zero]⟩, fun k k0 k1 => by rw [← N0, b33 k k0 (by omega), Int.zero_add]; dsimp only; by_cases y : k = 0; { rw [if_pos y, y]; exact G19 }; { rw [if_neg y, show k = 1 + (k - 1) by omega, Q19 (k - 1) (by omega) (by omega), show 1 + (k - 1) - 1 = k - 1 by omega] }⟩
    refine OK_mono (vX14_example_2_j142 (e := e) (c := c) _ _ _ (by exact ⟨cuM_f he.1 (fun a s y => F22 a s (by omega) (by omega) (by omega)), he.2⟩) (by exact hv) (by exact hn) (by exact hi) (by (intro k k0 k1; rw [F22 _ _ (by omega) (by omega) (by omega)]; exact hc k k0 k1))) (fun r r4 => ?_)
    obtain ⟨y3, y4⟩ := r
    try dsimp only [Sum.elim_inl, Sum.elim_inr, jt2, jt3, jt4, jt5, jt6, jt7, jt8] at r4
    obtain ⟨ad4, fr4⟩ := r4
    try simp (disch := omega) only [jst_eq, jst_ne, jst_ni, jI_i, jcmp_lt, jcmp_gt, w32_id, jcpy_out, Sum.elim_inl, Sum.elim_inr, jt2, jt3, jt4, jt5, jt6, jt7, jt8] at ad4
    try simp (disch := omega) only [jst_eq, jst_ne, jst_ni, jI_i, jcmp_lt, jcmp_gt, w32_id, jcpy_out, Sum.elim_inl, Sum.elim_inr, jt2, jt3, jt4, jt5, jt6, jt7, jt8] at fr4
    try dsimp only [Sum.elim_inl, Sum.elim_inr, jt2, jt3, jt4, jt5, jt6, jt7, jt8]
    try dsimp only [Sum.elim_inl, Sum.elim_inr, jt2, jt3, jt4, jt5, jt6, jt7, jt8]
    refine ⟨?_, ?_, ?_⟩
    · assumption -- o20 e2.1
    · (have F1 : ∀ a s, ¬ (a = 454 ∧ s = 109) → ¬ (817 ≤ a ∧ a ≤ 820 ∧ 0 ≤ s) → y4 a s = h22 a s := (by assumption); intro _; obtain ⟨r1, r2, ⟨r3, r4, r5⟩, r6⟩ := RE; exact ⟨by rw [F1 _ _ (by omega) (by omega)]; exact r1, by rw [F1 _ _ (by omega) (by omega)]; exact r2, ⟨by rw [F1 _ _ (by omega) (by omega)]; exact r3, by rw [F1 _ _ (by omega) (by omega)]; exact r4, by rw [F1 _ _ (by omega) (by omega)]; exact r5⟩, fun k k0 k1 => by rw [F1 _ _ (by omega) (by omega)]; exact r6 k k0 k1⟩) -- o21 e2.2
    · (have F1 : ∀ a s, ¬ (a = 454 ∧ s = 109) → ¬ (817 ≤ a ∧ a ≤ 820 ∧ 0 ≤ s) → y4 a s = h22 a s := (by assumption); have c9 : a3 = 1 := (by omega); exact fun a s y1 y2 y3 => by rw [F1 a s (by omega) (by omega)]; exact F22 a s (by omega) (by omega) (by omega)) -- o22 e2.3
def exG (B : Int → Int) (a n N : Int) : Prop := (0 ≤ n ∧ n ≤ 10) ∧ (1 ≤ N - n ∧ N - n ≤ 10) ∧ wtA B a (a + N)
theorem vX14_example_2 (a1 : Int) (a2 : Int) (a3 : Int) {h : AH} {e : CE} {N : Int} (he : cuM h e ∧ 0 ≤ e.1 ∧ e.1 ≤ 8) (hv : ∀ r, 0 ≤ r → r < e.1 → (0 ≤ e.2.2.2.1 r ∧ e.2.2.2.1 r ≤ 10) ∧ 1 ≤ e.2.2.2.2 r ∧ e.2.2.2.2 r ≤ 10) (hi : 0 ≤ a1 ∧ a1 ≤ 1) (hN : N = h 454 25 - a1 ∧ 0 ≤ h 454 25 ∧ h 454 25 ≤ 2000) (hr : -2147483648 ≤ a2 ∧ a2 ≤ 2147483647) (h3 : a3 = 0 ∨ (a3 = 1 ∧ lgM h ∧ h 471 (-2) = 101 ∧ h 471 (-1) = 4000)) : OK (gX14_example_2 a1 a2 a3 h) (fun r => jt2 r fun v h' => ((¬ exG (h 473) a1 a2 N ∧ v = -1 ∧ h' = h) ∨ (exG (h 473) a1 a2 N ∧ (e.1 = 8 ∨ (a3 = 1 ∧ ¬ rmM h (N + 1))) ∧ v = -3 ∧ h' = h) ∨ (exG (h 473) a1 a2 N ∧ e.1 < 8 ∧ (a3 = 1 → rmM h (N + 1)) ∧ v = e.1 + 1 ∧ cuM h' (addE e (fun k => h 473 (a1 + k) - 97) (fun k => h 473 (a1 + (k + a2)) - 97) a2 (N - a2)) ∧ (a3 = 1 → reM h h' 6 (fun k => if k = 0 then a2 else h 473 (a1 + (k - 1)) - 97 + 97) (N + 1)))) ∧ (∀ a s, ¬ (a = 454 ∧ (s = 109 ∨ (a3 = 1 ∧ (s = 154 ∨ s = 156)))) → ¬ (((817 ≤ a ∧ a ≤ 820) ∨ a = 471) ∧ 0 ≤ s) → ¬ (a3 = 1 ∧ a = 872 ∧ h 454 156 ≤ s) → h' a s = h a s)) := by
  have E9 := he.1.1
  unfold gX14_example_2
  refine OK_jlx (fun x1 ex1 => ?_)
  try simp (disch := omega) only [jst_eq, jst_ne, jst_ni, jI_i, jcmp_lt, jcmp_gt, w32_id, jcpy_out, Sum.elim_inl, Sum.elim_inr, jt2, jt3, jt4, jt5, jt6, jt7, jt8] at ex1
  have X1 : x1 = N := by { rw [ex1, hN.1]; first | done | rfl | exact w32_id (by omega) (by omega) }
  rw [X1]
  refine OK_jb (vX14_in _ _ _) (fun v3 r1 => ?_)
  try dsimp only [Sum.elim_inl, Sum.elim_inr, jt2, jt3, jt4, jt5, jt6, jt7, jt8] at r1
  have v1 := r1
  clear r1
  try simp (disch := omega) only [jst_eq, jst_ne, jst_ni, jI_i, jcmp_lt, jcmp_gt, w32_id, jcpy_out, Sum.elim_inl, Sum.elim_inr, jt2, jt3, jt4, jt5, jt6, jt7, jt8] at v1
  refine OK_if (fun c1 => ?_) (fun c1 => ?_)
  · skip
    try simp (disch := omega) only [jst_eq, jst_ne, jst_ni, jI_i, jcmp_lt, jcmp_gt, w32_id, jcpy_out, Sum.elim_inl, Sum.elim_inr, jt2, jt3, jt4, jt5, jt6, jt7, jt8] at c1
    refine OK_some ?_
    try dsimp only [Sum.elim_inl, Sum.elim_inr, jt2, jt3, jt4, jt5, jt6, jt7, jt8]
    try dsimp only [Sum.elim_inl, Sum.elim_inr, jt2, jt3, jt4, jt5, jt6, jt7, jt8]
    refine ⟨?_, ?_⟩
    · exact Or.inl ⟨fun z => by have := z.1; omega, rfl, rfl⟩ -- o1 e1.1
    · exact fun _ _ _ _ _ => rfl -- o2 e1.2
  · skip
    try simp (disch := omega) only [jst_eq, jst_ne, jst_ni, jI_i, jcmp_lt, jcmp_gt, w32_id, jcpy_out, Sum.elim_inl, Sum.elim_inr, jt2, jt3, jt4, jt5, jt6, jt7, jt8] at c1
    refine OK_if (fun c2 => ?_) (fun c2 => ?_)
    · skip
      try simp (disch := omega) only [jst_eq, jst_ne, jst_ni, jI_i, jcmp_lt, jcmp_gt, w32_id, jcpy_out, Sum.elim_inl, Sum.elim_inr, jt2, jt3, jt4, jt5, jt6, jt7, jt8] at c2
      refine OK_some ?_
      try dsimp only [Sum.elim_inl, Sum.elim_inr, jt2, jt3, jt4, jt5, jt6, jt7, jt8]
      try dsimp only [Sum.elim_inl, Sum.elim_inr, jt2, jt3, jt4, jt5, jt6, jt7, jt8]
      refine ⟨?_, ?_⟩
      · exact Or.inl ⟨fun z => by have := z.2.1; omega, rfl, rfl⟩ -- o3 e2.1
      · exact fun _ _ _ _ _ => rfl -- o4 e2.2
    · skip
      try simp (disch := omega) only [jst_eq, jst_ne, jst_ni, jI_i, jcmp_lt, jcmp_gt, w32_id, jcpy_out, Sum.elim_inl, Sum.elim_inr, jt2, jt3, jt4, jt5, jt6, jt7, jt8] at c2
      have W2 : w32 (N - a2) = N - a2 := w32_id (by omega) (by omega)
      rw [W2]
      refine OK_jb (vX14_in _ _ _) (fun v7 r2 => ?_)
      try dsimp only [Sum.elim_inl, Sum.elim_inr, jt2, jt3, jt4, jt5, jt6, jt7, jt8] at r2
      have v2 := r2
      clear r2
      try simp (disch := omega) only [jst_eq, jst_ne, jst_ni, jI_i, jcmp_lt, jcmp_gt, w32_id, jcpy_out, Sum.elim_inl, Sum.elim_inr, jt2, jt3, jt4, jt5, jt6, jt7, jt8] at v2
      refine OK_if (fun c3 => ?_) (fun c3 => ?_)
      · skip
        try simp (disch := omega) only [jst_eq, jst_ne, jst_ni, jI_i, jcmp_lt, jcmp_gt, w32_id, jcpy_out, Sum.elim_inl, Sum.elim_inr, jt2, jt3, jt4, jt5, jt6, jt7, jt8] at c3
        refine OK_some ?_
        try dsimp only [Sum.elim_inl, Sum.elim_inr, jt2, jt3, jt4, jt5, jt6, jt7, jt8]
        try dsimp only [Sum.elim_inl, Sum.elim_inr, jt2, jt3, jt4, jt5, jt6, jt7, jt8]
        refine ⟨?_, ?_⟩
        · exact Or.inl ⟨fun z => by have := z.2.1; omega, rfl, rfl⟩ -- o5 e3.1
        · exact fun _ _ _ _ _ => rfl -- o6 e3.2
      · skip
        try simp (disch := omega) only [jst_eq, jst_ne, jst_ni, jI_i, jcmp_lt, jcmp_gt, w32_id, jcpy_out, Sum.elim_inl, Sum.elim_inr, jt2, jt3, jt4, jt5, jt6, jt7, jt8] at c3
        refine OK_jb (vX14_isWordText _ _ (by omega)) (fun v10 r3 => ?_)
        try dsimp only [Sum.elim_inl, Sum.elim_inr, jt2, jt3, jt4, jt5, jt6, jt7, jt8] at r3
        have wt3 := r3
        clear r3
        try simp (disch := omega) only [jst_eq, jst_ne, jst_ni, jI_i, jcmp_lt, jcmp_gt, w32_id, jcpy_out, Sum.elim_inl, Sum.elim_inr, jt2, jt3, jt4, jt5, jt6, jt7, jt8] at wt3
        have WT : (v10 = 1 ∧ exG (h 473) a1 a2 N) ∨ (v10 = 0 ∧ ¬ exG (h 473) a1 a2 N) := by { have e9 : h 454 25 = a1 + N := (by omega); rw [e9] at wt3; rcases wt3 with z | z; { exact Or.inl ⟨z.1, by omega, by omega, z.2⟩ }; { exact Or.inr ⟨z.1, fun y => z.2 y.2.2⟩ } }
        refine OK_if (fun c4 => ?_) (fun c4 => ?_)
        · skip
          try simp (disch := omega) only [jst_eq, jst_ne, jst_ni, jI_i, jcmp_lt, jcmp_gt, w32_id, jcpy_out, Sum.elim_inl, Sum.elim_inr, jt2, jt3, jt4, jt5, jt6, jt7, jt8] at c4
          refine OK_some ?_
          try dsimp only [Sum.elim_inl, Sum.elim_inr, jt2, jt3, jt4, jt5, jt6, jt7, jt8]
          try dsimp only [Sum.elim_inl, Sum.elim_inr, jt2, jt3, jt4, jt5, jt6, jt7, jt8]
          refine ⟨?_, ?_⟩
          · (rcases WT with z | z; { omega }; { exact Or.inl ⟨z.2, rfl, rfl⟩ }) -- o8 e4.1
          · exact fun _ _ _ _ _ => rfl -- o9 e4.2
        · skip
          try simp (disch := omega) only [jst_eq, jst_ne, jst_ni, jI_i, jcmp_lt, jcmp_gt, w32_id, jcpy_out, Sum.elim_inl, Sum.elim_inr, jt2, jt3, jt4, jt5, jt6, jt7, jt8] at c4
          have EX := (WT.resolve_right (fun z => c4 z.1)).2
          refine OK_if (fun c5 => ?_) (fun c5 => ?_)
          · skip
            try simp (disch := omega) only [jst_eq, jst_ne, jst_ni, jI_i, jcmp_lt, jcmp_gt, w32_id, jcpy_out, Sum.elim_inl, Sum.elim_inr, jt2, jt3, jt4, jt5, jt6, jt7, jt8] at c5
            refine OK_some ?_
            try dsimp only [Sum.elim_inl, Sum.elim_inr, jt2, jt3, jt4, jt5, jt6, jt7, jt8]
            try dsimp only [Sum.elim_inl, Sum.elim_inr, jt2, jt3, jt4, jt5, jt6, jt7, jt8]
            refine ⟨?_, ?_⟩
            · exact Or.inr (Or.inl ⟨EX, Or.inl (by omega), rfl, rfl⟩) -- o10 e5.1
            · exact fun _ _ _ _ _ => rfl -- o11 e5.2
          · skip
            try simp (disch := omega) only [jst_eq, jst_ne, jst_ni, jI_i, jcmp_lt, jcmp_gt, w32_id, jcpy_out, Sum.elim_inl, Sum.elim_inr, jt2, jt3, jt4, jt5, jt6, jt7, jt8] at c5
            have HC : ∀ k, 0 ≤ k → k < N → h 473 (a1 + k) = (fun k => h 473 (a1 + k) - 97) k + 97 ∧ 0 ≤ (fun k => h 473 (a1 + k) - 97) k ∧ (fun k => h 473 (a1 + k) - 97) k < 26 := fun k k0 k1 => by { have := isL_r (EX.2.2 (a1 + k) (by omega) (by omega)); dsimp only; omega }
            refine OK_if (fun c6 => ?_) (fun c6 => ?_)
            · skip
              try simp (disch := omega) only [jst_eq, jst_ne, jst_ni, jI_i, jcmp_lt, jcmp_gt, w32_id, jcpy_out, Sum.elim_inl, Sum.elim_inr, jt2, jt3, jt4, jt5, jt6, jt7, jt8] at c6
              refine OK_mono (vX14_example_2_j82 (e := e) (c := fun k => h 473 (a1 + k) - 97) _ _ _ _ (by exact ⟨he.1, he.2.1, by omega⟩) (by exact hv) (by (first | assumption | omega | ((try dsimp only [jt2, jt3, jt4]); first | omega | (simp (disch := omega) only [jst_eq, jst_ne, jst_ni, jst_o, jI_i, jcpy_out, w32_id, jdiv_nn, jshr_k, jand_255] <;> first | done | omega | assumption)) | (intros; simp (disch := omega) only [jst_eq, jst_ne, jst_ni, jst_o, jI_i, jcpy_out, w32_id, jdiv_nn, *] <;> first | done | omega) | (intros; simp (disch := omega) only [jst_eq, jst_ne, jst_ni, jst_o, jI_i, jcpy_out, w32_id, jdiv_nn] at * <;> first | done | omega | assumption) | (intros; first | rfl | (exfalso; omega) | ((repeat' apply And.intro) <;> first | assumption | rfl | omega | trivial)))) (by (first | assumption | omega | ((try dsimp only [jt2, jt3, jt4]); first | omega | (simp (disch := omega) only [jst_eq, jst_ne, jst_ni, jst_o, jI_i, jcpy_out, w32_id, jdiv_nn, jshr_k, jand_255] <;> first | done | omega | assumption)) | (intros; simp (disch := omega) only [jst_eq, jst_ne, jst_ni, jst_o, jI_i, jcpy_out, w32_id, jdiv_nn, *] <;> first | done | omega) | (intros; simp (disch := omega) only [jst_eq, jst_ne, jst_ni, jst_o, jI_i, jcpy_out, w32_id, jdiv_nn] at * <;> first | done | omega | assumption) | (intros; first | rfl | (exfalso; omega) | ((repeat' apply And.intro) <;> first | assumption | rfl | omega | trivial)))) (by exact HC) (by exact Or.inl c6)) (fun r r4 => ?_)
              obtain ⟨y1, y2⟩ := r
              try dsimp only [Sum.elim_inl, Sum.elim_inr, jt2, jt3, jt4, jt5, jt6, jt7, jt8] at r4
              obtain ⟨ad4, re4, fr4⟩ := r4
              try simp (disch := omega) only [jst_eq, jst_ne, jst_ni, jI_i, jcmp_lt, jcmp_gt, w32_id, jcpy_out, Sum.elim_inl, Sum.elim_inr, jt2, jt3, jt4, jt5, jt6, jt7, jt8] at ad4
              try simp (disch := omega) only [jst_eq, jst_ne, jst_ni, jI_i, jcmp_lt, jcmp_gt, w32_id, jcpy_out, Sum.elim_inl, Sum.elim_inr, jt2, jt3, jt4, jt5, jt6, jt7, jt8] at re4
              try simp (disch := omega) only [jst_eq, jst_ne, jst_ni, jI_i, jcmp_lt, jcmp_gt, w32_id, jcpy_out, Sum.elim_inl, Sum.elim_inr, jt2, jt3, jt4, jt5, jt6, jt7, jt8] at fr4
              try dsimp only [Sum.elim_inl, Sum.elim_inr, jt2, jt3, jt4, jt5, jt6, jt7, jt8]
              try dsimp only [Sum.elim_inl, Sum.elim_inr, jt2, jt3, jt4, jt5, jt6, jt7, jt8]
              refine ⟨?_, ?_⟩
              · exact Or.inr (Or.inr ⟨EX, by omega, fun z => by omega, ad4.1, ad4.2, fun z => by omega⟩) -- o18 e6.1
              · (first | assumption | omega | ((try dsimp only [jt2, jt3, jt4]); first | omega | (simp (disch := omega) only [jst_eq, jst_ne, jst_ni, jst_o, jI_i, jcpy_out, w32_id, jdiv_nn, jshr_k, jand_255] <;> first | done | omega | assumption)) | (intros; simp (disch := omega) only [jst_eq, jst_ne, jst_ni, jst_o, jI_i, jcpy_out, w32_id, jdiv_nn, *] <;> first | done | omega) | (intros; simp (disch := omega) only [jst_eq, jst_ne, jst_ni, jst_o, jI_i, jcpy_out, w32_id, jdiv_nn] at * <;> first | done | omega | assumption) | (intros; first | rfl | (exfalso; omega) | ((repeat' apply And.intro) <;> first | assumption | rfl | omega | trivial))) -- o19 e6.2
            · skip
              try simp (disch := omega) only [jst_eq, jst_ne, jst_ni, jI_i, jcmp_lt, jcmp_gt, w32_id, jcpy_out, Sum.elim_inl, Sum.elim_inr, jt2, jt3, jt4, jt5, jt6, jt7, jt8] at c6
              have H3 := (h3.resolve_left c6)
              have H4 := H3.2.1
              unfold lgM at H4
              have W3 : w32 (N + 1) = N + 1 := w32_id (by omega) (by omega)
              rw [W3]
              refine OK_jb (vX14_hasRoom _ (by omega) (by omega) (by omega)) (fun v15 r5 => ?_)
              try dsimp only [Sum.elim_inl, Sum.elim_inr, jt2, jt3, jt4, jt5, jt6, jt7, jt8] at r5
              have hr5 := r5
              clear r5
              try simp (disch := omega) only [jst_eq, jst_ne, jst_ni, jI_i, jcmp_lt, jcmp_gt, w32_id, jcpy_out, Sum.elim_inl, Sum.elim_inr, jt2, jt3, jt4, jt5, jt6, jt7, jt8] at hr5
              refine OK_if (fun c7 => ?_) (fun c7 => ?_)
              · skip
                try simp (disch := omega) only [jst_eq, jst_ne, jst_ni, jI_i, jcmp_lt, jcmp_gt, w32_id, jcpy_out, Sum.elim_inl, Sum.elim_inr, jt2, jt3, jt4, jt5, jt6, jt7, jt8] at c7
                refine OK_some ?_
                try dsimp only [Sum.elim_inl, Sum.elim_inr, jt2, jt3, jt4, jt5, jt6, jt7, jt8]
                try dsimp only [Sum.elim_inl, Sum.elim_inr, jt2, jt3, jt4, jt5, jt6, jt7, jt8]
                refine ⟨?_, ?_⟩
                · exact Or.inr (Or.inl ⟨EX, Or.inr ⟨H3.1, by unfold rmM; omega⟩, rfl, rfl⟩) -- o23 e7.1
                · exact fun _ _ _ _ _ => rfl -- o24 e7.2
              · skip
                try simp (disch := omega) only [jst_eq, jst_ne, jst_ni, jI_i, jcmp_lt, jcmp_gt, w32_id, jcpy_out, Sum.elim_inl, Sum.elim_inr, jt2, jt3, jt4, jt5, jt6, jt7, jt8] at c7
                refine OK_mono (vX14_example_2_j82 (e := e) (c := fun k => h 473 (a1 + k) - 97) _ _ _ _ (by exact ⟨he.1, he.2.1, by omega⟩) (by exact hv) (by (first | assumption | omega | ((try dsimp only [jt2, jt3, jt4]); first | omega | (simp (disch := omega) only [jst_eq, jst_ne, jst_ni, jst_o, jI_i, jcpy_out, w32_id, jdiv_nn, jshr_k, jand_255] <;> first | done | omega | assumption)) | (intros; simp (disch := omega) only [jst_eq, jst_ne, jst_ni, jst_o, jI_i, jcpy_out, w32_id, jdiv_nn, *] <;> first | done | omega) | (intros; simp (disch := omega) only [jst_eq, jst_ne, jst_ni, jst_o, jI_i, jcpy_out, w32_id, jdiv_nn] at * <;> first | done | omega | assumption) | (intros; first | rfl | (exfalso; omega) | ((repeat' apply And.intro) <;> first | assumption | rfl | omega | trivial)))) (by (first | assumption | omega | ((try dsimp only [jt2, jt3, jt4]); first | omega | (simp (disch := omega) only [jst_eq, jst_ne, jst_ni, jst_o, jI_i, jcpy_out, w32_id, jdiv_nn, jshr_k, jand_255] <;> first | done | omega | assumption)) | (intros; simp (disch := omega) only [jst_eq, jst_ne, jst_ni, jst_o, jI_i, jcpy_out, w32_id, jdiv_nn, *] <;> first | done | omega) | (intros; simp (disch := omega) only [jst_eq, jst_ne, jst_ni, jst_o, jI_i, jcpy_out, w32_id, jdiv_nn] at * <;> first | done | omega | assumption) | (intros; first | rfl | (exfalso; omega) | ((repeat' apply And.intro) <;> first | assumption | rfl | omega | trivial)))) (by exact HC) (by (right; refine ⟨H3.1, H3.2.1, ?_, H3.2.2⟩; unfold rmM; omega))) (fun r r6 => ?_)
                obtain ⟨y3, y4⟩ := r
                try dsimp only [Sum.elim_inl, Sum.elim_inr, jt2, jt3, jt4, jt5, jt6, jt7, jt8] at r6
                obtain ⟨ad6, re6, fr6⟩ := r6
                try simp (disch := omega) only [jst_eq, jst_ne, jst_ni, jI_i, jcmp_lt, jcmp_gt, w32_id, jcpy_out, Sum.elim_inl, Sum.elim_inr, jt2, jt3, jt4, jt5, jt6, jt7, jt8] at ad6
                try simp (disch := omega) only [jst_eq, jst_ne, jst_ni, jI_i, jcmp_lt, jcmp_gt, w32_id, jcpy_out, Sum.elim_inl, Sum.elim_inr, jt2, jt3, jt4, jt5, jt6, jt7, jt8] at re6
                try simp (disch := omega) only [jst_eq, jst_ne, jst_ni, jI_i, jcmp_lt, jcmp_gt, w32_id, jcpy_out, Sum.elim_inl, Sum.elim_inr, jt2, jt3, jt4, jt5, jt6, jt7, jt8] at fr6
                try dsimp only [Sum.elim_inl, Sum.elim_inr, jt2, jt3, jt4, jt5, jt6, jt7, jt8]
                try dsimp only [Sum.elim_inl, Sum.elim_inr, jt2, jt3, jt4, jt5, jt6, jt7, jt8]
                refine ⟨?_, ?_⟩
                · exact Or.inr (Or.inr ⟨EX, by omega, fun _ => by unfold rmM; omega, ad6.1, ad6.2, re6⟩) -- o31 e8.1
                · (first | assumption | omega | ((try dsimp only [jt2, jt3, jt4]); first | omega | (simp (disch := omega) only [jst_eq, jst_ne, jst_ni, jst_o, jI_i, jcpy_out, w32_id, jdiv_nn, jshr_k, jand_255] <;> first | done | omega | assumption)) | (intros; simp (disch := omega) only [jst_eq, jst_ne, jst_ni, jst_o, jI_i, jcpy_out, w32_id, jdiv_nn, *] <;> first | done | omega) | (intros; simp (disch := omega) only [jst_eq, jst_ne, jst_ni, jst_o, jI_i, jcpy_out, w32_id, jdiv_nn] at * <;> first | done | omega | assumption) | (intros; first | rfl | (exfalso; omega) | ((repeat' apply And.intro) <;> first | assumption | rfl | omega | trivial))) -- o32 e8.2

