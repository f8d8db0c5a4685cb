/-! x: rows of examples -/
def addE (e : CE) (f g : Int → Int) (n m : Int) : CE := (e.1 + 1, (fun r k => if r = e.1 then f k else e.2.1 r k), (fun r k => if r = e.1 then g k else e.2.2.1 r k), (fun r => if r = e.1 then n else e.2.2.2.1 r), fun r => if r = e.1 then m else e.2.2.2.2 r)
theorem addE_v {e : CE} {f g : Int → Int} {n m : Int} (h : e.1 = 0 ∨ vCE e) (e8 : e.1 < 8) (hn : 0 ≤ n ∧ n ≤ 10) (hm : 1 ≤ m ∧ m ≤ 10) (hf : ∀ k, 0 ≤ k → k < n → 0 ≤ f k ∧ f k < 26) (hg : ∀ k, 0 ≤ k → k < m → 0 ≤ g k ∧ g k < 26) : vCE (addE e f g n m) := by
  have h0 : 0 ≤ e.1 := by
    rcases h with h | h
    · omega
    · have := h.1.1; omega
  refine ⟨by show 1 ≤ e.1 + 1 ∧ e.1 + 1 ≤ 8; omega, fun r r0 r1 => ?_⟩
  have r2 : r < e.1 + 1 := r1
  unfold addE
  dsimp only
  by_cases y : r = e.1
  · simp only [if_pos y]
    exact ⟨hn, hm, hf, hg⟩
  · simp only [if_neg y]
    rcases h with h | h
    · omega
    · exact h.2 r r0 (by omega)
theorem vX9_add_l3 (i1 : Int) (i2 : Int) (i3 : Int) (a40 : Int) {h0 : AH} {c : Int → Int} {R : Int} (hk : h0 i1 (-2) = 103 ∧ i3 ≤ h0 i1 (-1) ∧ i1 ≠ 409 ∧ i1 ≠ 410) (hR : h0 408 0 = R ∧ 0 ≤ R ∧ R < 8) (hn : (0 ≤ i2 ∧ i2 ≤ 10) ∧ 1 ≤ i3 - i2 ∧ i3 - i2 ≤ 10) (hc : ∀ k, 0 ≤ k → k < i3 → h0 i1 k = c k + 97 ∧ 0 ≤ c k ∧ c k < 26) (h4 : a40 = 0) : OK (gX9_add_l3 i1 i2 i3 a40 h0) (fun h' => (∀ s, h' 409 s = if 10 * R ≤ s ∧ s < 10 * R + i2 then c (s - 10 * R) + 97 else h0 409 s) ∧ (∀ s, h' 410 s = if 10 * R ≤ s ∧ s < 10 * R + (i3 - i2) then c (s - 10 * R + i2) + 97 else h0 410 s) ∧ (∀ a s, ¬ (a = 409 ∨ a = 410) → h' a s = h0 a s)) := by
  unfold gX9_add_l3
  refine OK_jit (I := (fun (s : Int × AH) => jt2 s fun a4 h => (0 ≤ a4 ∧ a4 ≤ i3) ∧ (∀ s, h 409 s = if 10 * R ≤ s ∧ s < 10 * R + min a4 i2 then c (s - 10 * R) + 97 else h0 409 s) ∧ (∀ s, h 410 s = if 10 * R ≤ s ∧ s < 10 * R + (a4 - i2) then c (s - 10 * R + i2) + 97 else h0 410 s) ∧ (∀ a s, ¬ (a = 409 ∨ a = 410) → h a s = h0 a s))) (m := (fun (s : Int × AH) => jt2 s fun a4 h => (i3 - a4).toNat)) ?_ ?_
  · intro s hs
    obtain ⟨a4, h⟩ := s
    dsimp only [Sum.elim_inl, Sum.elim_inr, jt2, jt3, jt4, jt5, jt6, jt7, jt8] at hs
    obtain ⟨q0, q1, q2, fr⟩ := hs
    unfold gX9_add_b3
    refine OK_jt2 ?_
    have F0 : h 408 0 = R := by rw [fr _ _ (by omega)]; exact hR.1
    have F1 : ∀ s, h i1 s = h0 i1 s := fun s => fr _ _ (by omega)
    refine OK_if (fun c1 => ?_) (fun c1 => ?_)
    · skip
      try simp (disch := omega) only [jst_eq, jst_ne, jst_ni, jI_i, jcmp_lt, jcmp_gt, w32_id, jcpy_out, Sum.elim_inl, Sum.elim_inr, jt2, jt3, jt4, jt5, jt6, jt7, jt8] at c1
      refine OK_ir ?_
      try dsimp only [Sum.elim_inl, Sum.elim_inr, jt2, jt3, jt4, jt5, jt6, jt7, jt8]
      refine ⟨?_, ?_, ?_⟩
      · (intro s; rw [q1 s, show min a4 i2 = i2 by omega]) -- o1 e1.1
      · (intro s; rw [q2 s, show a4 - i2 = i3 - i2 by omega]) -- o2 e1.2
      · (first | (exact ⟨by rw [F1]; exact hk.1, by unfold jI; rw [F1]; omega⟩) | (first | assumption | omega | ((try dsimp only [jt2, jt3, jt4]); first | omega | (simp (disch := omega) only [jst_eq, jst_ne, jst_ni, jst_o, jI_i, jcpy_out, w32_id, jdiv_nn, jshr_k, jand_255] <;> first | done | omega | assumption)) | (intros; simp (disch := omega) only [jst_eq, jst_ne, jst_ni, jst_o, jI_i, jcpy_out, w32_id, jdiv_nn, *] <;> first | done | omega) | (intros; simp (disch := omega) only [jst_eq, jst_ne, jst_ni, jst_o, jI_i, jcpy_out, w32_id, jdiv_nn] at * <;> first | done | omega | assumption) | (intros; first | rfl | (exfalso; omega) | ((repeat' apply And.intro) <;> first | assumption | rfl | omega | trivial)))) -- o3 e1.3
    · skip
      try simp (disch := omega) only [jst_eq, jst_ne, jst_ni, jI_i, jcmp_lt, jcmp_gt, w32_id, jcpy_out, Sum.elim_inl, Sum.elim_inr, jt2, jt3, jt4, jt5, jt6, jt7, jt8] at c1
      have C := hc a4 q0.1 (by omega)
      have W1 : w32 (w32 (10 * h 408 0) + a4) = 10 * R + a4 := by { rw [F0, w32_id (x := 10 * R) (by omega) (by omega), w32_id (by omega) (by omega)] }
      have W2 : w32 (w32 (w32 (10 * h 408 0) + a4) - i2) = 10 * R + a4 - i2 := by { rw [W1, w32_id (by omega) (by omega)] }
      rw [W1] at W2
      have B1 : ji2b (h i1 a4) = c a4 + 97 := by { rw [F1, C.1]; exact ji2b_id (by omega) (by omega) }
      rw [W1, W2, B1]
      refine OK_if (fun c2 => ?_) (fun c2 => ?_)
      · skip
        try simp (disch := omega) only [jst_eq, jst_ne, jst_ni, jI_i, jcmp_lt, jcmp_gt, w32_id, jcpy_out, Sum.elim_inl, Sum.elim_inr, jt2, jt3, jt4, jt5, jt6, jt7, jt8] at c2
        refine OK_jg (by (first | (exact ⟨by rw [F1]; exact hk.1, by unfold jI; rw [F1]; omega⟩) | (first | assumption | omega | ((try dsimp only [jt2, jt3, jt4]); first | omega | (simp (disch := omega) only [jst_eq, jst_ne, jst_ni, jst_o, jI_i, jcpy_out, w32_id, jdiv_nn, jshr_k, jand_255] <;> first | done | omega | assumption)) | (intros; simp (disch := omega) only [jst_eq, jst_ne, jst_ni, jst_o, jI_i, jcpy_out, w32_id, jdiv_nn, *] <;> first | done | omega) | (intros; simp (disch := omega) only [jst_eq, jst_ne, jst_ni, jst_o, jI_i, jcpy_out, w32_id, jdiv_nn] at * <;> first | done | omega | assumption) | (intros; first | rfl | (exfalso; omega) | ((repeat' apply And.intro) <;> first | assumption | rfl | omega | trivial))))) ?_ -- o4
        refine OK_jg (by (first | (exact ⟨by rw [F1]; exact hk.1, by unfold jI; rw [F1]; omega⟩) | (first | assumption | omega | ((try dsimp only [jt2, jt3, jt4]); first | omega | (simp (disch := omega) only [jst_eq, jst_ne, jst_ni, jst_o, jI_i, jcpy_out, w32_id, jdiv_nn, jshr_k, jand_255] <;> first | done | omega | assumption)) | (intros; simp (disch := omega) only [jst_eq, jst_ne, jst_ni, jst_o, jI_i, jcpy_out, w32_id, jdiv_nn, *] <;> first | done | omega) | (intros; simp (disch := omega) only [jst_eq, jst_ne, jst_ni, jst_o, jI_i, jcpy_out, w32_id, jdiv_nn] at * <;> first | done | omega | assumption) | (intros; first | rfl | (exfalso; omega) | ((repeat' apply And.intro) <;> first | assumption | rfl | omega | trivial))))) ?_ -- o5
        refine OK_jl ?_
        unfold gX9_add_j58_3
        refine OK_jlx (fun x11 ex11 => ?_)
        try simp (disch := omega) only [jst_eq, jst_ne, jst_ni, jI_i, jcmp_lt, jcmp_gt, w32_id, jcpy_out, Sum.elim_inl, Sum.elim_inr, jt2, jt3, jt4, jt5, jt6, jt7, jt8] at ex11
        refine OK_il ?_ ?_
        · try dsimp only [Sum.elim_inl, Sum.elim_inr, jt2, jt3, jt4, jt5, jt6, jt7, jt8]
          refine ⟨?_, ?_, ?_, ?_⟩
          · (first | (exact ⟨by rw [F1]; exact hk.1, by unfold jI; rw [F1]; omega⟩) | (first | assumption | omega | ((try dsimp only [jt2, jt3, jt4]); first | omega | (simp (disch := omega) only [jst_eq, jst_ne, jst_ni, jst_o, jI_i, jcpy_out, w32_id, jdiv_nn, jshr_k, jand_255] <;> first | done | omega | assumption)) | (intros; simp (disch := omega) only [jst_eq, jst_ne, jst_ni, jst_o, jI_i, jcpy_out, w32_id, jdiv_nn, *] <;> first | done | omega) | (intros; simp (disch := omega) only [jst_eq, jst_ne, jst_ni, jst_o, jI_i, jcpy_out, w32_id, jdiv_nn] at * <;> first | done | omega | assumption) | (intros; first | rfl | (exfalso; omega) | ((repeat' apply And.intro) <;> first | assumption | rfl | omega | trivial)))) -- o6 e2i.1
          · (first | (exact ⟨by rw [F1]; exact hk.1, by unfold jI; rw [F1]; omega⟩) | (first | assumption | omega | ((try dsimp only [jt2, jt3, jt4]); first | omega | (simp (disch := omega) only [jst_eq, jst_ne, jst_ni, jst_o, jI_i, jcpy_out, w32_id, jdiv_nn, jshr_k, jand_255] <;> first | done | omega | assumption)) | (intros; simp (disch := omega) only [jst_eq, jst_ne, jst_ni, jst_o, jI_i, jcpy_out, w32_id, jdiv_nn, *] <;> first | done | omega) | (intros; simp (disch := omega) only [jst_eq, jst_ne, jst_ni, jst_o, jI_i, jcpy_out, w32_id, jdiv_nn] at * <;> first | done | omega | assumption) | (intros; first | rfl | (exfalso; omega) | ((repeat' apply And.intro) <;> first | assumption | rfl | omega | trivial)))) -- o7 e2i.2
          · (intro s; by_cases y : s = 10 * R + a4 - i2; { rw [y, jst_eq, if_pos (by omega), show 10 * R + a4 - i2 - 10 * R + i2 = a4 by omega] }; { rw [jst_ni y, q2 s]; by_cases z : 10 * R ≤ s ∧ s < 10 * R + (a4 - i2); { rw [if_pos z, if_pos (by omega)] }; { rw [if_neg z, if_neg (by omega)] } }) -- o8 e2i.3
          · (first | (exact ⟨by rw [F1]; exact hk.1, by unfold jI; rw [F1]; omega⟩) | (first | assumption | omega | ((try dsimp only [jt2, jt3, jt4]); first | omega | (simp (disch := omega) only [jst_eq, jst_ne, jst_ni, jst_o, jI_i, jcpy_out, w32_id, jdiv_nn, jshr_k, jand_255] <;> first | done | omega | assumption)) | (intros; simp (disch := omega) only [jst_eq, jst_ne, jst_ni, jst_o, jI_i, jcpy_out, w32_id, jdiv_nn, *] <;> first | done | omega) | (intros; simp (disch := omega) only [jst_eq, jst_ne, jst_ni, jst_o, jI_i, jcpy_out, w32_id, jdiv_nn] at * <;> first | done | omega | assumption) | (intros; first | rfl | (exfalso; omega) | ((repeat' apply And.intro) <;> first | assumption | rfl | omega | trivial)))) -- o9 e2i.4
        · (first | (exact ⟨by rw [F1]; exact hk.1, by unfold jI; rw [F1]; omega⟩) | (first | assumption | omega | ((try dsimp only [jt2, jt3, jt4]); first | omega | (simp (disch := omega) only [jst_eq, jst_ne, jst_ni, jst_o, jI_i, jcpy_out, w32_id, jdiv_nn, jshr_k, jand_255] <;> first | done | omega | assumption)) | (intros; simp (disch := omega) only [jst_eq, jst_ne, jst_ni, jst_o, jI_i, jcpy_out, w32_id, jdiv_nn, *] <;> first | done | omega) | (intros; simp (disch := omega) only [jst_eq, jst_ne, jst_ni, jst_o, jI_i, jcpy_out, w32_id, jdiv_nn] at * <;> first | done | omega | assumption) | (intros; first | rfl | (exfalso; omega) | ((repeat' apply And.intro) <;> first | assumption | rfl | omega | trivial)))) -- o10 e2m
      · skip
        try simp (disch := omega) only [jst_eq, jst_ne, jst_ni, jI_i, jcmp_lt, jcmp_gt, w32_id, jcpy_out, Sum.elim_inl, Sum.elim_inr, jt2, jt3, jt4, jt5, jt6, jt7, jt8] at c2
        refine OK_jg (by (first | (exact ⟨by rw [F1]; exact hk.1, by unfold jI; rw [F1]; omega⟩) | (first | assumption | omega | ((try dsimp only [jt2, jt3, jt4]); first | omega | (simp (disch := omega) only [jst_eq, jst_ne, jst_ni, jst_o, jI_i, jcpy_out, w32_id, jdiv_nn, jshr_k, jand_255] <;> first | done | omega | assumption)) | (intros; simp (disch := omega) only [jst_eq, jst_ne, jst_ni, jst_o, jI_i, jcpy_out, w32_id, jdiv_nn, *] <;> first | done | omega) | (intros; simp (disch := omega) only [jst_eq, jst_ne, jst_ni, jst_o, jI_i, jcpy_out, w32_id, jdiv_nn] at * <;> first | done | omega | assumption) | (intros; first | rfl | (exfalso; omega) | ((repeat' apply And.intro) <;> first | assumption | rfl | omega | trivial))))) ?_ -- o11
        refine OK_jg (by (first | (exact ⟨by rw [F1]; exact hk.1, by unfold jI; rw [F1]; omega⟩) | (first | assumption | omega | ((try dsimp only [jt2, jt3, jt4]); first | omega | (simp (disch := omega) only [jst_eq, jst_ne, jst_ni, jst_o, jI_i, jcpy_out, w32_id, jdiv_nn, jshr_k, jand_255] <;> first | done | omega | assumption)) | (intros; simp (disch := omega) only [jst_eq, jst_ne, jst_ni, jst_o, jI_i, jcpy_out, w32_id, jdiv_nn, *] <;> first | done | omega) | (intros; simp (disch := omega) only [jst_eq, jst_ne, jst_ni, jst_o, jI_i, jcpy_out, w32_id, jdiv_nn] at * <;> first | done | omega | assumption) | (intros; first | rfl | (exfalso; omega) | ((repeat' apply And.intro) <;> first | assumption | rfl | omega | trivial))))) ?_ -- o12
        refine OK_jl ?_
        unfold gX9_add_j58_3
        refine OK_jlx (fun x11 ex11 => ?_)
        try simp (disch := omega) only [jst_eq, jst_ne, jst_ni, jI_i, jcmp_lt, jcmp_gt, w32_id, jcpy_out, Sum.elim_inl, Sum.elim_inr, jt2, jt3, jt4, jt5, jt6, jt7, jt8] at ex11
        refine OK_il ?_ ?_
        · try dsimp only [Sum.elim_inl, Sum.elim_inr, jt2, jt3, jt4, jt5, jt6, jt7, jt8]
          refine ⟨?_, ?_, ?_, ?_⟩
          · (first | (exact ⟨by rw [F1]; exact hk.1, by unfold jI; rw [F1]; omega⟩) | (first | assumption | omega | ((try dsimp only [jt2, jt3, jt4]); first | omega | (simp (disch := omega) only [jst_eq, jst_ne, jst_ni, jst_o, jI_i, jcpy_out, w32_id, jdiv_nn, jshr_k, jand_255] <;> first | done | omega | assumption)) | (intros; simp (disch := omega) only [jst_eq, jst_ne, jst_ni, jst_o, jI_i, jcpy_out, w32_id, jdiv_nn, *] <;> first | done | omega) | (intros; simp (disch := omega) only [jst_eq, jst_ne, jst_ni, jst_o, jI_i, jcpy_out, w32_id, jdiv_nn] at * <;> first | done | omega | assumption) | (intros; first | rfl | (exfalso; omega) | ((repeat' apply And.intro) <;> first | assumption | rfl | omega | trivial)))) -- o13 e3i.1
          · (intro s; by_cases y : s = 10 * R + a4; { rw [y, jst_eq, if_pos (by omega), show 10 * R + a4 - 10 * R = a4 by omega] }; { rw [jst_ni y, q1 s]; by_cases z : 10 * R ≤ s ∧ s < 10 * R + min a4 i2; { rw [if_pos z, if_pos (by omega)] }; { rw [if_neg z, if_neg (by omega)] } }) -- o14 e3i.2
          · (first | (exact ⟨by rw [F1]; exact hk.1, by unfold jI; rw [F1]; omega⟩) | (first | assumption | omega | ((try dsimp only [jt2, jt3, jt4]); first | omega | (simp (disch := omega) only [jst_eq, jst_ne, jst_ni, jst_o, jI_i, jcpy_out, w32_id, jdiv_nn, jshr_k, jand_255] <;> first | done | omega | assumption)) | (intros; simp (disch := omega) only [jst_eq, jst_ne, jst_ni, jst_o, jI_i, jcpy_out, w32_id, jdiv_nn, *] <;> first | done | omega) | (intros; simp (disch := omega) only [jst_eq, jst_ne, jst_ni, jst_o, jI_i, jcpy_out, w32_id, jdiv_nn] at * <;> first | done | omega | assumption) | (intros; first | rfl | (exfalso; omega) | ((repeat' apply And.intro) <;> first | assumption | rfl | omega | trivial)))) -- o15 e3i.3
          · (first | (exact ⟨by rw [F1]; exact hk.1, by unfold jI; rw [F1]; omega⟩) | (first | assumption | omega | ((try dsimp only [jt2, jt3, jt4]); first | omega | (simp (disch := omega) only [jst_eq, jst_ne, jst_ni, jst_o, jI_i, jcpy_out, w32_id, jdiv_nn, jshr_k, jand_255] <;> first | done | omega | assumption)) | (intros; simp (disch := omega) only [jst_eq, jst_ne, jst_ni, jst_o, jI_i, jcpy_out, w32_id, jdiv_nn, *] <;> first | done | omega) | (intros; simp (disch := omega) only [jst_eq, jst_ne, jst_ni, jst_o, jI_i, jcpy_out, w32_id, jdiv_nn] at * <;> first | done | omega | assumption) | (intros; first | rfl | (exfalso; omega) | ((repeat' apply And.intro) <;> first | assumption | rfl | omega | trivial)))) -- o16 e3i.4
        · (first | (exact ⟨by rw [F1]; exact hk.1, by unfold jI; rw [F1]; omega⟩) | (first | assumption | omega | ((try dsimp only [jt2, jt3, jt4]); first | omega | (simp (disch := omega) only [jst_eq, jst_ne, jst_ni, jst_o, jI_i, jcpy_out, w32_id, jdiv_nn, jshr_k, jand_255] <;> first | done | omega | assumption)) | (intros; simp (disch := omega) only [jst_eq, jst_ne, jst_ni, jst_o, jI_i, jcpy_out, w32_id, jdiv_nn, *] <;> first | done | omega) | (intros; simp (disch := omega) only [jst_eq, jst_ne, jst_ni, jst_o, jI_i, jcpy_out, w32_id, jdiv_nn] at * <;> first | done | omega | assumption) | (intros; first | rfl | (exfalso; omega) | ((repeat' apply And.intro) <;> first | assumption | rfl | omega | trivial)))) -- o17 e3m
  · try dsimp only [Sum.elim_inl, Sum.elim_inr, jt2, jt3, jt4, jt5, jt6, jt7, jt8]
    refine ⟨?_, ?_, ?_, ?_⟩
    · (first | (exact ⟨by rw [F1]; exact hk.1, by unfold jI; rw [F1]; omega⟩) | (first | assumption | omega | ((try dsimp only [jt2, jt3, jt4]); first | omega | (simp (disch := omega) only [jst_eq, jst_ne, jst_ni, jst_o, jI_i, jcpy_out, w32_id, jdiv_nn, jshr_k, jand_255] <;> first | done | omega | assumption)) | (intros; simp (disch := omega) only [jst_eq, jst_ne, jst_ni, jst_o, jI_i, jcpy_out, w32_id, jdiv_nn, *] <;> first | done | omega) | (intros; simp (disch := omega) only [jst_eq, jst_ne, jst_ni, jst_o, jI_i, jcpy_out, w32_id, jdiv_nn] at * <;> first | done | omega | assumption) | (intros; first | rfl | (exfalso; omega) | ((repeat' apply And.intro) <;> first | assumption | rfl | omega | trivial)))) -- o18 init.1
    · (intro s; rw [h4, if_neg (by omega)]) -- o19 init.2
    · (intro s; rw [h4, if_neg (by omega)]) -- o20 init.3
    · exact fun _ _ _ => rfl -- o21 init.4
theorem vX9_clear {h : AH} : OK (gX9_clear h) (fun h' => (h' 408 0 = 0 ∧ h' 408 10 = 0) ∧ (∀ a s, ¬ (a = 408 ∧ (s = 0 ∨ s = 10)) → h' a s = h a s)) := by
  unfold gX9_clear
  refine OK_jl ?_
  refine OK_jl ?_
  refine OK_some ?_
  try dsimp only [Sum.elim_inl, Sum.elim_inr, jt2, jt3, jt4, jt5, jt6, jt7, jt8]
  try dsimp only [Sum.elim_inl, Sum.elim_inr, jt2, jt3, jt4, jt5, jt6, jt7, jt8]
  refine ⟨?_, ?_⟩
  · (first | assumption | omega | ((try dsimp only [jt2, jt3, jt4]); first | omega | (simp (disch := omega) only [jst_eq, jst_ne, jst_ni, jst_o, jI_i, jcpy_out, w32_id, jdiv_nn, jshr_k, jand_255] <;> first | done | omega | assumption)) | (intros; simp (disch := omega) only [jst_eq, jst_ne, jst_ni, jst_o, jI_i, jcpy_out, w32_id, jdiv_nn, *] <;> first | done | omega) | (intros; simp (disch := omega) only [jst_eq, jst_ne, jst_ni, jst_o, jI_i, jcpy_out, w32_id, jdiv_nn] at * <;> first | done | omega | assumption) | (intros; first | rfl | (exfalso; omega) | ((repeat' apply And.intro) <;> first | assumption | rfl | omega | trivial))) -- o1 e1.1
  · (first | assumption | omega | ((try dsimp only [jt2, jt3, jt4]); first | omega | (simp (disch := omega) only [jst_eq, jst_ne, jst_ni, jst_o, jI_i, jcpy_out, w32_id, jdiv_nn, jshr_k, jand_255] <;> first | done | omega | assumption)) | (intros; simp (disch := omega) only [jst_eq, jst_ne, jst_ni, jst_o, jI_i, jcpy_out, w32_id, jdiv_nn, *] <;> first | done | omega) | (intros; simp (disch := omega) only [jst_eq, jst_ne, jst_ni, jst_o, jI_i, jcpy_out, w32_id, jdiv_nn] at * <;> first | done | omega | assumption) | (intros; first | rfl | (exfalso; omega) | ((repeat' apply And.intro) <;> first | assumption | rfl | omega | trivial))) -- o2 e1.2
theorem addX {h o : AH} {e : CE} {c : Int → Int} {n m : Int} (he : cuX h e) (e0 : 0 ≤ e.1) (hv : ∀ r, 0 ≤ r → r < e.1 → (0 ≤ e.2.2.2.1 r ∧ e.2.2.2.1 r ≤ 10) ∧ 1 ≤ e.2.2.2.2 r ∧ e.2.2.2.2 r ≤ 10) (q1 : ∀ s, o 409 s = if 10 * e.1 ≤ s ∧ s < 10 * e.1 + n then c (s - 10 * e.1) + 97 else h 409 s) (q2 : ∀ s, o 410 s = if 10 * e.1 ≤ s ∧ s < 10 * e.1 + m then c (s - 10 * e.1 + n) + 97 else h 410 s) (fr : ∀ a s, ¬ (a = 409 ∨ a = 410) → o a s = h a s) : cuX (jst (jst (jst (jst o 411 e.1 n) 412 e.1 m) 408 0 (e.1 + 1)) 408 10 0) (addE e c (fun k => c (k + n)) n m) := by
  refine ⟨by rw [jst_ni (by decide), jst_eq]; rfl, fun r r0 r1 => ?_⟩
  have r2 : r < e.1 + 1 := r1
  have g1 : ∀ s, jst (jst (jst (jst o 411 e.1 n) 412 e.1 m) 408 0 (e.1 + 1)) 408 10 0 409 s = o 409 s := fun s => by rw [jst_ne (by decide), jst_ne (by decide), jst_ne (by decide), jst_ne (by decide)]
  have g2 : ∀ s, jst (jst (jst (jst o 411 e.1 n) 412 e.1 m) 408 0 (e.1 + 1)) 408 10 0 410 s = o 410 s := fun s => by rw [jst_ne (by decide), jst_ne (by decide), jst_ne (by decide), jst_ne (by decide)]
  have g3 : jst (jst (jst (jst o 411 e.1 n) 412 e.1 m) 408 0 (e.1 + 1)) 408 10 0 411 r = if r = e.1 then n else h 411 r := by
    rw [jst_ne (by decide), jst_ne (by decide), jst_ne (by decide)]
    by_cases y : r = e.1
    · rw [y, jst_eq, if_pos rfl]
    · rw [jst_ni y, if_neg y]; exact fr _ _ (by omega)
  have g4 : jst (jst (jst (jst o 411 e.1 n) 412 e.1 m) 408 0 (e.1 + 1)) 408 10 0 412 r = if r = e.1 then m else h 412 r := by
    rw [jst_ne (by decide), jst_ne (by decide)]
    by_cases y : r = e.1
    · rw [y, jst_eq, if_pos rfl]
    · rw [jst_ni y, jst_ne (by decide), if_neg y]; exact fr _ _ (by omega)
  unfold addE
  dsimp only
  refine ⟨?_, ?_, fun k k0 k1 => ?_, fun k k0 k1 => ?_⟩
  · rw [g3]
    by_cases y : r = e.1
    · rw [if_pos y, if_pos y]
    · rw [if_neg y, if_neg y]; exact (he.2 r r0 (by omega)).1
  · rw [g4]
    by_cases y : r = e.1
    · rw [if_pos y, if_pos y]
    · rw [if_neg y, if_neg y]; exact (he.2 r r0 (by omega)).2.1
  · rw [g1, q1]
    by_cases y : r = e.1
    · rw [if_pos y] at k1
      rw [if_pos (by omega), if_pos y, show 10 * r + k - 10 * e.1 = k by omega]
    · rw [if_neg y] at k1
      have v := hv r r0 (by omega)
      rw [if_neg (by omega), if_neg y]
      exact (he.2 r r0 (by omega)).2.2.1 k k0 k1
  · rw [g2, q2]
    by_cases y : r = e.1
    · rw [if_pos y] at k1
      rw [if_pos (by omega), if_pos y, show 10 * r + k - 10 * e.1 = k by omega]
    · rw [if_neg y] at k1
      have v := hv r r0 (by omega)
      rw [if_neg (by omega), if_neg y]
      exact (he.2 r r0 (by omega)).2.2.2 k k0 k1
theorem vX9_add (a1 : Int) (a2 : Int) (a3 : Int) {h : AH} {e : CE} {c : Int → Int} (hk : h a1 (-2) = 103 ∧ a3 ≤ h a1 (-1) ∧ a1 ≠ 409 ∧ a1 ≠ 410) (he : cuX h e ∧ 0 ≤ e.1 ∧ e.1 < 8) (hv : ∀ r, 0 ≤ r → r < e.1 → (0 ≤ e.2.2.2.1 r ∧ e.2.2.2.1 r ≤ 10) ∧ 1 ≤ e.2.2.2.2 r ∧ e.2.2.2.2 r ≤ 10) (hn : (0 ≤ a2 ∧ a2 ≤ 10) ∧ 1 ≤ a3 - a2 ∧ a3 - a2 ≤ 10) (hc : ∀ k, 0 ≤ k → k < a3 → h a1 k = c k + 97 ∧ 0 ≤ c k ∧ c k < 26) : OK (gX9_add a1 a2 a3 h) (fun h' => (cuX h' (addE e c (fun k => c (k + a2)) a2 (a3 - a2))) ∧ (∀ a s, ¬ (a = 408 ∧ (s = 0 ∨ s = 10)) → ¬ (409 ≤ a ∧ a ≤ 412 ∧ 0 ≤ s) → h' a s = h a s)) := by
  unfold gX9_add
  refine OK_jb (vX9_add_l3 (c := c) (R := e.1) _ _ _ _ (by (first | assumption | omega | ((try dsimp only [jt2, jt3, jt4]); first | omega | (simp (disch := omega) only [jst_eq, jst_ne, jst_ni, jst_o, jI_i, jcpy_out, w32_id, jdiv_nn, jshr_k, jand_255] <;> first | done | omega | assumption)) | (intros; simp (disch := omega) only [jst_eq, jst_ne, jst_ni, jst_o, jI_i, jcpy_out, w32_id, jdiv_nn, *] <;> first | done | omega) | (intros; simp (disch := omega) only [jst_eq, jst_ne, jst_ni, jst_o, jI_i, jcpy_out, w32_id, jdiv_nn] at * <;> first | done | omega | assumption) | (intros; first | rfl | (exfalso; omega) | ((repeat' apply And.intro) <;> first | assumption | rfl | omega | trivial)))) (by exact ⟨he.1.1, he.2⟩) (by (first | assumption | omega | ((try dsimp only [jt2, jt3, jt4]); first | omega | (simp (disch := omega) only [jst_eq, jst_ne, jst_ni, jst_o, jI_i, jcpy_out, w32_id, jdiv_nn, jshr_k, jand_255] <;> first | done | omega | assumption)) | (intros; simp (disch := omega) only [jst_eq, jst_ne, jst_ni, jst_o, jI_i, jcpy_out, w32_id, jdiv_nn, *] <;> first | done | omega) | (intros; simp (disch := omega) only [jst_eq, jst_ne, jst_ni, jst_o, jI_i, jcpy_out, w32_id, jdiv_nn] at * <;> first | done | omega | assumption) | (intros; first | rfl | (exfalso; omega) | ((repeat' apply And.intro) <;> first | assumption | rfl | omega | trivial)))) (by (first | assumption | omega | ((try dsimp only [jt2, jt3, jt4]); first | omega | (simp (disch := omega) only [jst_eq, jst_ne, jst_ni, jst_o, jI_i, jcpy_out, w32_id, jdiv_nn, jshr_k, jand_255] <;> first | done | omega | assumption)) | (intros; simp (disch := omega) only [jst_eq, jst_ne, jst_ni, jst_o, jI_i, jcpy_out, w32_id, jdiv_nn, *] <;> first | done | omega) | (intros; simp (disch := omega) only [jst_eq, jst_ne, jst_ni, jst_o, jI_i, jcpy_out, w32_id, jdiv_nn] at * <;> first | done | omega | assumption) | (intros; first | rfl | (exfalso; omega) | ((repeat' apply And.intro) <;> first | assumption | rfl | omega | trivial)))) (by (first | assumption | omega | ((try dsimp only [jt2, jt3, jt4]); first | omega | (simp (disch := omega) only [jst_eq, jst_ne, jst_ni, jst_o, jI_i, jcpy_out, w32_id, jdiv_nn, jshr_k, jand_255] <;> first | done | omega | assumption)) | (intros; simp (disch := omega) only [jst_eq, jst_ne, jst_ni, jst_o, jI_i, jcpy_out, w32_id, jdiv_nn, *] <;> first | done | omega) | (intros; simp (disch := omega) only [jst_eq, jst_ne, jst_ni, jst_o, jI_i, jcpy_out, w32_id, jdiv_nn] at * <;> first | done | omega | assumption) | (intros; first | rfl | (exfalso; omega) | ((repeat' apply And.intro) <;> first | assumption | rfl | omega | trivial))))) (fun o1 r1 => ?_)
  try dsimp only [Sum.elim_inl, Sum.elim_inr, jt2, jt3, jt4, jt5, jt6, jt7, jt8] at r1
  obtain ⟨q11, q21, fr1⟩ := r1
  try simp (disch := omega) only [jst_eq, jst_ne, jst_ni, jI_i, jcmp_lt, jcmp_gt, w32_id, jcpy_out, Sum.elim_inl, Sum.elim_inr, jt2, jt3, jt4, jt5, jt6, jt7, jt8] at q11
  try simp (disch := omega) only [jst_eq, jst_ne, jst_ni, jI_i, jcmp_lt, jcmp_gt, w32_id, jcpy_out, Sum.elim_inl, Sum.elim_inr, jt2, jt3, jt4, jt5, jt6, jt7, jt8] at q21
  try simp (disch := omega) only [jst_eq, jst_ne, jst_ni, jI_i, jcmp_lt, jcmp_gt, w32_id, jcpy_out, Sum.elim_inl, Sum.elim_inr, jt2, jt3, jt4, jt5, jt6, jt7, jt8] at fr1
  have F0 : o1 408 0 = e.1 := by { rw [fr1 _ _ (by omega)]; exact he.1.1 }
  rw [F0]
  refine OK_jg (by (first | assumption | omega | ((try dsimp only [jt2, jt3, jt4]); first | omega | (simp (disch := omega) only [jst_eq, jst_ne, jst_ni, jst_o, jI_i, jcpy_out, w32_id, jdiv_nn, jshr_k, jand_255] <;> first | done | omega | assumption)) | (intros; simp (disch := omega) only [jst_eq, jst_ne, jst_ni, jst_o, jI_i, jcpy_out, w32_id, jdiv_nn, *] <;> first | done | omega) | (intros; simp (disch := omega) only [jst_eq, jst_ne, jst_ni, jst_o, jI_i, jcpy_out, w32_id, jdiv_nn] at * <;> first | done | omega | assumption) | (intros; first | rfl | (exfalso; omega) | ((repeat' apply And.intro) <;> first | assumption | rfl | omega | trivial)))) ?_ -- o6
  refine OK_jl ?_
  refine OK_jg (by (first | assumption | omega | ((try dsimp only [jt2, jt3, jt4]); first | omega | (simp (disch := omega) only [jst_eq, jst_ne, jst_ni, jst_o, jI_i, jcpy_out, w32_id, jdiv_nn, jshr_k, jand_255] <;> first | done | omega | assumption)) | (intros; simp (disch := omega) only [jst_eq, jst_ne, jst_ni, jst_o, jI_i, jcpy_out, w32_id, jdiv_nn, *] <;> first | done | omega) | (intros; simp (disch := omega) only [jst_eq, jst_ne, jst_ni, jst_o, jI_i, jcpy_out, w32_id, jdiv_nn] at * <;> first | done | omega | assumption) | (intros; first | rfl | (exfalso; omega) | ((repeat' apply And.intro) <;> first | assumption | rfl | omega | trivial)))) ?_ -- o7
  refine OK_jl ?_
  refine OK_jl ?_
  refine OK_jl ?_
  have E1 : jst o1 411 e.1 a2 408 0 = e.1 := by { rw [jst_ne (by decide)]; exact F0 }
  rw [E1]
  have E2 : jst (jst o1 411 e.1 a2) 412 e.1 (w32 (a3 - a2)) 408 0 = e.1 := by { rw [jst_ne (by decide), jst_ne (by decide)]; exact F0 }
  rw [E2, w32_id (x := a3 - a2) (by omega) (by omega), w32_id (x := e.1 + 1) (by omega) (by omega)]
  refine OK_some ?_
  try dsimp only [Sum.elim_inl, Sum.elim_inr, jt2, jt3, jt4, jt5, jt6, jt7, jt8]
  try dsimp only [Sum.elim_inl, Sum.elim_inr, jt2, jt3, jt4, jt5, jt6, jt7, jt8]
  refine ⟨?_, ?_⟩
  · exact addX he.1 he.2.1 hv q11 q21 fr1 -- o8 e1.1
  · exact fun a s y1 y2 => by rw [jst_o (by omega), jst_o (by omega), jst_o (by omega), jst_o (by omega)]; by_cases z : a = 409 ∨ a = 410; { rcases z with z | z; { rw [z, q11 s, if_neg (by omega)] }; { rw [z, q21 s, if_neg (by omega)] } }; { exact fr1 a s z } -- o9 e1.2

