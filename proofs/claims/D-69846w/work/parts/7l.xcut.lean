/-! x: rows of words, spots, what leads on -/
def cuX (h : AH) (e : CE) : Prop := h 408 0 = e.1 ∧ ∀ r, 0 ≤ r → r < e.1 → h 411 r = e.2.2.2.1 r ∧ h 412 r = e.2.2.2.2 r ∧ (∀ k, 0 ≤ k → k < e.2.2.2.1 r → h 409 (10 * r + k) = e.2.1 r k + 97) ∧ ∀ k, 0 ≤ k → k < e.2.2.2.2 r → h 410 (10 * r + k) = e.2.2.1 r k + 97
theorem cuX_f {h h' : AH} {e : CE} (c : cuX h e) (f : ∀ a s, (a = 408 ∧ s = 0) ∨ (409 ≤ a ∧ a ≤ 412) → h' a s = h a s) : cuX h' e := by
  refine ⟨by rw [f _ _ (by omega)]; exact c.1, fun r r0 r1 => ?_⟩
  obtain ⟨c1, c2, c3, c4⟩ := c.2 r r0 r1
  exact ⟨by rw [f _ _ (by omega)]; exact c1, by rw [f _ _ (by omega)]; exact c2, fun k k0 k1 => by rw [f _ _ (by omega)]; exact c3 k k0 k1, fun k k0 k1 => by rw [f _ _ (by omega)]; exact c4 k k0 k1⟩
theorem ocS_s {f : Int → Int} {c : Int} {n : Nat} {i l : Int} : ocS f c (n + 1) i l = if f i = c then (if l = 0 then i else ocS f c n (i + 1) (l - 1)) else ocS f c n (i + 1) l := rfl
theorem vX9_find_l83 (i2 : Int) (i3 : Int) (i4 : Int) (i5 : Int) (i6 : Int) (a70 : Int) (a80 : Int) {h : AH} {f : Int → Int} (hk : h i2 (-2) = 103 ∧ 0 ≤ i3 ∧ i3 + i4 ≤ h i2 (-1) ∧ i3 + i4 ≤ 100000) (hf : ∀ k, 0 ≤ k → k < i4 → h i2 (i3 + k) = f k + 97) (h6 : 0 ≤ i6 ∧ i6 < 78 ∧ 0 ≤ i4) (h7 : 0 ≤ a70 ∧ a70 ≤ 2 ∧ a80 = 0) : OK (gX9_find_l83 i2 i3 i4 i5 i6 a70 a80 h) (Sum.elim (fun o => o = ocS f (i6 / 3) i4.toNat 0 a70 ∧ 0 ≤ o ∧ o < i4) (fun _ => ocS f (i6 / 3) i4.toNat 0 a70 = -1)) := by
  unfold gX9_find_l83
  refine OK_jit (I := (fun (s : Int × Int) => jt2 s fun a7 a8 => (0 ≤ a8 ∧ a8 ≤ i4 ∧ 0 ≤ a7 ∧ a7 ≤ 2) ∧ (ocS f (i6 / 3) (i4 - a8).toNat a8 a7 = ocS f (i6 / 3) i4.toNat 0 a70))) (m := (fun (s : Int × Int) => jt2 s fun a7 a8 => (i4 - a8).toNat)) ?_ ?_
  · intro s hs
    obtain ⟨a7, a8⟩ := s
    dsimp only [Sum.elim_inl, Sum.elim_inr, jt2, jt3, jt4, jt5, jt6, jt7, jt8] at hs
    obtain ⟨q0, q1⟩ := hs
    unfold gX9_find_b83
    refine OK_jt2 ?_
    have D6 : jdiv i6 3 = i6 / 3 := jdiv_nn h6.1 (by omega) (by decide) (by decide)
    have fu : a8 < i4 → (i4 - a8).toNat = (i4 - (a8 + 1)).toNat + 1 := fun _ => by omega
    have w8 : a8 < i4 → w32 (i3 + a8) = i3 + a8 := fun _ => w32_id (by omega) (by omega)
    rw [D6]
    refine OK_if (fun c1 => ?_) (fun c1 => ?_)
    · skip
      try simp (disch := omega) only [jst_eq, jst_ne, jst_ni, jI_i, jcmp_lt, jcmp_gt, w32_id, jcpy_out, Sum.elim_inl, Sum.elim_inr, jt2, jt3, jt4, jt5, jt6, jt7, jt8] at c1
      refine OK_ir ?_
      (rw [show (i4 - a8).toNat = 0 by omega] at q1; exact q1.symm) -- o1 e1
    · skip
      try simp (disch := omega) only [jst_eq, jst_ne, jst_ni, jI_i, jcmp_lt, jcmp_gt, w32_id, jcpy_out, Sum.elim_inl, Sum.elim_inr, jt2, jt3, jt4, jt5, jt6, jt7, jt8] at c1
      have F8 := hf a8 q0.1 (by omega)
      rw [fu (by omega)] at q1
      rw [w8 (by omega)]
      refine OK_jg (by (first | assumption | omega | ((try dsimp only [jt2, jt3, jt4]); first | omega | (simp (disch := omega) only [jst_eq, jst_ne, jst_ni, jst_o, jI_i, jcpy_out, w32_id, jdiv_nn, jshr_k, jand_255] <;> first | done | omega | assumption)) | (intros; simp (disch := omega) only [jst_eq, jst_ne, jst_ni, jst_o, jI_i, jcpy_out, w32_id, jdiv_nn, *] <;> first | done | omega) | (intros; simp (disch := omega) only [jst_eq, jst_ne, jst_ni, jst_o, jI_i, jcpy_out, w32_id, jdiv_nn] at * <;> first | done | omega | assumption) | (intros; first | rfl | (exfalso; omega) | ((repeat' apply And.intro) <;> first | assumption | rfl | omega | trivial)))) ?_ -- o2
      refine OK_if (fun c2 => ?_) (fun c2 => ?_)
      · skip
        try simp (disch := omega) only [jst_eq, jst_ne, jst_ni, jI_i, jcmp_lt, jcmp_gt, w32_id, jcpy_out, Sum.elim_inl, Sum.elim_inr, jt2, jt3, jt4, jt5, jt6, jt7, jt8] at c2
        have E2 : f a8 = i6 / 3 := by omega
        refine OK_if (fun c3 => ?_) (fun c3 => ?_)
        · skip
          try simp (disch := omega) only [jst_eq, jst_ne, jst_ni, jI_i, jcmp_lt, jcmp_gt, w32_id, jcpy_out, Sum.elim_inl, Sum.elim_inr, jt2, jt3, jt4, jt5, jt6, jt7, jt8] at c3
          refine OK_ir ?_
          (rw [ocS_s, if_pos E2, if_pos c3] at q1; exact ⟨q1, q0.1, by omega⟩) -- o3 e2
        · skip
          try simp (disch := omega) only [jst_eq, jst_ne, jst_ni, jI_i, jcmp_lt, jcmp_gt, w32_id, jcpy_out, Sum.elim_inl, Sum.elim_inr, jt2, jt3, jt4, jt5, jt6, jt7, jt8] at c3
          refine OK_jlx (fun x17 ex17 => ?_)
          try simp (disch := omega) only [jst_eq, jst_ne, jst_ni, jI_i, jcmp_lt, jcmp_gt, w32_id, jcpy_out, Sum.elim_inl, Sum.elim_inr, jt2, jt3, jt4, jt5, jt6, jt7, jt8] at ex17
          unfold gX9_find_j132_83
          refine OK_jlx (fun x18 ex18 => ?_)
          try simp (disch := omega) only [jst_eq, jst_ne, jst_ni, jI_i, jcmp_lt, jcmp_gt, w32_id, jcpy_out, Sum.elim_inl, Sum.elim_inr, jt2, jt3, jt4, jt5, jt6, jt7, jt8] at ex18
          refine OK_il ?_ ?_
          · try dsimp only [Sum.elim_inl, Sum.elim_inr, jt2, jt3, jt4, jt5, jt6, jt7, jt8]
            refine ⟨?_, ?_⟩
            · (first | assumption | omega | ((try dsimp only [jt2, jt3, jt4]); first | omega | (simp (disch := omega) only [jst_eq, jst_ne, jst_ni, jst_o, jI_i, jcpy_out, w32_id, jdiv_nn, jshr_k, jand_255] <;> first | done | omega | assumption)) | (intros; simp (disch := omega) only [jst_eq, jst_ne, jst_ni, jst_o, jI_i, jcpy_out, w32_id, jdiv_nn, *] <;> first | done | omega) | (intros; simp (disch := omega) only [jst_eq, jst_ne, jst_ni, jst_o, jI_i, jcpy_out, w32_id, jdiv_nn] at * <;> first | done | omega | assumption) | (intros; first | rfl | (exfalso; omega) | ((repeat' apply And.intro) <;> first | assumption | rfl | omega | trivial))) -- o4 e3i.1
            · (rw [ocS_s, if_pos E2, if_neg c3] at q1; rw [ex18, ex17]; exact q1) -- o5 e3i.2
          · (first | assumption | omega | ((try dsimp only [jt2, jt3, jt4]); first | omega | (simp (disch := omega) only [jst_eq, jst_ne, jst_ni, jst_o, jI_i, jcpy_out, w32_id, jdiv_nn, jshr_k, jand_255] <;> first | done | omega | assumption)) | (intros; simp (disch := omega) only [jst_eq, jst_ne, jst_ni, jst_o, jI_i, jcpy_out, w32_id, jdiv_nn, *] <;> first | done | omega) | (intros; simp (disch := omega) only [jst_eq, jst_ne, jst_ni, jst_o, jI_i, jcpy_out, w32_id, jdiv_nn] at * <;> first | done | omega | assumption) | (intros; first | rfl | (exfalso; omega) | ((repeat' apply And.intro) <;> first | assumption | rfl | omega | trivial))) -- o6 e3m
      · skip
        try simp (disch := omega) only [jst_eq, jst_ne, jst_ni, jI_i, jcmp_lt, jcmp_gt, w32_id, jcpy_out, Sum.elim_inl, Sum.elim_inr, jt2, jt3, jt4, jt5, jt6, jt7, jt8] at c2
        have E2 : ¬ f a8 = i6 / 3 := by omega
        unfold gX9_find_j132_83
        refine OK_jlx (fun x18 ex18 => ?_)
        try simp (disch := omega) only [jst_eq, jst_ne, jst_ni, jI_i, jcmp_lt, jcmp_gt, w32_id, jcpy_out, Sum.elim_inl, Sum.elim_inr, jt2, jt3, jt4, jt5, jt6, jt7, jt8] at ex18
        refine OK_il ?_ ?_
        · try dsimp only [Sum.elim_inl, Sum.elim_inr, jt2, jt3, jt4, jt5, jt6, jt7, jt8]
          refine ⟨?_, ?_⟩
          · (first | assumption | omega | ((try dsimp only [jt2, jt3, jt4]); first | omega | (simp (disch := omega) only [jst_eq, jst_ne, jst_ni, jst_o, jI_i, jcpy_out, w32_id, jdiv_nn, jshr_k, jand_255] <;> first | done | omega | assumption)) | (intros; simp (disch := omega) only [jst_eq, jst_ne, jst_ni, jst_o, jI_i, jcpy_out, w32_id, jdiv_nn, *] <;> first | done | omega) | (intros; simp (disch := omega) only [jst_eq, jst_ne, jst_ni, jst_o, jI_i, jcpy_out, w32_id, jdiv_nn] at * <;> first | done | omega | assumption) | (intros; first | rfl | (exfalso; omega) | ((repeat' apply And.intro) <;> first | assumption | rfl | omega | trivial))) -- o7 e4i.1
          · (rw [ocS_s, if_neg E2] at q1; rw [ex18]; exact q1) -- o8 e4i.2
        · (first | assumption | omega | ((try dsimp only [jt2, jt3, jt4]); first | omega | (simp (disch := omega) only [jst_eq, jst_ne, jst_ni, jst_o, jI_i, jcpy_out, w32_id, jdiv_nn, jshr_k, jand_255] <;> first | done | omega | assumption)) | (intros; simp (disch := omega) only [jst_eq, jst_ne, jst_ni, jst_o, jI_i, jcpy_out, w32_id, jdiv_nn, *] <;> first | done | omega) | (intros; simp (disch := omega) only [jst_eq, jst_ne, jst_ni, jst_o, jI_i, jcpy_out, w32_id, jdiv_nn] at * <;> first | done | omega | assumption) | (intros; first | rfl | (exfalso; omega) | ((repeat' apply And.intro) <;> first | assumption | rfl | omega | trivial))) -- o9 e4m
  · try dsimp only [Sum.elim_inl, Sum.elim_inr, jt2, jt3, jt4, jt5, jt6, jt7, jt8]
    refine ⟨?_, ?_⟩
    · (first | assumption | omega | ((try dsimp only [jt2, jt3, jt4]); first | omega | (simp (disch := omega) only [jst_eq, jst_ne, jst_ni, jst_o, jI_i, jcpy_out, w32_id, jdiv_nn, jshr_k, jand_255] <;> first | done | omega | assumption)) | (intros; simp (disch := omega) only [jst_eq, jst_ne, jst_ni, jst_o, jI_i, jcpy_out, w32_id, jdiv_nn, *] <;> first | done | omega) | (intros; simp (disch := omega) only [jst_eq, jst_ne, jst_ni, jst_o, jI_i, jcpy_out, w32_id, jdiv_nn] at * <;> first | done | omega | assumption) | (intros; first | rfl | (exfalso; omega) | ((repeat' apply And.intro) <;> first | assumption | rfl | omega | trivial))) -- o10 init.1
    · (rw [h7.2.2, Int.sub_zero]) -- o11 init.2
theorem vX9_find (a1 : Int) (a2 : Int) (a3 : Int) (a4 : Int) {h : AH} {f : Int → Int} (hk : h a2 (-2) = 103 ∧ 0 ≤ a3 ∧ a3 + a4 ≤ h a2 (-1) ∧ a3 + a4 ≤ 100000) (hf : ∀ k, 0 ≤ k → k < a4 → h a2 (a3 + k) = f k + 97) (h1 : 0 ≤ a1 ∧ a1 < 178 ∧ 0 ≤ a4) : OK (gX9_find a1 a2 a3 a4 h) (fun r => r = spP f a4 a1) := by
  unfold gX9_find
  refine OK_if (fun c1 => ?_) (fun c1 => ?_)
  · skip
    try simp (disch := omega) only [jst_eq, jst_ne, jst_ni, jI_i, jcmp_lt, jcmp_gt, w32_id, jcpy_out, Sum.elim_inl, Sum.elim_inr, jt2, jt3, jt4, jt5, jt6, jt7, jt8] at c1
    refine OK_if (fun c2 => ?_) (fun c2 => ?_)
    · skip
      try simp (disch := omega) only [jst_eq, jst_ne, jst_ni, jI_i, jcmp_lt, jcmp_gt, w32_id, jcpy_out, Sum.elim_inl, Sum.elim_inr, jt2, jt3, jt4, jt5, jt6, jt7, jt8] at c2
      refine OK_if (fun c3 => ?_) (fun c3 => ?_)
      · skip
        try simp (disch := omega) only [jst_eq, jst_ne, jst_ni, jI_i, jcmp_lt, jcmp_gt, w32_id, jcpy_out, Sum.elim_inl, Sum.elim_inr, jt2, jt3, jt4, jt5, jt6, jt7, jt8] at c3
        unfold gX9_find_j56
        refine OK_if (fun c4 => ?_) (fun c4 => ?_)
        · skip
          try simp (disch := omega) only [jst_eq, jst_ne, jst_ni, jI_i, jcmp_lt, jcmp_gt, w32_id, jcpy_out, Sum.elim_inl, Sum.elim_inr, jt2, jt3, jt4, jt5, jt6, jt7, jt8] at c4
          unfold gX9_find_j71
          refine OK_jlx (fun x7 ex7 => ?_)
          try simp (disch := omega) only [jst_eq, jst_ne, jst_ni, jI_i, jcmp_lt, jcmp_gt, w32_id, jcpy_out, Sum.elim_inl, Sum.elim_inr, jt2, jt3, jt4, jt5, jt6, jt7, jt8] at ex7
          refine OK_jlx (fun x8 ex8 => ?_)
          try simp (disch := omega) only [jst_eq, jst_ne, jst_ni, jI_i, jcmp_lt, jcmp_gt, w32_id, jcpy_out, Sum.elim_inl, Sum.elim_inr, jt2, jt3, jt4, jt5, jt6, jt7, jt8] at ex8
          have e8 : x8 = x7 % 3 := by { rw [ex8]; exact jrem_nn (by omega) (by omega) (by decide) (by decide) }
          have e7 : x7 = (a1 - 22) % 78 := by omega
          rw [e8]
          refine OK_jb (vX9_find_l83 (f := f) _ _ _ _ _ _ _ (by (first | ((unfold spP; rw [if_neg (by omega), if_neg (by omega), ← e7]; unfold sqP; first | (rw [no1, if_pos (by decide)]) | (rw [no2, if_pos (by decide)]) | (rw [no3, if_pos (by decide)]) | (rw [no4, if_pos (by decide)]) | (rw [← ye1.1, if_neg (by omega), if_pos (by omega)]) | (rw [← ye1.1, if_neg (by omega), if_neg (by omega)]; omega) | (rw [← ye3.1, if_neg (by omega), if_neg (by omega)]; exact w32_id (by omega) (by omega)) | (rw [← ye3.1, if_neg (by omega), if_neg (by omega)]; omega) | (rw [← ye3.1, if_neg (by omega), if_pos (by omega)]))) | ((unfold spP; rw [if_neg (by omega), if_pos (by omega)]; first | (rw [if_pos (by omega), w32_id (x := a1 - 11) (by omega) (by omega)]; exact w32_id (by omega) (by omega)) | (rw [if_pos (by omega)]; omega) | (rw [if_neg (by omega)]))) | ((unfold spP; rw [if_pos (by omega)]; first | (rw [if_pos (by omega)]) | (rw [if_neg (by omega)]))) | (first | assumption | omega | ((try dsimp only [jt2, jt3, jt4]); first | omega | (simp (disch := omega) only [jst_eq, jst_ne, jst_ni, jst_o, jI_i, jcpy_out, w32_id, jdiv_nn, jshr_k, jand_255] <;> first | done | omega | assumption)) | (intros; simp (disch := omega) only [jst_eq, jst_ne, jst_ni, jst_o, jI_i, jcpy_out, w32_id, jdiv_nn, *] <;> first | done | omega) | (intros; simp (disch := omega) only [jst_eq, jst_ne, jst_ni, jst_o, jI_i, jcpy_out, w32_id, jdiv_nn] at * <;> first | done | omega | assumption) | (intros; first | rfl | (exfalso; omega) | ((repeat' apply And.intro) <;> first | assumption | rfl | omega | trivial))))) (by (first | ((unfold spP; rw [if_neg (by omega), if_neg (by omega), ← e7]; unfold sqP; first | (rw [no1, if_pos (by decide)]) | (rw [no2, if_pos (by decide)]) | (rw [no3, if_pos (by decide)]) | (rw [no4, if_pos (by decide)]) | (rw [← ye1.1, if_neg (by omega), if_pos (by omega)]) | (rw [← ye1.1, if_neg (by omega), if_neg (by omega)]; omega) | (rw [← ye3.1, if_neg (by omega), if_neg (by omega)]; exact w32_id (by omega) (by omega)) | (rw [← ye3.1, if_neg (by omega), if_neg (by omega)]; omega) | (rw [← ye3.1, if_neg (by omega), if_pos (by omega)]))) | ((unfold spP; rw [if_neg (by omega), if_pos (by omega)]; first | (rw [if_pos (by omega), w32_id (x := a1 - 11) (by omega) (by omega)]; exact w32_id (by omega) (by omega)) | (rw [if_pos (by omega)]; omega) | (rw [if_neg (by omega)]))) | ((unfold spP; rw [if_pos (by omega)]; first | (rw [if_pos (by omega)]) | (rw [if_neg (by omega)]))) | (first | assumption | omega | ((try dsimp only [jt2, jt3, jt4]); first | omega | (simp (disch := omega) only [jst_eq, jst_ne, jst_ni, jst_o, jI_i, jcpy_out, w32_id, jdiv_nn, jshr_k, jand_255] <;> first | done | omega | assumption)) | (intros; simp (disch := omega) only [jst_eq, jst_ne, jst_ni, jst_o, jI_i, jcpy_out, w32_id, jdiv_nn, *] <;> first | done | omega) | (intros; simp (disch := omega) only [jst_eq, jst_ne, jst_ni, jst_o, jI_i, jcpy_out, w32_id, jdiv_nn] at * <;> first | done | omega | assumption) | (intros; first | rfl | (exfalso; omega) | ((repeat' apply And.intro) <;> first | assumption | rfl | omega | trivial))))) (by (first | ((unfold spP; rw [if_neg (by omega), if_neg (by omega), ← e7]; unfold sqP; first | (rw [no1, if_pos (by decide)]) | (rw [no2, if_pos (by decide)]) | (rw [no3, if_pos (by decide)]) | (rw [no4, if_pos (by decide)]) | (rw [← ye1.1, if_neg (by omega), if_pos (by omega)]) | (rw [← ye1.1, if_neg (by omega), if_neg (by omega)]; omega) | (rw [← ye3.1, if_neg (by omega), if_neg (by omega)]; exact w32_id (by omega) (by omega)) | (rw [← ye3.1, if_neg (by omega), if_neg (by omega)]; omega) | (rw [← ye3.1, if_neg (by omega), if_pos (by omega)]))) | ((unfold spP; rw [if_neg (by omega), if_pos (by omega)]; first | (rw [if_pos (by omega), w32_id (x := a1 - 11) (by omega) (by omega)]; exact w32_id (by omega) (by omega)) | (rw [if_pos (by omega)]; omega) | (rw [if_neg (by omega)]))) | ((unfold spP; rw [if_pos (by omega)]; first | (rw [if_pos (by omega)]) | (rw [if_neg (by omega)]))) | (first | assumption | omega | ((try dsimp only [jt2, jt3, jt4]); first | omega | (simp (disch := omega) only [jst_eq, jst_ne, jst_ni, jst_o, jI_i, jcpy_out, w32_id, jdiv_nn, jshr_k, jand_255] <;> first | done | omega | assumption)) | (intros; simp (disch := omega) only [jst_eq, jst_ne, jst_ni, jst_o, jI_i, jcpy_out, w32_id, jdiv_nn, *] <;> first | done | omega) | (intros; simp (disch := omega) only [jst_eq, jst_ne, jst_ni, jst_o, jI_i, jcpy_out, w32_id, jdiv_nn] at * <;> first | done | omega | assumption) | (intros; first | rfl | (exfalso; omega) | ((repeat' apply And.intro) <;> first | assumption | rfl | omega | trivial))))) (by (first | ((unfold spP; rw [if_neg (by omega), if_neg (by omega), ← e7]; unfold sqP; first | (rw [no1, if_pos (by decide)]) | (rw [no2, if_pos (by decide)]) | (rw [no3, if_pos (by decide)]) | (rw [no4, if_pos (by decide)]) | (rw [← ye1.1, if_neg (by omega), if_pos (by omega)]) | (rw [← ye1.1, if_neg (by omega), if_neg (by omega)]; omega) | (rw [← ye3.1, if_neg (by omega), if_neg (by omega)]; exact w32_id (by omega) (by omega)) | (rw [← ye3.1, if_neg (by omega), if_neg (by omega)]; omega) | (rw [← ye3.1, if_neg (by omega), if_pos (by omega)]))) | ((unfold spP; rw [if_neg (by omega), if_pos (by omega)]; first | (rw [if_pos (by omega), w32_id (x := a1 - 11) (by omega) (by omega)]; exact w32_id (by omega) (by omega)) | (rw [if_pos (by omega)]; omega) | (rw [if_neg (by omega)]))) | ((unfold spP; rw [if_pos (by omega)]; first | (rw [if_pos (by omega)]) | (rw [if_neg (by omega)]))) | (first | assumption | omega | ((try dsimp only [jt2, jt3, jt4]); first | omega | (simp (disch := omega) only [jst_eq, jst_ne, jst_ni, jst_o, jI_i, jcpy_out, w32_id, jdiv_nn, jshr_k, jand_255] <;> first | done | omega | assumption)) | (intros; simp (disch := omega) only [jst_eq, jst_ne, jst_ni, jst_o, jI_i, jcpy_out, w32_id, jdiv_nn, *] <;> first | done | omega) | (intros; simp (disch := omega) only [jst_eq, jst_ne, jst_ni, jst_o, jI_i, jcpy_out, w32_id, jdiv_nn] at * <;> first | done | omega | assumption) | (intros; first | rfl | (exfalso; omega) | ((repeat' apply And.intro) <;> first | assumption | rfl | omega | trivial)))))) (fun o9 r1 => ?_)
          rcases o9 with o11 | o12
          · skip
            have r2 := r1; clear r1
            dsimp only [Sum.elim_inl, Sum.elim_inr] at r2
            try dsimp only [Sum.elim_inl, Sum.elim_inr, jt2, jt3, jt4, jt5, jt6, jt7, jt8] at r2
            have ye1 := r2
            clear r2
            try simp (disch := omega) only [jst_eq, jst_ne, jst_ni, jI_i, jcmp_lt, jcmp_gt, w32_id, jcpy_out, Sum.elim_inl, Sum.elim_inr, jt2, jt3, jt4, jt5, jt6, jt7, jt8] at ye1
            refine OK_jml ?_
            refine OK_if (fun c5 => ?_) (fun c5 => ?_)
            · skip
              try simp (disch := omega) only [jst_eq, jst_ne, jst_ni, jI_i, jcmp_lt, jcmp_gt, w32_id, jcpy_out, Sum.elim_inl, Sum.elim_inr, jt2, jt3, jt4, jt5, jt6, jt7, jt8] at c5
              refine OK_some ?_
              try dsimp only [Sum.elim_inl, Sum.elim_inr, jt2, jt3, jt4, jt5, jt6, jt7, jt8]
              (first | ((unfold spP; rw [if_neg (by omega), if_neg (by omega), ← e7]; unfold sqP; first | (rw [no1, if_pos (by decide)]) | (rw [no2, if_pos (by decide)]) | (rw [no3, if_pos (by decide)]) | (rw [no4, if_pos (by decide)]) | (rw [← ye1.1, if_neg (by omega), if_pos (by omega)]) | (rw [← ye1.1, if_neg (by omega), if_neg (by omega)]; omega) | (rw [← ye3.1, if_neg (by omega), if_neg (by omega)]; exact w32_id (by omega) (by omega)) | (rw [← ye3.1, if_neg (by omega), if_neg (by omega)]; omega) | (rw [← ye3.1, if_neg (by omega), if_pos (by omega)]))) | ((unfold spP; rw [if_neg (by omega), if_pos (by omega)]; first | (rw [if_pos (by omega), w32_id (x := a1 - 11) (by omega) (by omega)]; exact w32_id (by omega) (by omega)) | (rw [if_pos (by omega)]; omega) | (rw [if_neg (by omega)]))) | ((unfold spP; rw [if_pos (by omega)]; first | (rw [if_pos (by omega)]) | (rw [if_neg (by omega)]))) | (first | assumption | omega | ((try dsimp only [jt2, jt3, jt4]); first | omega | (simp (disch := omega) only [jst_eq, jst_ne, jst_ni, jst_o, jI_i, jcpy_out, w32_id, jdiv_nn, jshr_k, jand_255] <;> first | done | omega | assumption)) | (intros; simp (disch := omega) only [jst_eq, jst_ne, jst_ni, jst_o, jI_i, jcpy_out, w32_id, jdiv_nn, *] <;> first | done | omega) | (intros; simp (disch := omega) only [jst_eq, jst_ne, jst_ni, jst_o, jI_i, jcpy_out, w32_id, jdiv_nn] at * <;> first | done | omega | assumption) | (intros; first | rfl | (exfalso; omega) | ((repeat' apply And.intro) <;> first | assumption | rfl | omega | trivial)))) -- o5 e1
            · skip
              try simp (disch := omega) only [jst_eq, jst_ne, jst_ni, jI_i, jcmp_lt, jcmp_gt, w32_id, jcpy_out, Sum.elim_inl, Sum.elim_inr, jt2, jt3, jt4, jt5, jt6, jt7, jt8] at c5
              exfalso
              exact c5 trivial
          · skip
            have r3 := r1; clear r1
            dsimp only [Sum.elim_inl, Sum.elim_inr] at r3
            try dsimp only [Sum.elim_inl, Sum.elim_inr, jt2, jt3, jt4, jt5, jt6, jt7, jt8] at r3
            have no2 := r3
            clear r3
            try simp (disch := omega) only [jst_eq, jst_ne, jst_ni, jI_i, jcmp_lt, jcmp_gt, w32_id, jcpy_out, Sum.elim_inl, Sum.elim_inr, jt2, jt3, jt4, jt5, jt6, jt7, jt8] at no2
            refine OK_jmr ?_
            refine OK_some ?_
            try dsimp only [Sum.elim_inl, Sum.elim_inr, jt2, jt3, jt4, jt5, jt6, jt7, jt8]
            (first | ((unfold spP; rw [if_neg (by omega), if_neg (by omega), ← e7]; unfold sqP; first | (rw [no1, if_pos (by decide)]) | (rw [no2, if_pos (by decide)]) | (rw [no3, if_pos (by decide)]) | (rw [no4, if_pos (by decide)]) | (rw [← ye1.1, if_neg (by omega), if_pos (by omega)]) | (rw [← ye1.1, if_neg (by omega), if_neg (by omega)]; omega) | (rw [← ye3.1, if_neg (by omega), if_neg (by omega)]; exact w32_id (by omega) (by omega)) | (rw [← ye3.1, if_neg (by omega), if_neg (by omega)]; omega) | (rw [← ye3.1, if_neg (by omega), if_pos (by omega)]))) | ((unfold spP; rw [if_neg (by omega), if_pos (by omega)]; first | (rw [if_pos (by omega), w32_id (x := a1 - 11) (by omega) (by omega)]; exact w32_id (by omega) (by omega)) | (rw [if_pos (by omega)]; omega) | (rw [if_neg (by omega)]))) | ((unfold spP; rw [if_pos (by omega)]; first | (rw [if_pos (by omega)]) | (rw [if_neg (by omega)]))) | (first | assumption | omega | ((try dsimp only [jt2, jt3, jt4]); first | omega | (simp (disch := omega) only [jst_eq, jst_ne, jst_ni, jst_o, jI_i, jcpy_out, w32_id, jdiv_nn, jshr_k, jand_255] <;> first | done | omega | assumption)) | (intros; simp (disch := omega) only [jst_eq, jst_ne, jst_ni, jst_o, jI_i, jcpy_out, w32_id, jdiv_nn, *] <;> first | done | omega) | (intros; simp (disch := omega) only [jst_eq, jst_ne, jst_ni, jst_o, jI_i, jcpy_out, w32_id, jdiv_nn] at * <;> first | done | omega | assumption) | (intros; first | rfl | (exfalso; omega) | ((repeat' apply And.intro) <;> first | assumption | rfl | omega | trivial)))) -- o6 e2
        · skip
          try simp (disch := omega) only [jst_eq, jst_ne, jst_ni, jI_i, jcmp_lt, jcmp_gt, w32_id, jcpy_out, Sum.elim_inl, Sum.elim_inr, jt2, jt3, jt4, jt5, jt6, jt7, jt8] at c4
          exfalso
          exact c4 trivial
      · skip
        try simp (disch := omega) only [jst_eq, jst_ne, jst_ni, jI_i, jcmp_lt, jcmp_gt, w32_id, jcpy_out, Sum.elim_inl, Sum.elim_inr, jt2, jt3, jt4, jt5, jt6, jt7, jt8] at c3
        unfold gX9_find_j56
        refine OK_if (fun c6 => ?_) (fun c6 => ?_)
        · skip
          try simp (disch := omega) only [jst_eq, jst_ne, jst_ni, jI_i, jcmp_lt, jcmp_gt, w32_id, jcpy_out, Sum.elim_inl, Sum.elim_inr, jt2, jt3, jt4, jt5, jt6, jt7, jt8] at c6
          exfalso
          exact absurd c6 (by decide)
        · skip
          try simp (disch := omega) only [jst_eq, jst_ne, jst_ni, jI_i, jcmp_lt, jcmp_gt, w32_id, jcpy_out, Sum.elim_inl, Sum.elim_inr, jt2, jt3, jt4, jt5, jt6, jt7, jt8] at c6
          unfold gX9_find_j71
          refine OK_jlx (fun x7 ex7 => ?_)
          try simp (disch := omega) only [jst_eq, jst_ne, jst_ni, jI_i, jcmp_lt, jcmp_gt, w32_id, jcpy_out, Sum.elim_inl, Sum.elim_inr, jt2, jt3, jt4, jt5, jt6, jt7, jt8] at ex7
          refine OK_jlx (fun x8 ex8 => ?_)
          try simp (disch := omega) only [jst_eq, jst_ne, jst_ni, jI_i, jcmp_lt, jcmp_gt, w32_id, jcpy_out, Sum.elim_inl, Sum.elim_inr, jt2, jt3, jt4, jt5, jt6, jt7, jt8] at ex8
          have e8 : x8 = x7 % 3 := by { rw [ex8]; exact jrem_nn (by omega) (by omega) (by decide) (by decide) }
          have e7 : x7 = (a1 - 22) % 78 := by omega
          rw [e8]
          refine OK_jb (vX9_find_l83 (f := f) _ _ _ _ _ _ _ (by (first | ((unfold spP; rw [if_neg (by omega), if_neg (by omega), ← e7]; unfold sqP; first | (rw [no1, if_pos (by decide)]) | (rw [no2, if_pos (by decide)]) | (rw [no3, if_pos (by decide)]) | (rw [no4, if_pos (by decide)]) | (rw [← ye1.1, if_neg (by omega), if_pos (by omega)]) | (rw [← ye1.1, if_neg (by omega), if_neg (by omega)]; omega) | (rw [← ye3.1, if_neg (by omega), if_neg (by omega)]; exact w32_id (by omega) (by omega)) | (rw [← ye3.1, if_neg (by omega), if_neg (by omega)]; omega) | (rw [← ye3.1, if_neg (by omega), if_pos (by omega)]))) | ((unfold spP; rw [if_neg (by omega), if_pos (by omega)]; first | (rw [if_pos (by omega), w32_id (x := a1 - 11) (by omega) (by omega)]; exact w32_id (by omega) (by omega)) | (rw [if_pos (by omega)]; omega) | (rw [if_neg (by omega)]))) | ((unfold spP; rw [if_pos (by omega)]; first | (rw [if_pos (by omega)]) | (rw [if_neg (by omega)]))) | (first | assumption | omega | ((try dsimp only [jt2, jt3, jt4]); first | omega | (simp (disch := omega) only [jst_eq, jst_ne, jst_ni, jst_o, jI_i, jcpy_out, w32_id, jdiv_nn, jshr_k, jand_255] <;> first | done | omega | assumption)) | (intros; simp (disch := omega) only [jst_eq, jst_ne, jst_ni, jst_o, jI_i, jcpy_out, w32_id, jdiv_nn, *] <;> first | done | omega) | (intros; simp (disch := omega) only [jst_eq, jst_ne, jst_ni, jst_o, jI_i, jcpy_out, w32_id, jdiv_nn] at * <;> first | done | omega | assumption) | (intros; first | rfl | (exfalso; omega) | ((repeat' apply And.intro) <;> first | assumption | rfl | omega | trivial))))) (by (first | ((unfold spP; rw [if_neg (by omega), if_neg (by omega), ← e7]; unfold sqP; first | (rw [no1, if_pos (by decide)]) | (rw [no2, if_pos (by decide)]) | (rw [no3, if_pos (by decide)]) | (rw [no4, if_pos (by decide)]) | (rw [← ye1.1, if_neg (by omega), if_pos (by omega)]) | (rw [← ye1.1, if_neg (by omega), if_neg (by omega)]; omega) | (rw [← ye3.1, if_neg (by omega), if_neg (by omega)]; exact w32_id (by omega) (by omega)) | (rw [← ye3.1, if_neg (by omega), if_neg (by omega)]; omega) | (rw [← ye3.1, if_neg (by omega), if_pos (by omega)]))) | ((unfold spP; rw [if_neg (by omega), if_pos (by omega)]; first | (rw [if_pos (by omega), w32_id (x := a1 - 11) (by omega) (by omega)]; exact w32_id (by omega) (by omega)) | (rw [if_pos (by omega)]; omega) | (rw [if_neg (by omega)]))) | ((unfold spP; rw [if_pos (by omega)]; first | (rw [if_pos (by omega)]) | (rw [if_neg (by omega)]))) | (first | assumption | omega | ((try dsimp only [jt2, jt3, jt4]); first | omega | (simp (disch := omega) only [jst_eq, jst_ne, jst_ni, jst_o, jI_i, jcpy_out, w32_id, jdiv_nn, jshr_k, jand_255] <;> first | done | omega | assumption)) | (intros; simp (disch := omega) only [jst_eq, jst_ne, jst_ni, jst_o, jI_i, jcpy_out, w32_id, jdiv_nn, *] <;> first | done | omega) | (intros; simp (disch := omega) only [jst_eq, jst_ne, jst_ni, jst_o, jI_i, jcpy_out, w32_id, jdiv_nn] at * <;> first | done | omega | assumption) | (intros; first | rfl | (exfalso; omega) | ((repeat' apply And.intro) <;> first | assumption | rfl | omega | trivial))))) (by (first | ((unfold spP; rw [if_neg (by omega), if_neg (by omega), ← e7]; unfold sqP; first | (rw [no1, if_pos (by decide)]) | (rw [no2, if_pos (by decide)]) | (rw [no3, if_pos (by decide)]) | (rw [no4, if_pos (by decide)]) | (rw [← ye1.1, if_neg (by omega), if_pos (by omega)]) | (rw [← ye1.1, if_neg (by omega), if_neg (by omega)]; omega) | (rw [← ye3.1, if_neg (by omega), if_neg (by omega)]; exact w32_id (by omega) (by omega)) | (rw [← ye3.1, if_neg (by omega), if_neg (by omega)]; omega) | (rw [← ye3.1, if_neg (by omega), if_pos (by omega)]))) | ((unfold spP; rw [if_neg (by omega), if_pos (by omega)]; first | (rw [if_pos (by omega), w32_id (x := a1 - 11) (by omega) (by omega)]; exact w32_id (by omega) (by omega)) | (rw [if_pos (by omega)]; omega) | (rw [if_neg (by omega)]))) | ((unfold spP; rw [if_pos (by omega)]; first | (rw [if_pos (by omega)]) | (rw [if_neg (by omega)]))) | (first | assumption | omega | ((try dsimp only [jt2, jt3, jt4]); first | omega | (simp (disch := omega) only [jst_eq, jst_ne, jst_ni, jst_o, jI_i, jcpy_out, w32_id, jdiv_nn, jshr_k, jand_255] <;> first | done | omega | assumption)) | (intros; simp (disch := omega) only [jst_eq, jst_ne, jst_ni, jst_o, jI_i, jcpy_out, w32_id, jdiv_nn, *] <;> first | done | omega) | (intros; simp (disch := omega) only [jst_eq, jst_ne, jst_ni, jst_o, jI_i, jcpy_out, w32_id, jdiv_nn] at * <;> first | done | omega | assumption) | (intros; first | rfl | (exfalso; omega) | ((repeat' apply And.intro) <;> first | assumption | rfl | omega | trivial))))) (by (first | ((unfold spP; rw [if_neg (by omega), if_neg (by omega), ← e7]; unfold sqP; first | (rw [no1, if_pos (by decide)]) | (rw [no2, if_pos (by decide)]) | (rw [no3, if_pos (by decide)]) | (rw [no4, if_pos (by decide)]) | (rw [← ye1.1, if_neg (by omega), if_pos (by omega)]) | (rw [← ye1.1, if_neg (by omega), if_neg (by omega)]; omega) | (rw [← ye3.1, if_neg (by omega), if_neg (by omega)]; exact w32_id (by omega) (by omega)) | (rw [← ye3.1, if_neg (by omega), if_neg (by omega)]; omega) | (rw [← ye3.1, if_neg (by omega), if_pos (by omega)]))) | ((unfold spP; rw [if_neg (by omega), if_pos (by omega)]; first | (rw [if_pos (by omega), w32_id (x := a1 - 11) (by omega) (by omega)]; exact w32_id (by omega) (by omega)) | (rw [if_pos (by omega)]; omega) | (rw [if_neg (by omega)]))) | ((unfold spP; rw [if_pos (by omega)]; first | (rw [if_pos (by omega)]) | (rw [if_neg (by omega)]))) | (first | assumption | omega | ((try dsimp only [jt2, jt3, jt4]); first | omega | (simp (disch := omega) only [jst_eq, jst_ne, jst_ni, jst_o, jI_i, jcpy_out, w32_id, jdiv_nn, jshr_k, jand_255] <;> first | done | omega | assumption)) | (intros; simp (disch := omega) only [jst_eq, jst_ne, jst_ni, jst_o, jI_i, jcpy_out, w32_id, jdiv_nn, *] <;> first | done | omega) | (intros; simp (disch := omega) only [jst_eq, jst_ne, jst_ni, jst_o, jI_i, jcpy_out, w32_id, jdiv_nn] at * <;> first | done | omega | assumption) | (intros; first | rfl | (exfalso; omega) | ((repeat' apply And.intro) <;> first | assumption | rfl | omega | trivial)))))) (fun o9 r4 => ?_)
          rcases o9 with o11 | o12
          · skip
            have r5 := r4; clear r4
            dsimp only [Sum.elim_inl, Sum.elim_inr] at r5
            try dsimp only [Sum.elim_inl, Sum.elim_inr, jt2, jt3, jt4, jt5, jt6, jt7, jt8] at r5
            have ye3 := r5
            clear r5
            try simp (disch := omega) only [jst_eq, jst_ne, jst_ni, jI_i, jcmp_lt, jcmp_gt, w32_id, jcpy_out, Sum.elim_inl, Sum.elim_inr, jt2, jt3, jt4, jt5, jt6, jt7, jt8] at ye3
            refine OK_jml ?_
            refine OK_if (fun c7 => ?_) (fun c7 => ?_)
            · skip
              try simp (disch := omega) only [jst_eq, jst_ne, jst_ni, jI_i, jcmp_lt, jcmp_gt, w32_id, jcpy_out, Sum.elim_inl, Sum.elim_inr, jt2, jt3, jt4, jt5, jt6, jt7, jt8] at c7
              exfalso
              exact absurd c7 (by decide)
            · skip
              try simp (disch := omega) only [jst_eq, jst_ne, jst_ni, jI_i, jcmp_lt, jcmp_gt, w32_id, jcpy_out, Sum.elim_inl, Sum.elim_inr, jt2, jt3, jt4, jt5, jt6, jt7, jt8] at c7
              refine OK_some ?_
              try dsimp only [Sum.elim_inl, Sum.elim_inr, jt2, jt3, jt4, jt5, jt6, jt7, jt8]
              (first | ((unfold spP; rw [if_neg (by omega), if_neg (by omega), ← e7]; unfold sqP; first | (rw [no1, if_pos (by decide)]) | (rw [no2, if_pos (by decide)]) | (rw [no3, if_pos (by decide)]) | (rw [no4, if_pos (by decide)]) | (rw [← ye1.1, if_neg (by omega), if_pos (by omega)]) | (rw [← ye1.1, if_neg (by omega), if_neg (by omega)]; omega) | (rw [← ye3.1, if_neg (by omega), if_neg (by omega)]; exact w32_id (by omega) (by omega)) | (rw [← ye3.1, if_neg (by omega), if_neg (by omega)]; omega) | (rw [← ye3.1, if_neg (by omega), if_pos (by omega)]))) | ((unfold spP; rw [if_neg (by omega), if_pos (by omega)]; first | (rw [if_pos (by omega), w32_id (x := a1 - 11) (by omega) (by omega)]; exact w32_id (by omega) (by omega)) | (rw [if_pos (by omega)]; omega) | (rw [if_neg (by omega)]))) | ((unfold spP; rw [if_pos (by omega)]; first | (rw [if_pos (by omega)]) | (rw [if_neg (by omega)]))) | (first | assumption | omega | ((try dsimp only [jt2, jt3, jt4]); first | omega | (simp (disch := omega) only [jst_eq, jst_ne, jst_ni, jst_o, jI_i, jcpy_out, w32_id, jdiv_nn, jshr_k, jand_255] <;> first | done | omega | assumption)) | (intros; simp (disch := omega) only [jst_eq, jst_ne, jst_ni, jst_o, jI_i, jcpy_out, w32_id, jdiv_nn, *] <;> first | done | omega) | (intros; simp (disch := omega) only [jst_eq, jst_ne, jst_ni, jst_o, jI_i, jcpy_out, w32_id, jdiv_nn] at * <;> first | done | omega | assumption) | (intros; first | rfl | (exfalso; omega) | ((repeat' apply And.intro) <;> first | assumption | rfl | omega | trivial)))) -- o11 e3
          · skip
            have r6 := r4; clear r4
            dsimp only [Sum.elim_inl, Sum.elim_inr] at r6
            try dsimp only [Sum.elim_inl, Sum.elim_inr, jt2, jt3, jt4, jt5, jt6, jt7, jt8] at r6
            have no4 := r6
            clear r6
            try simp (disch := omega) only [jst_eq, jst_ne, jst_ni, jI_i, jcmp_lt, jcmp_gt, w32_id, jcpy_out, Sum.elim_inl, Sum.elim_inr, jt2, jt3, jt4, jt5, jt6, jt7, jt8] at no4
            refine OK_jmr ?_
            refine OK_some ?_
            try dsimp only [Sum.elim_inl, Sum.elim_inr, jt2, jt3, jt4, jt5, jt6, jt7, jt8]
            (first | ((unfold spP; rw [if_neg (by omega), if_neg (by omega), ← e7]; unfold sqP; first | (rw [no1, if_pos (by decide)]) | (rw [no2, if_pos (by decide)]) | (rw [no3, if_pos (by decide)]) | (rw [no4, if_pos (by decide)]) | (rw [← ye1.1, if_neg (by omega), if_pos (by omega)]) | (rw [← ye1.1, if_neg (by omega), if_neg (by omega)]; omega) | (rw [← ye3.1, if_neg (by omega), if_neg (by omega)]; exact w32_id (by omega) (by omega)) | (rw [← ye3.1, if_neg (by omega), if_neg (by omega)]; omega) | (rw [← ye3.1, if_neg (by omega), if_pos (by omega)]))) | ((unfold spP; rw [if_neg (by omega), if_pos (by omega)]; first | (rw [if_pos (by omega), w32_id (x := a1 - 11) (by omega) (by omega)]; exact w32_id (by omega) (by omega)) | (rw [if_pos (by omega)]; omega) | (rw [if_neg (by omega)]))) | ((unfold spP; rw [if_pos (by omega)]; first | (rw [if_pos (by omega)]) | (rw [if_neg (by omega)]))) | (first | assumption | omega | ((try dsimp only [jt2, jt3, jt4]); first | omega | (simp (disch := omega) only [jst_eq, jst_ne, jst_ni, jst_o, jI_i, jcpy_out, w32_id, jdiv_nn, jshr_k, jand_255] <;> first | done | omega | assumption)) | (intros; simp (disch := omega) only [jst_eq, jst_ne, jst_ni, jst_o, jI_i, jcpy_out, w32_id, jdiv_nn, *] <;> first | done | omega) | (intros; simp (disch := omega) only [jst_eq, jst_ne, jst_ni, jst_o, jI_i, jcpy_out, w32_id, jdiv_nn] at * <;> first | done | omega | assumption) | (intros; first | rfl | (exfalso; omega) | ((repeat' apply And.intro) <;> first | assumption | rfl | omega | trivial)))) -- o12 e4
    · skip
      try simp (disch := omega) only [jst_eq, jst_ne, jst_ni, jI_i, jcmp_lt, jcmp_gt, w32_id, jcpy_out, Sum.elim_inl, Sum.elim_inr, jt2, jt3, jt4, jt5, jt6, jt7, jt8] at c2
      refine OK_if (fun c8 => ?_) (fun c8 => ?_)
      · skip
        try simp (disch := omega) only [jst_eq, jst_ne, jst_ni, jI_i, jcmp_lt, jcmp_gt, w32_id, jcpy_out, Sum.elim_inl, Sum.elim_inr, jt2, jt3, jt4, jt5, jt6, jt7, jt8] at c8
        refine OK_some ?_
        try dsimp only [Sum.elim_inl, Sum.elim_inr, jt2, jt3, jt4, jt5, jt6, jt7, jt8]
        (first | ((unfold spP; rw [if_neg (by omega), if_neg (by omega), ← e7]; unfold sqP; first | (rw [no1, if_pos (by decide)]) | (rw [no2, if_pos (by decide)]) | (rw [no3, if_pos (by decide)]) | (rw [no4, if_pos (by decide)]) | (rw [← ye1.1, if_neg (by omega), if_pos (by omega)]) | (rw [← ye1.1, if_neg (by omega), if_neg (by omega)]; omega) | (rw [← ye3.1, if_neg (by omega), if_neg (by omega)]; exact w32_id (by omega) (by omega)) | (rw [← ye3.1, if_neg (by omega), if_neg (by omega)]; omega) | (rw [← ye3.1, if_neg (by omega), if_pos (by omega)]))) | ((unfold spP; rw [if_neg (by omega), if_pos (by omega)]; first | (rw [if_pos (by omega), w32_id (x := a1 - 11) (by omega) (by omega)]; exact w32_id (by omega) (by omega)) | (rw [if_pos (by omega)]; omega) | (rw [if_neg (by omega)]))) | ((unfold spP; rw [if_pos (by omega)]; first | (rw [if_pos (by omega)]) | (rw [if_neg (by omega)]))) | (first | assumption | omega | ((try dsimp only [jt2, jt3, jt4]); first | omega | (simp (disch := omega) only [jst_eq, jst_ne, jst_ni, jst_o, jI_i, jcpy_out, w32_id, jdiv_nn, jshr_k, jand_255] <;> first | done | omega | assumption)) | (intros; simp (disch := omega) only [jst_eq, jst_ne, jst_ni, jst_o, jI_i, jcpy_out, w32_id, jdiv_nn, *] <;> first | done | omega) | (intros; simp (disch := omega) only [jst_eq, jst_ne, jst_ni, jst_o, jI_i, jcpy_out, w32_id, jdiv_nn] at * <;> first | done | omega | assumption) | (intros; first | rfl | (exfalso; omega) | ((repeat' apply And.intro) <;> first | assumption | rfl | omega | trivial)))) -- o13 e5
      · skip
        try simp (disch := omega) only [jst_eq, jst_ne, jst_ni, jI_i, jcmp_lt, jcmp_gt, w32_id, jcpy_out, Sum.elim_inl, Sum.elim_inr, jt2, jt3, jt4, jt5, jt6, jt7, jt8] at c8
        refine OK_some ?_
        try dsimp only [Sum.elim_inl, Sum.elim_inr, jt2, jt3, jt4, jt5, jt6, jt7, jt8]
        (first | ((unfold spP; rw [if_neg (by omega), if_neg (by omega), ← e7]; unfold sqP; first | (rw [no1, if_pos (by decide)]) | (rw [no2, if_pos (by decide)]) | (rw [no3, if_pos (by decide)]) | (rw [no4, if_pos (by decide)]) | (rw [← ye1.1, if_neg (by omega), if_pos (by omega)]) | (rw [← ye1.1, if_neg (by omega), if_neg (by omega)]; omega) | (rw [← ye3.1, if_neg (by omega), if_neg (by omega)]; exact w32_id (by omega) (by omega)) | (rw [← ye3.1, if_neg (by omega), if_neg (by omega)]; omega) | (rw [← ye3.1, if_neg (by omega), if_pos (by omega)]))) | ((unfold spP; rw [if_neg (by omega), if_pos (by omega)]; first | (rw [if_pos (by omega), w32_id (x := a1 - 11) (by omega) (by omega)]; exact w32_id (by omega) (by omega)) | (rw [if_pos (by omega)]; omega) | (rw [if_neg (by omega)]))) | ((unfold spP; rw [if_pos (by omega)]; first | (rw [if_pos (by omega)]) | (rw [if_neg (by omega)]))) | (first | assumption | omega | ((try dsimp only [jt2, jt3, jt4]); first | omega | (simp (disch := omega) only [jst_eq, jst_ne, jst_ni, jst_o, jI_i, jcpy_out, w32_id, jdiv_nn, jshr_k, jand_255] <;> first | done | omega | assumption)) | (intros; simp (disch := omega) only [jst_eq, jst_ne, jst_ni, jst_o, jI_i, jcpy_out, w32_id, jdiv_nn, *] <;> first | done | omega) | (intros; simp (disch := omega) only [jst_eq, jst_ne, jst_ni, jst_o, jI_i, jcpy_out, w32_id, jdiv_nn] at * <;> first | done | omega | assumption) | (intros; first | rfl | (exfalso; omega) | ((repeat' apply And.intro) <;> first | assumption | rfl | omega | trivial)))) -- o14 e6
  · skip
    try simp (disch := omega) only [jst_eq, jst_ne, jst_ni, jI_i, jcmp_lt, jcmp_gt, w32_id, jcpy_out, Sum.elim_inl, Sum.elim_inr, jt2, jt3, jt4, jt5, jt6, jt7, jt8] at c1
    refine OK_if (fun c9 => ?_) (fun c9 => ?_)
    · skip
      try simp (disch := omega) only [jst_eq, jst_ne, jst_ni, jI_i, jcmp_lt, jcmp_gt, w32_id, jcpy_out, Sum.elim_inl, Sum.elim_inr, jt2, jt3, jt4, jt5, jt6, jt7, jt8] at c9
      refine OK_some ?_
      try dsimp only [Sum.elim_inl, Sum.elim_inr, jt2, jt3, jt4, jt5, jt6, jt7, jt8]
      (first | ((unfold spP; rw [if_neg (by omega), if_neg (by omega), ← e7]; unfold sqP; first | (rw [no1, if_pos (by decide)]) | (rw [no2, if_pos (by decide)]) | (rw [no3, if_pos (by decide)]) | (rw [no4, if_pos (by decide)]) | (rw [← ye1.1, if_neg (by omega), if_pos (by omega)]) | (rw [← ye1.1, if_neg (by omega), if_neg (by omega)]; omega) | (rw [← ye3.1, if_neg (by omega), if_neg (by omega)]; exact w32_id (by omega) (by omega)) | (rw [← ye3.1, if_neg (by omega), if_neg (by omega)]; omega) | (rw [← ye3.1, if_neg (by omega), if_pos (by omega)]))) | ((unfold spP; rw [if_neg (by omega), if_pos (by omega)]; first | (rw [if_pos (by omega), w32_id (x := a1 - 11) (by omega) (by omega)]; exact w32_id (by omega) (by omega)) | (rw [if_pos (by omega)]; omega) | (rw [if_neg (by omega)]))) | ((unfold spP; rw [if_pos (by omega)]; first | (rw [if_pos (by omega)]) | (rw [if_neg (by omega)]))) | (first | assumption | omega | ((try dsimp only [jt2, jt3, jt4]); first | omega | (simp (disch := omega) only [jst_eq, jst_ne, jst_ni, jst_o, jI_i, jcpy_out, w32_id, jdiv_nn, jshr_k, jand_255] <;> first | done | omega | assumption)) | (intros; simp (disch := omega) only [jst_eq, jst_ne, jst_ni, jst_o, jI_i, jcpy_out, w32_id, jdiv_nn, *] <;> first | done | omega) | (intros; simp (disch := omega) only [jst_eq, jst_ne, jst_ni, jst_o, jI_i, jcpy_out, w32_id, jdiv_nn] at * <;> first | done | omega | assumption) | (intros; first | rfl | (exfalso; omega) | ((repeat' apply And.intro) <;> first | assumption | rfl | omega | trivial)))) -- o15 e7
    · skip
      try simp (disch := omega) only [jst_eq, jst_ne, jst_ni, jI_i, jcmp_lt, jcmp_gt, w32_id, jcpy_out, Sum.elim_inl, Sum.elim_inr, jt2, jt3, jt4, jt5, jt6, jt7, jt8] at c9
      refine OK_some ?_
      try dsimp only [Sum.elim_inl, Sum.elim_inr, jt2, jt3, jt4, jt5, jt6, jt7, jt8]
      (first | ((unfold spP; rw [if_neg (by omega), if_neg (by omega), ← e7]; unfold sqP; first | (rw [no1, if_pos (by decide)]) | (rw [no2, if_pos (by decide)]) | (rw [no3, if_pos (by decide)]) | (rw [no4, if_pos (by decide)]) | (rw [← ye1.1, if_neg (by omega), if_pos (by omega)]) | (rw [← ye1.1, if_neg (by omega), if_neg (by omega)]; omega) | (rw [← ye3.1, if_neg (by omega), if_neg (by omega)]; exact w32_id (by omega) (by omega)) | (rw [← ye3.1, if_neg (by omega), if_neg (by omega)]; omega) | (rw [← ye3.1, if_neg (by omega), if_pos (by omega)]))) | ((unfold spP; rw [if_neg (by omega), if_pos (by omega)]; first | (rw [if_pos (by omega), w32_id (x := a1 - 11) (by omega) (by omega)]; exact w32_id (by omega) (by omega)) | (rw [if_pos (by omega)]; omega) | (rw [if_neg (by omega)]))) | ((unfold spP; rw [if_pos (by omega)]; first | (rw [if_pos (by omega)]) | (rw [if_neg (by omega)]))) | (first | assumption | omega | ((try dsimp only [jt2, jt3, jt4]); first | omega | (simp (disch := omega) only [jst_eq, jst_ne, jst_ni, jst_o, jI_i, jcpy_out, w32_id, jdiv_nn, jshr_k, jand_255] <;> first | done | omega | assumption)) | (intros; simp (disch := omega) only [jst_eq, jst_ne, jst_ni, jst_o, jI_i, jcpy_out, w32_id, jdiv_nn, *] <;> first | done | omega) | (intros; simp (disch := omega) only [jst_eq, jst_ne, jst_ni, jst_o, jI_i, jcpy_out, w32_id, jdiv_nn] at * <;> first | done | omega | assumption) | (intros; first | rfl | (exfalso; omega) | ((repeat' apply And.intro) <;> first | assumption | rfl | omega | trivial)))) -- o16 e8
theorem jand_b {x y : Int} (hx : x = 0 ∨ x = 1) (hy : y = 0 ∨ y = 1) : jand x y = if x = 1 ∧ y = 1 then 1 else 0 := by
  rcases hx with rfl | rfl <;> rcases hy with rfl | rfl <;> decide
theorem ji2z_b {x : Int} (hx : x = 0 ∨ x = 1) : ji2z x = x := by
  rcases hx with rfl | rfl
  · exact ji2z_0
  · exact ji2z_1
def lenC (h : AH) : Prop := h 409 (-2) = 103 ∧ h 409 (-1) = 80
theorem vX9_findSpots_l18 (i1 : Int) (a20 : Int) {h0 : AH} {e : CE} (hc : cuX h0 e) (hv : vCE e) (hl : lenC h0) (h1 : 0 ≤ i1 ∧ i1 < 178) (h2 : a20 = 0) (hb : h0 414 i1 = 1) : OK (gX9_findSpots_l18 i1 a20 h0) (fun h' => ((∀ r, 0 ≤ r → r < e.1 → h' 413 (8 * i1 + r) = ps e i1 r) ∧ ((h' 414 i1 = 1 ∧ isP e i1) ∨ (h' 414 i1 = 0 ∧ ¬ isP e i1))) ∧ (∀ a s, ¬ (a = 413 ∧ 8 * i1 ≤ s ∧ s < 8 * i1 + 8) → ¬ (a = 414 ∧ s = i1) → h' a s = h0 a s)) := by
  have n1 := hv.1.1
  unfold gX9_findSpots_l18
  refine OK_jit (I := (fun (s : Int × AH) => jt2 s fun a2 h => (0 ≤ a2 ∧ a2 ≤ e.1) ∧ (∀ r, 0 ≤ r → r < a2 → h 413 (8 * i1 + r) = ps e i1 r) ∧ ((h 414 i1 = 1 ∧ ∀ r, 0 ≤ r → r < a2 → 0 ≤ ps e i1 r) ∨ (h 414 i1 = 0 ∧ ∃ r, 0 ≤ r ∧ r < a2 ∧ ps e i1 r < 0)) ∧ (∀ a s, ¬ (a = 413 ∧ 8 * i1 ≤ s ∧ s < 8 * i1 + 8) → ¬ (a = 414 ∧ s = i1) → h a s = h0 a s))) (m := (fun (s : Int × AH) => jt2 s fun a2 h => (e.1 - a2).toNat)) ?_ ?_
  · intro s hs
    obtain ⟨a2, h⟩ := s
    dsimp only [Sum.elim_inl, Sum.elim_inr, jt2, jt3, jt4, jt5, jt6, jt7, jt8] at hs
    obtain ⟨q0, q1, q2, fr⟩ := hs
    unfold gX9_findSpots_b18
    refine OK_jt2 ?_
    have C := cuX_f hc (fun a s q => fr a s (by omega) (by omega))
    have c0 := C.1
    have n8 := hv.1.2
    have rw2 : a2 < e.1 → h 411 a2 = e.2.2.2.1 a2 ∧ (0 ≤ e.2.2.2.1 a2 ∧ e.2.2.2.1 a2 ≤ 10) ∧ ∀ k, 0 ≤ k → k < e.2.2.2.1 a2 → h 409 (10 * a2 + k) = e.2.1 a2 k + 97 := fun l => ⟨(C.2 a2 q0.1 l).1, (hv.2 a2 q0.1 l).1, (C.2 a2 q0.1 l).2.2.1⟩
    refine OK_if (fun c1 => ?_) (fun c1 => ?_)
    · skip
      try simp (disch := omega) only [jst_eq, jst_ne, jst_ni, jI_i, jcmp_lt, jcmp_gt, w32_id, jcpy_out, Sum.elim_inl, Sum.elim_inr, jt2, jt3, jt4, jt5, jt6, jt7, jt8] at c1
      refine OK_ir ?_
      try dsimp only [Sum.elim_inl, Sum.elim_inr, jt2, jt3, jt4, jt5, jt6, jt7, jt8]
      refine ⟨?_, ?_⟩
      · (have ee : a2 = e.1 := (by omega); rw [ee] at q1 q2; refine ⟨q1, ?_⟩; rcases q2 with u | ⟨u, r, u1, u2, u3⟩; { exact Or.inl ⟨u.1, u.2⟩ }; { exact Or.inr ⟨u, fun z => by have := z r u1 u2; omega⟩ }) -- o1 e1.1
      · (first | assumption | omega | ((try dsimp only [jt2, jt3, jt4]); first | omega | (simp (disch := omega) only [jst_eq, jst_ne, jst_ni, jst_o, jI_i, jcpy_out, w32_id, jdiv_nn, jshr_k, jand_255] <;> first | done | omega | assumption)) | (intros; simp (disch := omega) only [jst_eq, jst_ne, jst_ni, jst_o, jI_i, jcpy_out, w32_id, jdiv_nn, *] <;> first | done | omega) | (intros; simp (disch := omega) only [jst_eq, jst_ne, jst_ni, jst_o, jI_i, jcpy_out, w32_id, jdiv_nn] at * <;> first | done | omega | assumption) | (intros; first | rfl | (exfalso; omega) | ((repeat' apply And.intro) <;> first | assumption | rfl | omega | trivial))) -- o2 e1.2
    · skip
      try simp (disch := omega) only [jst_eq, jst_ne, jst_ni, jI_i, jcmp_lt, jcmp_gt, w32_id, jcpy_out, Sum.elim_inl, Sum.elim_inr, jt2, jt3, jt4, jt5, jt6, jt7, jt8] at c1
      obtain ⟨r1, r2, r3⟩ := rw2 (by omega)
      have W1 : w32 (10 * a2) = 10 * a2 := w32_id (by omega) (by omega)
      have W2 : w32 (w32 (8 * i1) + a2) = 8 * i1 + a2 := by { rw [w32_id (x := 8 * i1) (by omega) (by omega), w32_id (by omega) (by omega)] }
      rw [W1, W2, r1]
      refine OK_jg (by (first | assumption | omega | ((try dsimp only [jt2, jt3, jt4]); first | omega | (simp (disch := omega) only [jst_eq, jst_ne, jst_ni, jst_o, jI_i, jcpy_out, w32_id, jdiv_nn, jshr_k, jand_255] <;> first | done | omega | assumption)) | (intros; simp (disch := omega) only [jst_eq, jst_ne, jst_ni, jst_o, jI_i, jcpy_out, w32_id, jdiv_nn, *] <;> first | done | omega) | (intros; simp (disch := omega) only [jst_eq, jst_ne, jst_ni, jst_o, jI_i, jcpy_out, w32_id, jdiv_nn] at * <;> first | done | omega | assumption) | (intros; first | rfl | (exfalso; omega) | ((repeat' apply And.intro) <;> first | assumption | rfl | omega | trivial)))) ?_ -- o3
      refine OK_jb (vX9_find (f := e.2.1 a2) _ _ _ _ (by exact ⟨by rw [fr _ _ (by omega) (by omega)]; exact hl.1, by omega, by rw [fr _ _ (by omega) (by omega), hl.2]; omega, by omega⟩) (by exact r3) (by exact ⟨h1.1, h1.2, r2.1⟩)) (fun v10 r1 => ?_)
      try dsimp only [Sum.elim_inl, Sum.elim_inr, jt2, jt3, jt4, jt5, jt6, jt7, jt8] at r1
      have v1 := r1
      clear r1
      try simp (disch := omega) only [jst_eq, jst_ne, jst_ni, jI_i, jcmp_lt, jcmp_gt, w32_id, jcpy_out, Sum.elim_inl, Sum.elim_inr, jt2, jt3, jt4, jt5, jt6, jt7, jt8] at v1
      have V : v10 = ps e i1 a2 := by { first | exact v1 | assumption }
      refine OK_jg (by (first | assumption | omega | ((try dsimp only [jt2, jt3, jt4]); first | omega | (simp (disch := omega) only [jst_eq, jst_ne, jst_ni, jst_o, jI_i, jcpy_out, w32_id, jdiv_nn, jshr_k, jand_255] <;> first | done | omega | assumption)) | (intros; simp (disch := omega) only [jst_eq, jst_ne, jst_ni, jst_o, jI_i, jcpy_out, w32_id, jdiv_nn, *] <;> first | done | omega) | (intros; simp (disch := omega) only [jst_eq, jst_ne, jst_ni, jst_o, jI_i, jcpy_out, w32_id, jdiv_nn] at * <;> first | done | omega | assumption) | (intros; first | rfl | (exfalso; omega) | ((repeat' apply And.intro) <;> first | assumption | rfl | omega | trivial)))) ?_ -- o7
      refine OK_jl ?_
      have K11 : jst h 413 (8 * i1 + a2) v10 413 (8 * i1 + a2) = v10 := jst_eq
      have F11 : ∀ a s, ¬ (a = 413 ∧ s = 8 * i1 + a2) → jst h 413 (8 * i1 + a2) v10 a s = h a s := fun a s y => jst_o y
      generalize jst h 413 (8 * i1 + a2) v10 = g at *
      rw [K11, F11 414 _ (by omega)]
      refine OK_jg (by (first | assumption | omega | ((try dsimp only [jt2, jt3, jt4]); first | omega | (simp (disch := omega) only [jst_eq, jst_ne, jst_ni, jst_o, jI_i, jcpy_out, w32_id, jdiv_nn, jshr_k, jand_255] <;> first | done | omega | assumption)) | (intros; simp (disch := omega) only [jst_eq, jst_ne, jst_ni, jst_o, jI_i, jcpy_out, w32_id, jdiv_nn, *] <;> first | done | omega) | (intros; simp (disch := omega) only [jst_eq, jst_ne, jst_ni, jst_o, jI_i, jcpy_out, w32_id, jdiv_nn] at * <;> first | done | omega | assumption) | (intros; first | rfl | (exfalso; omega) | ((repeat' apply And.intro) <;> first | assumption | rfl | omega | trivial)))) ?_ -- o8
      refine OK_if (fun c2 => ?_) (fun c2 => ?_)
      · skip
        try simp (disch := omega) only [jst_eq, jst_ne, jst_ni, jI_i, jcmp_lt, jcmp_gt, w32_id, jcpy_out, Sum.elim_inl, Sum.elim_inr, jt2, jt3, jt4, jt5, jt6, jt7, jt8] at c2
        unfold gX9_findSpots_j82_18
        refine OK_jg (by (first | assumption | omega | ((try dsimp only [jt2, jt3, jt4]); first | omega | (simp (disch := omega) only [jst_eq, jst_ne, jst_ni, jst_o, jI_i, jcpy_out, w32_id, jdiv_nn, jshr_k, jand_255] <;> first | done | omega | assumption)) | (intros; simp (disch := omega) only [jst_eq, jst_ne, jst_ni, jst_o, jI_i, jcpy_out, w32_id, jdiv_nn, *] <;> first | done | omega) | (intros; simp (disch := omega) only [jst_eq, jst_ne, jst_ni, jst_o, jI_i, jcpy_out, w32_id, jdiv_nn] at * <;> first | done | omega | assumption) | (intros; first | rfl | (exfalso; omega) | ((repeat' apply And.intro) <;> first | assumption | rfl | omega | trivial)))) ?_ -- o9
        refine OK_jl ?_
        have z01 : h 414 i1 = 0 ∨ h 414 i1 = 1 := by omega
        try rw [jand_b z01 (Or.inl rfl), if_neg (by omega), ji2z_0]
        try rw [jand_b z01 (Or.inr rfl)]
        refine OK_jlx (fun x14 ex14 => ?_)
        try simp (disch := omega) only [jst_eq, jst_ne, jst_ni, jI_i, jcmp_lt, jcmp_gt, w32_id, jcpy_out, Sum.elim_inl, Sum.elim_inr, jt2, jt3, jt4, jt5, jt6, jt7, jt8] at ex14
        refine OK_il ?_ ?_
        · try dsimp only [Sum.elim_inl, Sum.elim_inr, jt2, jt3, jt4, jt5, jt6, jt7, jt8]
          refine ⟨?_, ?_, ?_, ?_⟩
          · (first | assumption | omega | ((try dsimp only [jt2, jt3, jt4]); first | omega | (simp (disch := omega) only [jst_eq, jst_ne, jst_ni, jst_o, jI_i, jcpy_out, w32_id, jdiv_nn, jshr_k, jand_255] <;> first | done | omega | assumption)) | (intros; simp (disch := omega) only [jst_eq, jst_ne, jst_ni, jst_o, jI_i, jcpy_out, w32_id, jdiv_nn, *] <;> first | done | omega) | (intros; simp (disch := omega) only [jst_eq, jst_ne, jst_ni, jst_o, jI_i, jcpy_out, w32_id, jdiv_nn] at * <;> first | done | omega | assumption) | (intros; first | rfl | (exfalso; omega) | ((repeat' apply And.intro) <;> first | assumption | rfl | omega | trivial))) -- o10 e2i.1
          · (intro r r0 r1; rw [jst_ne (by decide)]; by_cases y : r = a2; { rw [y, K11]; exact V }; { rw [F11 _ _ (by omega)]; exact q1 r r0 (by omega) }) -- o11 e2i.2
          · exact Or.inr ⟨jst_eq, a2, q0.1, by omega, by omega⟩ -- o12 e2i.3
          · (intro a s y1 y2; rw [jst_o y2, F11 _ _ (by omega)]; exact fr a s y1 y2) -- o13 e2i.4
        · (first | assumption | omega | ((try dsimp only [jt2, jt3, jt4]); first | omega | (simp (disch := omega) only [jst_eq, jst_ne, jst_ni, jst_o, jI_i, jcpy_out, w32_id, jdiv_nn, jshr_k, jand_255] <;> first | done | omega | assumption)) | (intros; simp (disch := omega) only [jst_eq, jst_ne, jst_ni, jst_o, jI_i, jcpy_out, w32_id, jdiv_nn, *] <;> first | done | omega) | (intros; simp (disch := omega) only [jst_eq, jst_ne, jst_ni, jst_o, jI_i, jcpy_out, w32_id, jdiv_nn] at * <;> first | done | omega | assumption) | (intros; first | rfl | (exfalso; omega) | ((repeat' apply And.intro) <;> first | assumption | rfl | omega | trivial))) -- o14 e2m
      · skip
        try simp (disch := omega) only [jst_eq, jst_ne, jst_ni, jI_i, jcmp_lt, jcmp_gt, w32_id, jcpy_out, Sum.elim_inl, Sum.elim_inr, jt2, jt3, jt4, jt5, jt6, jt7, jt8] at c2
        unfold gX9_findSpots_j82_18
        refine OK_jg (by (first | assumption | omega | ((try dsimp only [jt2, jt3, jt4]); first | omega | (simp (disch := omega) only [jst_eq, jst_ne, jst_ni, jst_o, jI_i, jcpy_out, w32_id, jdiv_nn, jshr_k, jand_255] <;> first | done | omega | assumption)) | (intros; simp (disch := omega) only [jst_eq, jst_ne, jst_ni, jst_o, jI_i, jcpy_out, w32_id, jdiv_nn, *] <;> first | done | omega) | (intros; simp (disch := omega) only [jst_eq, jst_ne, jst_ni, jst_o, jI_i, jcpy_out, w32_id, jdiv_nn] at * <;> first | done | omega | assumption) | (intros; first | rfl | (exfalso; omega) | ((repeat' apply And.intro) <;> first | assumption | rfl | omega | trivial)))) ?_ -- o15
        refine OK_jl ?_
        have z01 : h 414 i1 = 0 ∨ h 414 i1 = 1 := by omega
        try rw [jand_b z01 (Or.inl rfl), if_neg (by omega), ji2z_0]
        try rw [jand_b z01 (Or.inr rfl)]
        refine OK_jlx (fun x14 ex14 => ?_)
        try simp (disch := omega) only [jst_eq, jst_ne, jst_ni, jI_i, jcmp_lt, jcmp_gt, w32_id, jcpy_out, Sum.elim_inl, Sum.elim_inr, jt2, jt3, jt4, jt5, jt6, jt7, jt8] at ex14
        refine OK_il ?_ ?_
        · try dsimp only [Sum.elim_inl, Sum.elim_inr, jt2, jt3, jt4, jt5, jt6, jt7, jt8]
          refine ⟨?_, ?_, ?_, ?_⟩
          · (first | assumption | omega | ((try dsimp only [jt2, jt3, jt4]); first | omega | (simp (disch := omega) only [jst_eq, jst_ne, jst_ni, jst_o, jI_i, jcpy_out, w32_id, jdiv_nn, jshr_k, jand_255] <;> first | done | omega | assumption)) | (intros; simp (disch := omega) only [jst_eq, jst_ne, jst_ni, jst_o, jI_i, jcpy_out, w32_id, jdiv_nn, *] <;> first | done | omega) | (intros; simp (disch := omega) only [jst_eq, jst_ne, jst_ni, jst_o, jI_i, jcpy_out, w32_id, jdiv_nn] at * <;> first | done | omega | assumption) | (intros; first | rfl | (exfalso; omega) | ((repeat' apply And.intro) <;> first | assumption | rfl | omega | trivial))) -- o16 e3i.1
          · (intro r r0 r1; rw [jst_ne (by decide)]; by_cases y : r = a2; { rw [y, K11]; exact V }; { rw [F11 _ _ (by omega)]; exact q1 r r0 (by omega) }) -- o17 e3i.2
          · (rw [jst_eq]; rcases q2 with u | ⟨u, r, u1, u2, u3⟩; { left; rw [if_pos ⟨u.1, rfl⟩, ji2z_1]; refine ⟨rfl, fun r r0 r1 => ?_⟩; by_cases y : r = a2; { rw [y]; omega }; { exact u.2 r r0 (by omega) } }; { right; rw [if_neg (by omega), ji2z_0]; exact ⟨rfl, r, u1, by omega, u3⟩ }) -- o18 e3i.3
          · (intro a s y1 y2; rw [jst_o y2, F11 _ _ (by omega)]; exact fr a s y1 y2) -- o19 e3i.4
        · (first | assumption | omega | ((try dsimp only [jt2, jt3, jt4]); first | omega | (simp (disch := omega) only [jst_eq, jst_ne, jst_ni, jst_o, jI_i, jcpy_out, w32_id, jdiv_nn, jshr_k, jand_255] <;> first | done | omega | assumption)) | (intros; simp (disch := omega) only [jst_eq, jst_ne, jst_ni, jst_o, jI_i, jcpy_out, w32_id, jdiv_nn, *] <;> first | done | omega) | (intros; simp (disch := omega) only [jst_eq, jst_ne, jst_ni, jst_o, jI_i, jcpy_out, w32_id, jdiv_nn] at * <;> first | done | omega | assumption) | (intros; first | rfl | (exfalso; omega) | ((repeat' apply And.intro) <;> first | assumption | rfl | omega | trivial))) -- o20 e3m
  · try dsimp only [Sum.elim_inl, Sum.elim_inr, jt2, jt3, jt4, jt5, jt6, jt7, jt8]
    refine ⟨?_, ?_, ?_, ?_⟩
    · (first | assumption | omega | ((try dsimp only [jt2, jt3, jt4]); first | omega | (simp (disch := omega) only [jst_eq, jst_ne, jst_ni, jst_o, jI_i, jcpy_out, w32_id, jdiv_nn, jshr_k, jand_255] <;> first | done | omega | assumption)) | (intros; simp (disch := omega) only [jst_eq, jst_ne, jst_ni, jst_o, jI_i, jcpy_out, w32_id, jdiv_nn, *] <;> first | done | omega) | (intros; simp (disch := omega) only [jst_eq, jst_ne, jst_ni, jst_o, jI_i, jcpy_out, w32_id, jdiv_nn] at * <;> first | done | omega | assumption) | (intros; first | rfl | (exfalso; omega) | ((repeat' apply And.intro) <;> first | assumption | rfl | omega | trivial))) -- o21 init.1
    · (intro r r0 r1; omega) -- o22 init.2
    · exact Or.inl ⟨hb, fun r r0 r1 => by omega⟩ -- o23 init.3
    · exact fun _ _ _ _ => rfl -- o24 init.4
def spX (h : AH) (e : CE) (N : Int) : Prop := ∀ s, 0 ≤ s → s < N → (∀ r, 0 ≤ r → r < e.1 → h 413 (8 * s + r) = ps e s r) ∧ ((h 414 s = 1 ∧ isP e s) ∨ (h 414 s = 0 ∧ ¬ isP e s))
theorem spX_f {h h' : AH} {e : CE} {N : Int} (c : spX h e N) (f : ∀ a s, a = 413 ∨ a = 414 → h' a s = h a s) : spX h' e N := fun s s0 s1 => ⟨fun r r0 r1 => by rw [f _ _ (Or.inl rfl)]; exact (c s s0 s1).1 r r0 r1, by rw [f _ _ (Or.inr rfl)]; exact (c s s0 s1).2⟩
theorem vX9_findSpots_l2 (a10 : Int) {h0 : AH} {e : CE} (hc : cuX h0 e) (hv : vCE e) (hl : lenC h0) (h1 : a10 = 0) : OK (gX9_findSpots_l2 a10 h0) (fun h' => (spX h' e 178) ∧ (∀ a s, ¬ ((a = 413 ∨ a = 414) ∧ 0 ≤ s) → h' a s = h0 a s)) := by
  unfold gX9_findSpots_l2
  refine OK_jit (I := (fun (s : Int × AH) => jt2 s fun a1 h => (0 ≤ a1 ∧ a1 ≤ 178) ∧ (spX h e a1) ∧ (∀ a s, ¬ ((a = 413 ∨ a = 414) ∧ 0 ≤ s) → h a s = h0 a s))) (m := (fun (s : Int × AH) => jt2 s fun a1 h => (178 - a1).toNat)) ?_ ?_
  · intro s hs
    obtain ⟨a1, h⟩ := s
    dsimp only [Sum.elim_inl, Sum.elim_inr, jt2, jt3, jt4, jt5, jt6, jt7, jt8] at hs
    obtain ⟨q0, q1, fr⟩ := hs
    unfold gX9_findSpots_b2
    refine OK_jt2 ?_
    refine OK_if (fun c1 => ?_) (fun c1 => ?_)
    · skip
      try simp (disch := omega) only [jst_eq, jst_ne, jst_ni, jI_i, jcmp_lt, jcmp_gt, w32_id, jcpy_out, Sum.elim_inl, Sum.elim_inr, jt2, jt3, jt4, jt5, jt6, jt7, jt8] at c1
      refine OK_ir ?_
      try dsimp only [Sum.elim_inl, Sum.elim_inr, jt2, jt3, jt4, jt5, jt6, jt7, jt8]
      refine ⟨?_, ?_⟩
      · (rw [show (178 : Int) = a1 by omega]; exact q1) -- o1 e1.1
      · (first | assumption | omega | ((try dsimp only [jt2, jt3, jt4]); first | omega | (simp (disch := omega) only [jst_eq, jst_ne, jst_ni, jst_o, jI_i, jcpy_out, w32_id, jdiv_nn, jshr_k, jand_255] <;> first | done | omega | assumption)) | (intros; simp (disch := omega) only [jst_eq, jst_ne, jst_ni, jst_o, jI_i, jcpy_out, w32_id, jdiv_nn, *] <;> first | done | omega) | (intros; simp (disch := omega) only [jst_eq, jst_ne, jst_ni, jst_o, jI_i, jcpy_out, w32_id, jdiv_nn] at * <;> first | done | omega | assumption) | (intros; first | rfl | (exfalso; omega) | ((repeat' apply And.intro) <;> first | assumption | rfl | omega | trivial))) -- o2 e1.2
    · skip
      try simp (disch := omega) only [jst_eq, jst_ne, jst_ni, jI_i, jcmp_lt, jcmp_gt, w32_id, jcpy_out, Sum.elim_inl, Sum.elim_inr, jt2, jt3, jt4, jt5, jt6, jt7, jt8] at c1
      refine OK_jg (by (first | assumption | omega | ((try dsimp only [jt2, jt3, jt4]); first | omega | (simp (disch := omega) only [jst_eq, jst_ne, jst_ni, jst_o, jI_i, jcpy_out, w32_id, jdiv_nn, jshr_k, jand_255] <;> first | done | omega | assumption)) | (intros; simp (disch := omega) only [jst_eq, jst_ne, jst_ni, jst_o, jI_i, jcpy_out, w32_id, jdiv_nn, *] <;> first | done | omega) | (intros; simp (disch := omega) only [jst_eq, jst_ne, jst_ni, jst_o, jI_i, jcpy_out, w32_id, jdiv_nn] at * <;> first | done | omega | assumption) | (intros; first | rfl | (exfalso; omega) | ((repeat' apply And.intro) <;> first | assumption | rfl | omega | trivial)))) ?_ -- o3
      refine OK_jl ?_
      rw [ji2z_1]
      refine OK_jb (vX9_findSpots_l18 (e := e) _ _ (by exact cuX_f hc (fun a s q => by rw [jst_o (by omega)]; exact fr a s (by omega))) (by (first | assumption | omega | ((try dsimp only [jt2, jt3, jt4]); first | omega | (simp (disch := omega) only [jst_eq, jst_ne, jst_ni, jst_o, jI_i, jcpy_out, w32_id, jdiv_nn, jshr_k, jand_255] <;> first | done | omega | assumption)) | (intros; simp (disch := omega) only [jst_eq, jst_ne, jst_ni, jst_o, jI_i, jcpy_out, w32_id, jdiv_nn, *] <;> first | done | omega) | (intros; simp (disch := omega) only [jst_eq, jst_ne, jst_ni, jst_o, jI_i, jcpy_out, w32_id, jdiv_nn] at * <;> first | done | omega | assumption) | (intros; first | rfl | (exfalso; omega) | ((repeat' apply And.intro) <;> first | assumption | rfl | omega | trivial)))) (by exact ⟨by rw [jst_ne (by decide), fr _ _ (by omega)]; exact hl.1, by rw [jst_ne (by decide), fr _ _ (by omega)]; exact hl.2⟩) (by (first | assumption | omega | ((try dsimp only [jt2, jt3, jt4]); first | omega | (simp (disch := omega) only [jst_eq, jst_ne, jst_ni, jst_o, jI_i, jcpy_out, w32_id, jdiv_nn, jshr_k, jand_255] <;> first | done | omega | assumption)) | (intros; simp (disch := omega) only [jst_eq, jst_ne, jst_ni, jst_o, jI_i, jcpy_out, w32_id, jdiv_nn, *] <;> first | done | omega) | (intros; simp (disch := omega) only [jst_eq, jst_ne, jst_ni, jst_o, jI_i, jcpy_out, w32_id, jdiv_nn] at * <;> first | done | omega | assumption) | (intros; first | rfl | (exfalso; omega) | ((repeat' apply And.intro) <;> first | assumption | rfl | omega | trivial)))) (by (first | assumption | omega | ((try dsimp only [jt2, jt3, jt4]); first | omega | (simp (disch := omega) only [jst_eq, jst_ne, jst_ni, jst_o, jI_i, jcpy_out, w32_id, jdiv_nn, jshr_k, jand_255] <;> first | done | omega | assumption)) | (intros; simp (disch := omega) only [jst_eq, jst_ne, jst_ni, jst_o, jI_i, jcpy_out, w32_id, jdiv_nn, *] <;> first | done | omega) | (intros; simp (disch := omega) only [jst_eq, jst_ne, jst_ni, jst_o, jI_i, jcpy_out, w32_id, jdiv_nn] at * <;> first | done | omega | assumption) | (intros; first | rfl | (exfalso; omega) | ((repeat' apply And.intro) <;> first | assumption | rfl | omega | trivial)))) (by (first | assumption | omega | ((try dsimp only [jt2, jt3, jt4]); first | omega | (simp (disch := omega) only [jst_eq, jst_ne, jst_ni, jst_o, jI_i, jcpy_out, w32_id, jdiv_nn, jshr_k, jand_255] <;> first | done | omega | assumption)) | (intros; simp (disch := omega) only [jst_eq, jst_ne, jst_ni, jst_o, jI_i, jcpy_out, w32_id, jdiv_nn, *] <;> first | done | omega) | (intros; simp (disch := omega) only [jst_eq, jst_ne, jst_ni, jst_o, jI_i, jcpy_out, w32_id, jdiv_nn] at * <;> first | done | omega | assumption) | (intros; first | rfl | (exfalso; omega) | ((repeat' apply And.intro) <;> first | assumption | rfl | omega | trivial))))) (fun o5 r1 => ?_)
      try dsimp only [Sum.elim_inl, Sum.elim_inr, jt2, jt3, jt4, jt5, jt6, jt7, jt8] at r1
      obtain ⟨sp1, fr1⟩ := r1
      try simp (disch := omega) only [jst_eq, jst_ne, jst_ni, jI_i, jcmp_lt, jcmp_gt, w32_id, jcpy_out, Sum.elim_inl, Sum.elim_inr, jt2, jt3, jt4, jt5, jt6, jt7, jt8] at sp1
      try simp (disch := omega) only [jst_eq, jst_ne, jst_ni, jI_i, jcmp_lt, jcmp_gt, w32_id, jcpy_out, Sum.elim_inl, Sum.elim_inr, jt2, jt3, jt4, jt5, jt6, jt7, jt8] at fr1
      refine OK_jlx (fun x7 ex7 => ?_)
      try simp (disch := omega) only [jst_eq, jst_ne, jst_ni, jI_i, jcmp_lt, jcmp_gt, w32_id, jcpy_out, Sum.elim_inl, Sum.elim_inr, jt2, jt3, jt4, jt5, jt6, jt7, jt8] at ex7
      refine OK_il ?_ ?_
      · try dsimp only [Sum.elim_inl, Sum.elim_inr, jt2, jt3, jt4, jt5, jt6, jt7, jt8]
        refine ⟨?_, ?_, ?_⟩
        · (first | assumption | omega | ((try dsimp only [jt2, jt3, jt4]); first | omega | (simp (disch := omega) only [jst_eq, jst_ne, jst_ni, jst_o, jI_i, jcpy_out, w32_id, jdiv_nn, jshr_k, jand_255] <;> first | done | omega | assumption)) | (intros; simp (disch := omega) only [jst_eq, jst_ne, jst_ni, jst_o, jI_i, jcpy_out, w32_id, jdiv_nn, *] <;> first | done | omega) | (intros; simp (disch := omega) only [jst_eq, jst_ne, jst_ni, jst_o, jI_i, jcpy_out, w32_id, jdiv_nn] at * <;> first | done | omega | assumption) | (intros; first | rfl | (exfalso; omega) | ((repeat' apply And.intro) <;> first | assumption | rfl | omega | trivial))) -- o10 e2i.1
        · (intro s s0 s1; by_cases y : s = a1; { rw [y]; exact sp1 }; { have z := q1 s s0 (by omega); exact ⟨fun r r0 r1 => by have := hv.1.2; rw [fr1 _ _ (by omega) (by omega), jst_ne (by decide)]; exact z.1 r r0 r1, by rw [fr1 _ _ (by omega) (by omega), jst_ni (by omega)]; exact z.2⟩ }) -- o11 e2i.2
        · (intro a s y; rw [fr1 _ _ (by omega) (by omega), jst_o (by omega)]; exact fr a s y) -- o12 e2i.3
      · (first | assumption | omega | ((try dsimp only [jt2, jt3, jt4]); first | omega | (simp (disch := omega) only [jst_eq, jst_ne, jst_ni, jst_o, jI_i, jcpy_out, w32_id, jdiv_nn, jshr_k, jand_255] <;> first | done | omega | assumption)) | (intros; simp (disch := omega) only [jst_eq, jst_ne, jst_ni, jst_o, jI_i, jcpy_out, w32_id, jdiv_nn, *] <;> first | done | omega) | (intros; simp (disch := omega) only [jst_eq, jst_ne, jst_ni, jst_o, jI_i, jcpy_out, w32_id, jdiv_nn] at * <;> first | done | omega | assumption) | (intros; first | rfl | (exfalso; omega) | ((repeat' apply And.intro) <;> first | assumption | rfl | omega | trivial))) -- o13 e2m
  · try dsimp only [Sum.elim_inl, Sum.elim_inr, jt2, jt3, jt4, jt5, jt6, jt7, jt8]
    refine ⟨?_, ?_, ?_⟩
    · (first | assumption | omega | ((try dsimp only [jt2, jt3, jt4]); first | omega | (simp (disch := omega) only [jst_eq, jst_ne, jst_ni, jst_o, jI_i, jcpy_out, w32_id, jdiv_nn, jshr_k, jand_255] <;> first | done | omega | assumption)) | (intros; simp (disch := omega) only [jst_eq, jst_ne, jst_ni, jst_o, jI_i, jcpy_out, w32_id, jdiv_nn, *] <;> first | done | omega) | (intros; simp (disch := omega) only [jst_eq, jst_ne, jst_ni, jst_o, jI_i, jcpy_out, w32_id, jdiv_nn] at * <;> first | done | omega | assumption) | (intros; first | rfl | (exfalso; omega) | ((repeat' apply And.intro) <;> first | assumption | rfl | omega | trivial))) -- o14 init.1
    · (intro s s0 s1; omega) -- o15 init.2
    · exact fun _ _ _ => rfl -- o16 init.3
theorem vX9_findSpots {h : AH} {e : CE} (hc : cuX h e) (hv : vCE e) (hl : lenC h) : OK (gX9_findSpots h) (fun h' => (spX h' e 178) ∧ (∀ a s, ¬ ((a = 413 ∨ a = 414) ∧ 0 ≤ s) → h' a s = h a s)) := by
  unfold gX9_findSpots
  refine OK_jb (vX9_findSpots_l2 (e := e) _ (by (first | assumption | omega | ((try dsimp only [jt2, jt3, jt4]); first | omega | (simp (disch := omega) only [jst_eq, jst_ne, jst_ni, jst_o, jI_i, jcpy_out, w32_id, jdiv_nn, jshr_k, jand_255] <;> first | done | omega | assumption)) | (intros; simp (disch := omega) only [jst_eq, jst_ne, jst_ni, jst_o, jI_i, jcpy_out, w32_id, jdiv_nn, *] <;> first | done | omega) | (intros; simp (disch := omega) only [jst_eq, jst_ne, jst_ni, jst_o, jI_i, jcpy_out, w32_id, jdiv_nn] at * <;> first | done | omega | assumption) | (intros; first | rfl | (exfalso; omega) | ((repeat' apply And.intro) <;> first | assumption | rfl | omega | trivial)))) (by (first | assumption | omega | ((try dsimp only [jt2, jt3, jt4]); first | omega | (simp (disch := omega) only [jst_eq, jst_ne, jst_ni, jst_o, jI_i, jcpy_out, w32_id, jdiv_nn, jshr_k, jand_255] <;> first | done | omega | assumption)) | (intros; simp (disch := omega) only [jst_eq, jst_ne, jst_ni, jst_o, jI_i, jcpy_out, w32_id, jdiv_nn, *] <;> first | done | omega) | (intros; simp (disch := omega) only [jst_eq, jst_ne, jst_ni, jst_o, jI_i, jcpy_out, w32_id, jdiv_nn] at * <;> first | done | omega | assumption) | (intros; first | rfl | (exfalso; omega) | ((repeat' apply And.intro) <;> first | assumption | rfl | omega | trivial)))) (by (first | assumption | omega | ((try dsimp only [jt2, jt3, jt4]); first | omega | (simp (disch := omega) only [jst_eq, jst_ne, jst_ni, jst_o, jI_i, jcpy_out, w32_id, jdiv_nn, jshr_k, jand_255] <;> first | done | omega | assumption)) | (intros; simp (disch := omega) only [jst_eq, jst_ne, jst_ni, jst_o, jI_i, jcpy_out, w32_id, jdiv_nn, *] <;> first | done | omega) | (intros; simp (disch := omega) only [jst_eq, jst_ne, jst_ni, jst_o, jI_i, jcpy_out, w32_id, jdiv_nn] at * <;> first | done | omega | assumption) | (intros; first | rfl | (exfalso; omega) | ((repeat' apply And.intro) <;> first | assumption | rfl | omega | trivial)))) (by (first | assumption | omega | ((try dsimp only [jt2, jt3, jt4]); first | omega | (simp (disch := omega) only [jst_eq, jst_ne, jst_ni, jst_o, jI_i, jcpy_out, w32_id, jdiv_nn, jshr_k, jand_255] <;> first | done | omega | assumption)) | (intros; simp (disch := omega) only [jst_eq, jst_ne, jst_ni, jst_o, jI_i, jcpy_out, w32_id, jdiv_nn, *] <;> first | done | omega) | (intros; simp (disch := omega) only [jst_eq, jst_ne, jst_ni, jst_o, jI_i, jcpy_out, w32_id, jdiv_nn] at * <;> first | done | omega | assumption) | (intros; first | rfl | (exfalso; omega) | ((repeat' apply And.intro) <;> first | assumption | rfl | omega | trivial))))) (fun o1 r1 => ?_)
  try dsimp only [Sum.elim_inl, Sum.elim_inr, jt2, jt3, jt4, jt5, jt6, jt7, jt8] at r1
  obtain ⟨sp1, fr1⟩ := r1
  try simp (disch := omega) only [jst_eq, jst_ne, jst_ni, jI_i, jcmp_lt, jcmp_gt, w32_id, jcpy_out, Sum.elim_inl, Sum.elim_inr, jt2, jt3, jt4, jt5, jt6, jt7, jt8] at sp1
  try simp (disch := omega) only [jst_eq, jst_ne, jst_ni, jI_i, jcmp_lt, jcmp_gt, w32_id, jcpy_out, Sum.elim_inl, Sum.elim_inr, jt2, jt3, jt4, jt5, jt6, jt7, jt8] at fr1
  refine OK_some ?_
  try dsimp only [Sum.elim_inl, Sum.elim_inr, jt2, jt3, jt4, jt5, jt6, jt7, jt8]
  try dsimp only [Sum.elim_inl, Sum.elim_inr, jt2, jt3, jt4, jt5, jt6, jt7, jt8]
  refine ⟨?_, ?_⟩
  · (first | assumption | omega | ((try dsimp only [jt2, jt3, jt4]); first | omega | (simp (disch := omega) only [jst_eq, jst_ne, jst_ni, jst_o, jI_i, jcpy_out, w32_id, jdiv_nn, jshr_k, jand_255] <;> first | done | omega | assumption)) | (intros; simp (disch := omega) only [jst_eq, jst_ne, jst_ni, jst_o, jI_i, jcpy_out, w32_id, jdiv_nn, *] <;> first | done | omega) | (intros; simp (disch := omega) only [jst_eq, jst_ne, jst_ni, jst_o, jI_i, jcpy_out, w32_id, jdiv_nn] at * <;> first | done | omega | assumption) | (intros; first | rfl | (exfalso; omega) | ((repeat' apply And.intro) <;> first | assumption | rfl | omega | trivial))) -- o5 e1.1
  · (first | assumption | omega | ((try dsimp only [jt2, jt3, jt4]); first | omega | (simp (disch := omega) only [jst_eq, jst_ne, jst_ni, jst_o, jI_i, jcpy_out, w32_id, jdiv_nn, jshr_k, jand_255] <;> first | done | omega | assumption)) | (intros; simp (disch := omega) only [jst_eq, jst_ne, jst_ni, jst_o, jI_i, jcpy_out, w32_id, jdiv_nn, *] <;> first | done | omega) | (intros; simp (disch := omega) only [jst_eq, jst_ne, jst_ni, jst_o, jI_i, jcpy_out, w32_id, jdiv_nn] at * <;> first | done | omega | assumption) | (intros; first | rfl | (exfalso; omega) | ((repeat' apply And.intro) <;> first | assumption | rfl | omega | trivial))) -- o6 e1.2
/-! states as longs -/
theorem uL_nat {u : Nat} (h : u < 18446744073709551616) : uL (u : Int) = u := by
  have := uL_m (u : Int)
  omega
theorem stU_lt {e : CE} {u : Nat} (v : vCE e) (s : stU e u) : u < 4294967296 := by
  have h : 2 ^ (4 * e.1.toNat) ≤ 2 ^ 32 := Nat.pow_le_pow_right (by decide) (by have := v.1.2; omega)
  have := s.1
  omega
theorem vX9_placeIn (a1 : Int) (a3 : Int) {u : Nat} (hu : a1 = u ∧ u < 4294967296) (hr : 0 ≤ a3 ∧ a3 < 8) : OK (gX9_placeIn a1 a3) (fun r => r = ((nb u a3.toNat : Nat) : Int)) := by
  unfold gX9_placeIn
  refine OK_some ?_
  try dsimp only [Sum.elim_inl, Sum.elim_inr, jt2, jt3, jt4, jt5, jt6, jt7, jt8]
  (have hx : jr64 a1 := (by unfold jr64; omega); have e4 : w32 (4 * a3) = ((4 * a3.toNat : Nat) : Int) := (by rw [w32_id (by omega) (by omega)]; omega); have h15 : uL 15 = 15 := (by decide +kernel); have n := nbI a1 (i := a3.toNat) (by omega); rw [hu.1, uL_nat (by omega)] at n; have hh : uL (jandL (jshrL a1 (w32 (4 * a3))) 15) = nb u a3.toNat := (by rw [uL_and, h15, show (15 : Nat) = 2 ^ 4 - 1 by decide, Nat.and_two_pow_sub_one_eq_mod, e4, jshrL_e (by omega) hx]; have := uL_m (a1 / 2 ^ (4 * a3.toNat)); rw [hu.1] at this ⊢; omega); have hm := uL_m (jandL (jshrL a1 (w32 (4 * a3))) 15); have hr2 := jandL_r (jshrL a1 (w32 (4 * a3))) 15; unfold jr64 at hr2; have nl := nb_lt u a3.toNat; rw [hh] at hm; rw [w32_id (by omega) (by omega)]; omega) -- o1 e1

