/-! x: a run -/
theorem vX1_goThrough_l310 (i1 : Int) (i2 : Int) (i3 : Int) (a50 : Int) (a80 : Int) {h0 : AH} {E : EV} {Rf : Int → TR} {W : Int → Int → Int → VW} {hl : Int → Int} {L : LE} {s9 : Int → Int} (rn : rnX h0 E Rf W hl L) (sv : vlS L s9 ∧ ∀ k, 0 ≤ k → k < L.2.1.1 → h0 406 k = s9 k) (h5 : (a50 = 0 ∨ a50 = 1) ∧ a80 = 0) : OK (gX1_goThrough_l310 i1 i2 i3 a50 a80 h0) (fun r => jt2 r fun y h' => (a50 = 0 → y = 0) ∧ (a50 = 1 → (y = 1 ∧ gdS L (nxS W L s9) ∧ ∀ k, 0 ≤ k → k < L.2.1.1 → h' 407 k = nxS W L s9 k) ∨ (y = 0 ∧ ¬ gdS L (nxS W L s9))) ∧ (∀ a s, ¬ (a50 = 1 ∧ a = 200 ∧ (s = 9 ∨ s = 10)) → ¬ (a50 = 1 ∧ (a = 269 ∨ a = 407) ∧ 0 ≤ s) → h' a s = h0 a s) ∧ (bd10 h')) := by
  have v := rn.2.2.2
  have n3 := v.2.1
  unfold gX1_goThrough_l310
  refine OK_jit (I := (fun (s : Int × Int × AH) => jt3 s fun a5 a8 h => (0 ≤ a8 ∧ a8 ≤ L.2.1.1) ∧ (∀ k, 0 ≤ k → k < a8 → a50 = 1 → h 407 k = nxS W L s9 k) ∧ ((a50 = 0 ∧ a5 = 0 ∧ a8 = 0) ∨ (a50 = 1 ∧ a5 = 1 ∧ ∀ k, 0 ≤ k → k < a8 → nxS W L s9 k ≠ -1) ∨ (a50 = 1 ∧ a5 = 0 ∧ ¬ gdS L (nxS W L s9))) ∧ (∀ a s, ¬ (a50 = 1 ∧ a = 200 ∧ (s = 9 ∨ s = 10)) → ¬ (a50 = 1 ∧ (a = 269 ∨ a = 407) ∧ 0 ≤ s) → h a s = h0 a s) ∧ (bd10 h))) (m := (fun (s : Int × Int × AH) => jt3 s fun a5 a8 h => (L.2.1.1 - a8).toNat)) ?_ ?_
  · intro s hs
    obtain ⟨a5, a8, h⟩ := s
    dsimp only [Sum.elim_inl, Sum.elim_inr, jt2, jt3, jt4, jt5, jt6, jt7, jt8] at hs
    obtain ⟨q0, q1, q2, fr, bb⟩ := hs
    unfold gX1_goThrough_b310
    refine OK_jt3 ?_
    have RN2 : rnX h E Rf W hl L := rnX_f rn bb (fun a s y1 y2 y3 y4 => fr a s (by omega) (by omega))
    have LX := rnX_x RN2
    have LO := RN2.2.1
    have LM := LO.2.2.1
    have KK := q1
    have H6 : ∀ k, 0 ≤ k → k < L.2.1.1 → h 406 k = s9 k := fun k k0 k1 => by rw [fr _ _ (by omega) (by omega)]; exact sv.2 k k0 k1
    refine OK_if (fun c1 => ?_) (fun c1 => ?_)
    · skip
      try simp (disch := omega) only [jst_eq, jst_ne, jst_ni, jI_i, jcmp_lt, jcmp_gt, w32_id, jcpy_out, Sum.elim_inl, Sum.elim_inr, jt2, jt3, jt4, jt5, jt6, jt7, jt8] at c1
      refine OK_ir ?_
      try dsimp only [Sum.elim_inl, Sum.elim_inr, jt2, jt3, jt4, jt5, jt6, jt7, jt8]
      refine ⟨?_, ?_, ?_, ?_⟩
      · (intro z0; rcases q2 with z | z | z; { exact z.2.1 }; { omega }; { omega }) -- o1 e1.1
      · (intro z1; rcases q2 with z | z | z; { omega }; { exact Or.inl ⟨z.2.1, fun k k0 k1 => z.2.2 k k0 (by omega), fun k k0 k1 => KK k k0 (by omega) z1⟩ }; { exact Or.inr z.2 }) -- o2 e1.2
      · (first | assumption | omega | ((try dsimp only [jt2, jt3, jt4]); first | omega | (simp (disch := omega) only [jst_eq, jst_ne, jst_ni, jst_o, jI_i, jcpy_out, w32_id, jdiv_nn, jshr_k, jand_255] <;> first | done | omega | assumption)) | (intros; simp (disch := omega) only [jst_eq, jst_ne, jst_ni, jst_o, jI_i, jcpy_out, w32_id, jdiv_nn, *] <;> first | done | omega) | (intros; simp (disch := omega) only [jst_eq, jst_ne, jst_ni, jst_o, jI_i, jcpy_out, w32_id, jdiv_nn] at * <;> first | done | omega | assumption) | (intros; first | rfl | (exfalso; omega) | ((repeat' apply And.intro) <;> first | assumption | rfl | omega | trivial))) -- o3 e1.3
      · (first | assumption | omega | ((try dsimp only [jt2, jt3, jt4]); first | omega | (simp (disch := omega) only [jst_eq, jst_ne, jst_ni, jst_o, jI_i, jcpy_out, w32_id, jdiv_nn, jshr_k, jand_255] <;> first | done | omega | assumption)) | (intros; simp (disch := omega) only [jst_eq, jst_ne, jst_ni, jst_o, jI_i, jcpy_out, w32_id, jdiv_nn, *] <;> first | done | omega) | (intros; simp (disch := omega) only [jst_eq, jst_ne, jst_ni, jst_o, jI_i, jcpy_out, w32_id, jdiv_nn] at * <;> first | done | omega | assumption) | (intros; first | rfl | (exfalso; omega) | ((repeat' apply And.intro) <;> first | assumption | rfl | omega | trivial))) -- o4 e1.4
    · skip
      try simp (disch := omega) only [jst_eq, jst_ne, jst_ni, jI_i, jcmp_lt, jcmp_gt, w32_id, jcpy_out, Sum.elim_inl, Sum.elim_inr, jt2, jt3, jt4, jt5, jt6, jt7, jt8] at c1
      refine OK_if (fun c2 => ?_) (fun c2 => ?_)
      · skip
        try simp (disch := omega) only [jst_eq, jst_ne, jst_ni, jI_i, jcmp_lt, jcmp_gt, w32_id, jcpy_out, Sum.elim_inl, Sum.elim_inr, jt2, jt3, jt4, jt5, jt6, jt7, jt8] at c2
        refine OK_ir ?_
        try dsimp only [Sum.elim_inl, Sum.elim_inr, jt2, jt3, jt4, jt5, jt6, jt7, jt8]
        refine ⟨?_, ?_, ?_, ?_⟩
        · (intro _; exact c2) -- o5 e2.1
        · (intro z1; rcases q2 with z | z | z; { omega }; { omega }; { exact Or.inr z.2 }) -- o6 e2.2
        · (first | assumption | omega | ((try dsimp only [jt2, jt3, jt4]); first | omega | (simp (disch := omega) only [jst_eq, jst_ne, jst_ni, jst_o, jI_i, jcpy_out, w32_id, jdiv_nn, jshr_k, jand_255] <;> first | done | omega | assumption)) | (intros; simp (disch := omega) only [jst_eq, jst_ne, jst_ni, jst_o, jI_i, jcpy_out, w32_id, jdiv_nn, *] <;> first | done | omega) | (intros; simp (disch := omega) only [jst_eq, jst_ne, jst_ni, jst_o, jI_i, jcpy_out, w32_id, jdiv_nn] at * <;> first | done | omega | assumption) | (intros; first | rfl | (exfalso; omega) | ((repeat' apply And.intro) <;> first | assumption | rfl | omega | trivial))) -- o7 e2.3
        · (first | assumption | omega | ((try dsimp only [jt2, jt3, jt4]); first | omega | (simp (disch := omega) only [jst_eq, jst_ne, jst_ni, jst_o, jI_i, jcpy_out, w32_id, jdiv_nn, jshr_k, jand_255] <;> first | done | omega | assumption)) | (intros; simp (disch := omega) only [jst_eq, jst_ne, jst_ni, jst_o, jI_i, jcpy_out, w32_id, jdiv_nn, *] <;> first | done | omega) | (intros; simp (disch := omega) only [jst_eq, jst_ne, jst_ni, jst_o, jI_i, jcpy_out, w32_id, jdiv_nn] at * <;> first | done | omega | assumption) | (intros; first | rfl | (exfalso; omega) | ((repeat' apply And.intro) <;> first | assumption | rfl | omega | trivial))) -- o8 e2.4
      · skip
        try simp (disch := omega) only [jst_eq, jst_ne, jst_ni, jI_i, jcmp_lt, jcmp_gt, w32_id, jcpy_out, Sum.elim_inl, Sum.elim_inr, jt2, jt3, jt4, jt5, jt6, jt7, jt8] at c2
        have A1 : a50 = 1 ∧ a5 = 1 := by { rcases q2 with z | z | z; { exact absurd z.2.1 c2 }; { exact ⟨z.1, z.2.1⟩ }; { exact absurd z.2.1 c2 } }
        have Q2 : ∀ k, 0 ≤ k → k < a8 → nxS W L s9 k ≠ -1 := by { rcases q2 with z | z | z; { exact absurd z.2.1 c2 }; { exact z.2.2 }; { exact absurd z.2.1 c2 } }
        have L6 := LO.2.2.2.2.1 a8 q0.1 (by omega)
        have T6 := (v.2.2.1 a8 q0.1 (by omega)).2
        refine OK_jg (by (first | assumption | omega | ((try dsimp only [jt2, jt3, jt4]); first | omega | (simp (disch := omega) only [jst_eq, jst_ne, jst_ni, jst_o, jI_i, jcpy_out, w32_id, jdiv_nn, jshr_k, jand_255] <;> first | done | omega | assumption)) | (intros; simp (disch := omega) only [jst_eq, jst_ne, jst_ni, jst_o, jI_i, jcpy_out, w32_id, jdiv_nn, *] <;> first | done | omega) | (intros; simp (disch := omega) only [jst_eq, jst_ne, jst_ni, jst_o, jI_i, jcpy_out, w32_id, jdiv_nn] at * <;> first | done | omega | assumption) | (intros; first | rfl | (exfalso; omega) | ((repeat' apply And.intro) <;> first | assumption | rfl | omega | trivial)))) ?_ -- o9
        refine OK_jb2 (vX1_workLoop (E := E) (Rf := Rf) (W := W) (hl := hl) (np := L.2.1.1) (kp := L.2.1.2) (R := L.2.2.2.2.1 a8) (k := L.2.1.2 a8) _ _ _ (by exact RN2.1) (by (first | assumption | omega | ((try dsimp only [jt2, jt3, jt4]); first | omega | (simp (disch := omega) only [jst_eq, jst_ne, jst_ni, jst_o, jI_i, jcpy_out, w32_id, jdiv_nn, jshr_k, jand_255] <;> first | done | omega | assumption)) | (intros; simp (disch := omega) only [jst_eq, jst_ne, jst_ni, jst_o, jI_i, jcpy_out, w32_id, jdiv_nn, *] <;> first | done | omega) | (intros; simp (disch := omega) only [jst_eq, jst_ne, jst_ni, jst_o, jI_i, jcpy_out, w32_id, jdiv_nn] at * <;> first | done | omega | assumption) | (intros; first | rfl | (exfalso; omega) | ((repeat' apply And.intro) <;> first | assumption | rfl | omega | trivial)))) (by exact ⟨L6.2.2, LO.2.2.2.2.2.2.2, T6⟩) (by (have k6 := RN2.2.2.1.1; omega)) (by exact fun c c0 c1 => by rw [H6 c c0 c1]; exact sv.1 c c0 c1)) (fun v67 h68 r1 => ?_)
        try dsimp only [Sum.elim_inl, Sum.elim_inr, jt2, jt3, jt4, jt5, jt6, jt7, jt8] at r1
        obtain ⟨ev1, fs1, bs1⟩ := r1
        try simp (disch := omega) only [jst_eq, jst_ne, jst_ni, jI_i, jcmp_lt, jcmp_gt, w32_id, jcpy_out, Sum.elim_inl, Sum.elim_inr, jt2, jt3, jt4, jt5, jt6, jt7, jt8] at ev1
        try simp (disch := omega) only [jst_eq, jst_ne, jst_ni, jI_i, jcmp_lt, jcmp_gt, w32_id, jcpy_out, Sum.elim_inl, Sum.elim_inr, jt2, jt3, jt4, jt5, jt6, jt7, jt8] at fs1
        try simp (disch := omega) only [jst_eq, jst_ne, jst_ni, jI_i, jcmp_lt, jcmp_gt, w32_id, jcpy_out, Sum.elim_inl, Sum.elim_inr, jt2, jt3, jt4, jt5, jt6, jt7, jt8] at bs1
        have V35 : v67 = nxS W L s9 a8 := by { rw [ev1]; unfold nxS; rw [if_pos ⟨q0.1, by omega⟩]; exact evL_c T6.2.2.1 H6 }
        refine OK_jl ?_
        have F37 : ∀ a s, ¬ (a50 = 1 ∧ a = 200 ∧ (s = 9 ∨ s = 10)) → ¬ (a50 = 1 ∧ (a = 269 ∨ a = 407) ∧ 0 ≤ s) → jst h68 407 a8 v67 a s = h0 a s := fun a s y1 y2 => by { rw [jst_o (by omega), fs1 a s (by omega) (by omega)]; exact fr a s y1 y2 }
        have Q37 : ∀ k, 0 ≤ k → k < a8 + 1 → a50 = 1 → jst h68 407 a8 v67 407 k = nxS W L s9 k := fun k k0 k1 a1 => by { by_cases y : k = a8; { rw [y, jst_eq]; exact V35 }; { rw [jst_ni y, fs1 _ _ (by omega) (by omega)]; exact KK k k0 (by omega) a1 } }
        have B37 : bd10 (jst h68 407 a8 v67) := by { unfold bd10; rw [jst_ne (by decide)]; exact bs1 }
        have E37 : jst h68 407 a8 v67 407 a8 = v67 := jst_eq
        rw [E37]
        generalize jst h68 407 a8 v67 = h9 at *
        refine OK_if (fun c3 => ?_) (fun c3 => ?_)
        · skip
          try simp (disch := omega) only [jst_eq, jst_ne, jst_ni, jI_i, jcmp_lt, jcmp_gt, w32_id, jcpy_out, Sum.elim_inl, Sum.elim_inr, jt2, jt3, jt4, jt5, jt6, jt7, jt8] at c3
          unfold gX1_goThrough_j375_310
          refine OK_jlx (fun x71 ex71 => ?_)
          try simp (disch := omega) only [jst_eq, jst_ne, jst_ni, jI_i, jcmp_lt, jcmp_gt, w32_id, jcpy_out, Sum.elim_inl, Sum.elim_inr, jt2, jt3, jt4, jt5, jt6, jt7, jt8] at ex71
          refine OK_il ?_ ?_
          · try dsimp only [Sum.elim_inl, Sum.elim_inr, jt2, jt3, jt4, jt5, jt6, jt7, jt8]
            refine ⟨?_, ?_, ?_, ?_, ?_⟩
            · (first | assumption | omega | ((try dsimp only [jt2, jt3, jt4]); first | omega | (simp (disch := omega) only [jst_eq, jst_ne, jst_ni, jst_o, jI_i, jcpy_out, w32_id, jdiv_nn, jshr_k, jand_255] <;> first | done | omega | assumption)) | (intros; simp (disch := omega) only [jst_eq, jst_ne, jst_ni, jst_o, jI_i, jcpy_out, w32_id, jdiv_nn, *] <;> first | done | omega) | (intros; simp (disch := omega) only [jst_eq, jst_ne, jst_ni, jst_o, jI_i, jcpy_out, w32_id, jdiv_nn] at * <;> first | done | omega | assumption) | (intros; first | rfl | (exfalso; omega) | ((repeat' apply And.intro) <;> first | assumption | rfl | omega | trivial))) -- o15 e3i.1
            · (rw [show x71 = a8 + 1 by omega]; exact Q37) -- o16 e3i.2
            · (right; right; exact ⟨A1.1, rfl, fun z => z a8 q0.1 (by omega) (by omega)⟩) -- o17 e3i.3
            · exact F37 -- o18 e3i.4
            · exact B37 -- o19 e3i.5
          · (first | assumption | omega | ((try dsimp only [jt2, jt3, jt4]); first | omega | (simp (disch := omega) only [jst_eq, jst_ne, jst_ni, jst_o, jI_i, jcpy_out, w32_id, jdiv_nn, jshr_k, jand_255] <;> first | done | omega | assumption)) | (intros; simp (disch := omega) only [jst_eq, jst_ne, jst_ni, jst_o, jI_i, jcpy_out, w32_id, jdiv_nn, *] <;> first | done | omega) | (intros; simp (disch := omega) only [jst_eq, jst_ne, jst_ni, jst_o, jI_i, jcpy_out, w32_id, jdiv_nn] at * <;> first | done | omega | assumption) | (intros; first | rfl | (exfalso; omega) | ((repeat' apply And.intro) <;> first | assumption | rfl | omega | trivial))) -- o20 e3m
        · skip
          try simp (disch := omega) only [jst_eq, jst_ne, jst_ni, jI_i, jcmp_lt, jcmp_gt, w32_id, jcpy_out, Sum.elim_inl, Sum.elim_inr, jt2, jt3, jt4, jt5, jt6, jt7, jt8] at c3
          unfold gX1_goThrough_j375_310
          refine OK_jlx (fun x71 ex71 => ?_)
          try simp (disch := omega) only [jst_eq, jst_ne, jst_ni, jI_i, jcmp_lt, jcmp_gt, w32_id, jcpy_out, Sum.elim_inl, Sum.elim_inr, jt2, jt3, jt4, jt5, jt6, jt7, jt8] at ex71
          refine OK_il ?_ ?_
          · try dsimp only [Sum.elim_inl, Sum.elim_inr, jt2, jt3, jt4, jt5, jt6, jt7, jt8]
            refine ⟨?_, ?_, ?_, ?_, ?_⟩
            · (first | assumption | omega | ((try dsimp only [jt2, jt3, jt4]); first | omega | (simp (disch := omega) only [jst_eq, jst_ne, jst_ni, jst_o, jI_i, jcpy_out, w32_id, jdiv_nn, jshr_k, jand_255] <;> first | done | omega | assumption)) | (intros; simp (disch := omega) only [jst_eq, jst_ne, jst_ni, jst_o, jI_i, jcpy_out, w32_id, jdiv_nn, *] <;> first | done | omega) | (intros; simp (disch := omega) only [jst_eq, jst_ne, jst_ni, jst_o, jI_i, jcpy_out, w32_id, jdiv_nn] at * <;> first | done | omega | assumption) | (intros; first | rfl | (exfalso; omega) | ((repeat' apply And.intro) <;> first | assumption | rfl | omega | trivial))) -- o21 e4i.1
            · (rw [show x71 = a8 + 1 by omega]; exact Q37) -- o22 e4i.2
            · (right; left; refine ⟨A1.1, rfl, fun k k0 k1 => ?_⟩; by_cases y : k = a8; { rw [y]; omega }; { exact Q2 k k0 (by omega) }) -- o23 e4i.3
            · exact F37 -- o24 e4i.4
            · exact B37 -- o25 e4i.5
          · (first | assumption | omega | ((try dsimp only [jt2, jt3, jt4]); first | omega | (simp (disch := omega) only [jst_eq, jst_ne, jst_ni, jst_o, jI_i, jcpy_out, w32_id, jdiv_nn, jshr_k, jand_255] <;> first | done | omega | assumption)) | (intros; simp (disch := omega) only [jst_eq, jst_ne, jst_ni, jst_o, jI_i, jcpy_out, w32_id, jdiv_nn, *] <;> first | done | omega) | (intros; simp (disch := omega) only [jst_eq, jst_ne, jst_ni, jst_o, jI_i, jcpy_out, w32_id, jdiv_nn] at * <;> first | done | omega | assumption) | (intros; first | rfl | (exfalso; omega) | ((repeat' apply And.intro) <;> first | assumption | rfl | omega | trivial))) -- o26 e4m
  · try dsimp only [Sum.elim_inl, Sum.elim_inr, jt2, jt3, jt4, jt5, jt6, jt7, jt8]
    refine ⟨?_, ?_, ?_, ?_, ?_⟩
    · (first | assumption | omega | ((try dsimp only [jt2, jt3, jt4]); first | omega | (simp (disch := omega) only [jst_eq, jst_ne, jst_ni, jst_o, jI_i, jcpy_out, w32_id, jdiv_nn, jshr_k, jand_255] <;> first | done | omega | assumption)) | (intros; simp (disch := omega) only [jst_eq, jst_ne, jst_ni, jst_o, jI_i, jcpy_out, w32_id, jdiv_nn, *] <;> first | done | omega) | (intros; simp (disch := omega) only [jst_eq, jst_ne, jst_ni, jst_o, jI_i, jcpy_out, w32_id, jdiv_nn] at * <;> first | done | omega | assumption) | (intros; first | rfl | (exfalso; omega) | ((repeat' apply And.intro) <;> first | assumption | rfl | omega | trivial))) -- o27 init.1
    · (intro k k0 k1; omega) -- o28 init.2
    · (rcases h5.1 with z | z; { left; exact ⟨z, z, h5.2⟩ }; { right; left; exact ⟨z, z, fun k k0 k1 => by omega⟩ }) -- o29 init.3
    · exact fun _ _ _ _ => rfl -- o30 init.4
    · exact rn.1.2.2.2.2 -- o31 init.5
theorem vX1_goThrough_l386 (i1 : Int) (i2 : Int) (i3 : Int) (i5 : Int) (a80 : Int) {h0 : AH} {m : Int} (hx : (h0 200 39 = 378 ∨ h0 200 39 = 391) ∧ h0 (h0 200 39) 2 = m ∧ 1 ≤ m ∧ m ≤ 3) (h4 : a80 = 0) : OK (gX1_goThrough_l386 i1 i2 i3 i5 a80 h0) (fun h' => (i5 ≠ 0 → ∀ k, 0 ≤ k → k < m → h' 406 k = h0 407 k) ∧ (∀ a s, ¬ (i5 ≠ 0 ∧ a = 406 ∧ 0 ≤ s) → h' a s = h0 a s)) := by
  unfold gX1_goThrough_l386
  refine OK_jit (I := (fun (s : Int × AH) => jt2 s fun a8 h => (0 ≤ a8 ∧ a8 ≤ m) ∧ (∀ k, 0 ≤ k → k < a8 → h 406 k = h0 407 k) ∧ (∀ a s, ¬ (i5 ≠ 0 ∧ a = 406 ∧ 0 ≤ s) → h a s = h0 a s) ∧ (i5 = 0 → a8 = 0))) (m := (fun (s : Int × AH) => jt2 s fun a8 h => (m - a8).toNat)) ?_ ?_
  · intro s hs
    obtain ⟨a8, h⟩ := s
    dsimp only [Sum.elim_inl, Sum.elim_inr, jt2, jt3, jt4, jt5, jt6, jt7, jt8] at hs
    obtain ⟨q0, q1, fr, z⟩ := hs
    unfold gX1_goThrough_b386
    refine OK_jt2 ?_
    have E39 : h 200 39 = h0 200 39 := fr _ _ (by omega)
    have E2 : h (h0 200 39) 2 = m := by rw [fr _ _ (by omega)]; exact hx.2.1
    rw [E39, E2]
    refine OK_if (fun c1 => ?_) (fun c1 => ?_)
    · skip
      try simp (disch := omega) only [jst_eq, jst_ne, jst_ni, jI_i, jcmp_lt, jcmp_gt, w32_id, jcpy_out, Sum.elim_inl, Sum.elim_inr, jt2, jt3, jt4, jt5, jt6, jt7, jt8] at c1
      refine OK_ir ?_
      try dsimp only [Sum.elim_inl, Sum.elim_inr, jt2, jt3, jt4, jt5, jt6, jt7, jt8]
      refine ⟨?_, ?_⟩
      · exact fun _ k k0 k1 => q1 k k0 (by omega) -- o1 e1.1
      · (first | assumption | omega | ((try dsimp only [jt2, jt3, jt4]); first | omega | (simp (disch := omega) only [jst_eq, jst_ne, jst_ni, jst_o, jI_i, jcpy_out, w32_id, jdiv_nn, jshr_k, jand_255] <;> first | done | omega | assumption)) | (intros; simp (disch := omega) only [jst_eq, jst_ne, jst_ni, jst_o, jI_i, jcpy_out, w32_id, jdiv_nn, *] <;> first | done | omega) | (intros; simp (disch := omega) only [jst_eq, jst_ne, jst_ni, jst_o, jI_i, jcpy_out, w32_id, jdiv_nn] at * <;> first | done | omega | assumption) | (intros; first | rfl | (exfalso; omega) | ((repeat' apply And.intro) <;> first | assumption | rfl | omega | trivial))) -- o2 e1.2
    · skip
      try simp (disch := omega) only [jst_eq, jst_ne, jst_ni, jI_i, jcmp_lt, jcmp_gt, w32_id, jcpy_out, Sum.elim_inl, Sum.elim_inr, jt2, jt3, jt4, jt5, jt6, jt7, jt8] at c1
      refine OK_if (fun c2 => ?_) (fun c2 => ?_)
      · skip
        try simp (disch := omega) only [jst_eq, jst_ne, jst_ni, jI_i, jcmp_lt, jcmp_gt, w32_id, jcpy_out, Sum.elim_inl, Sum.elim_inr, jt2, jt3, jt4, jt5, jt6, jt7, jt8] at c2
        refine OK_ir ?_
        try dsimp only [Sum.elim_inl, Sum.elim_inr, jt2, jt3, jt4, jt5, jt6, jt7, jt8]
        refine ⟨?_, ?_⟩
        · (intro y; exact absurd c2 y) -- o3 e2.1
        · (first | assumption | omega | ((try dsimp only [jt2, jt3, jt4]); first | omega | (simp (disch := omega) only [jst_eq, jst_ne, jst_ni, jst_o, jI_i, jcpy_out, w32_id, jdiv_nn, jshr_k, jand_255] <;> first | done | omega | assumption)) | (intros; simp (disch := omega) only [jst_eq, jst_ne, jst_ni, jst_o, jI_i, jcpy_out, w32_id, jdiv_nn, *] <;> first | done | omega) | (intros; simp (disch := omega) only [jst_eq, jst_ne, jst_ni, jst_o, jI_i, jcpy_out, w32_id, jdiv_nn] at * <;> first | done | omega | assumption) | (intros; first | rfl | (exfalso; omega) | ((repeat' apply And.intro) <;> first | assumption | rfl | omega | trivial))) -- o4 e2.2
      · skip
        try simp (disch := omega) only [jst_eq, jst_ne, jst_ni, jI_i, jcmp_lt, jcmp_gt, w32_id, jcpy_out, Sum.elim_inl, Sum.elim_inr, jt2, jt3, jt4, jt5, jt6, jt7, jt8] at c2
        rw [fr 407 a8 (by omega)]
        refine OK_jg (by (first | assumption | omega | ((try dsimp only [jt2, jt3, jt4]); first | omega | (simp (disch := omega) only [jst_eq, jst_ne, jst_ni, jst_o, jI_i, jcpy_out, w32_id, jdiv_nn, jshr_k, jand_255] <;> first | done | omega | assumption)) | (intros; simp (disch := omega) only [jst_eq, jst_ne, jst_ni, jst_o, jI_i, jcpy_out, w32_id, jdiv_nn, *] <;> first | done | omega) | (intros; simp (disch := omega) only [jst_eq, jst_ne, jst_ni, jst_o, jI_i, jcpy_out, w32_id, jdiv_nn] at * <;> first | done | omega | assumption) | (intros; first | rfl | (exfalso; omega) | ((repeat' apply And.intro) <;> first | assumption | rfl | omega | trivial)))) ?_ -- o5
        refine OK_jl ?_
        refine OK_jlx (fun x63 ex63 => ?_)
        try simp (disch := omega) only [jst_eq, jst_ne, jst_ni, jI_i, jcmp_lt, jcmp_gt, w32_id, jcpy_out, Sum.elim_inl, Sum.elim_inr, jt2, jt3, jt4, jt5, jt6, jt7, jt8] at ex63
        refine OK_il ?_ ?_
        · try dsimp only [Sum.elim_inl, Sum.elim_inr, jt2, jt3, jt4, jt5, jt6, jt7, jt8]
          refine ⟨?_, ?_, ?_, ?_⟩
          · (first | assumption | omega | ((try dsimp only [jt2, jt3, jt4]); first | omega | (simp (disch := omega) only [jst_eq, jst_ne, jst_ni, jst_o, jI_i, jcpy_out, w32_id, jdiv_nn, jshr_k, jand_255] <;> first | done | omega | assumption)) | (intros; simp (disch := omega) only [jst_eq, jst_ne, jst_ni, jst_o, jI_i, jcpy_out, w32_id, jdiv_nn, *] <;> first | done | omega) | (intros; simp (disch := omega) only [jst_eq, jst_ne, jst_ni, jst_o, jI_i, jcpy_out, w32_id, jdiv_nn] at * <;> first | done | omega | assumption) | (intros; first | rfl | (exfalso; omega) | ((repeat' apply And.intro) <;> first | assumption | rfl | omega | trivial))) -- o6 e3i.1
          · (intro k k0 k1; by_cases y : k = a8; { rw [y, jst_eq] }; { rw [jst_ni y]; exact q1 k k0 (by omega) }) -- o7 e3i.2
          · exact fun a s y => by rw [jst_o (by omega)]; exact fr a s y -- o8 e3i.3
          · (intro y; exact absurd y c2) -- o9 e3i.4
        · (first | assumption | omega | ((try dsimp only [jt2, jt3, jt4]); first | omega | (simp (disch := omega) only [jst_eq, jst_ne, jst_ni, jst_o, jI_i, jcpy_out, w32_id, jdiv_nn, jshr_k, jand_255] <;> first | done | omega | assumption)) | (intros; simp (disch := omega) only [jst_eq, jst_ne, jst_ni, jst_o, jI_i, jcpy_out, w32_id, jdiv_nn, *] <;> first | done | omega) | (intros; simp (disch := omega) only [jst_eq, jst_ne, jst_ni, jst_o, jI_i, jcpy_out, w32_id, jdiv_nn] at * <;> first | done | omega | assumption) | (intros; first | rfl | (exfalso; omega) | ((repeat' apply And.intro) <;> first | assumption | rfl | omega | trivial))) -- o10 e3m
  · try dsimp only [Sum.elim_inl, Sum.elim_inr, jt2, jt3, jt4, jt5, jt6, jt7, jt8]
    refine ⟨?_, ?_, ?_, ?_⟩
    · (first | assumption | omega | ((try dsimp only [jt2, jt3, jt4]); first | omega | (simp (disch := omega) only [jst_eq, jst_ne, jst_ni, jst_o, jI_i, jcpy_out, w32_id, jdiv_nn, jshr_k, jand_255] <;> first | done | omega | assumption)) | (intros; simp (disch := omega) only [jst_eq, jst_ne, jst_ni, jst_o, jI_i, jcpy_out, w32_id, jdiv_nn, *] <;> first | done | omega) | (intros; simp (disch := omega) only [jst_eq, jst_ne, jst_ni, jst_o, jI_i, jcpy_out, w32_id, jdiv_nn] at * <;> first | done | omega | assumption) | (intros; first | rfl | (exfalso; omega) | ((repeat' apply And.intro) <;> first | assumption | rfl | omega | trivial))) -- o11 init.1
    · (intro k k0 k1; omega) -- o12 init.2
    · exact fun _ _ _ => rfl -- o13 init.3
    · (first | assumption | omega | ((try dsimp only [jt2, jt3, jt4]); first | omega | (simp (disch := omega) only [jst_eq, jst_ne, jst_ni, jst_o, jI_i, jcpy_out, w32_id, jdiv_nn, jshr_k, jand_255] <;> first | done | omega | assumption)) | (intros; simp (disch := omega) only [jst_eq, jst_ne, jst_ni, jst_o, jI_i, jcpy_out, w32_id, jdiv_nn, *] <;> first | done | omega) | (intros; simp (disch := omega) only [jst_eq, jst_ne, jst_ni, jst_o, jI_i, jcpy_out, w32_id, jdiv_nn] at * <;> first | done | omega | assumption) | (intros; first | rfl | (exfalso; omega) | ((repeat' apply And.intro) <;> first | assumption | rfl | omega | trivial))) -- o14 init.4
theorem vX1_goThrough_j305_163 (a1 : Int) (a2 : Int) (a3 : Int) (t0 : Int) {h : AH} {E : EV} {Rf : Int → TR} {W : Int → Int → Int → VW} {hl : Int → Int} {L : LE} {s9 : Int → Int} (rn : rnX h E Rf W hl L) (sv : vlS L s9 ∧ ∀ k, 0 ≤ k → k < L.2.1.1 → h 406 k = s9 k) (ht : t0 = 0 ∨ t0 = 1) : OK (gX1_goThrough_j305_163 a1 a2 a3 t0 h) (Sum.elim (fun r => jt2 r fun y h' => (t0 = 0 → y = 0) ∧ (t0 = 1 → (y = 1 ∧ gdS L (nxS W L s9) ∧ ∀ k, 0 ≤ k → k < L.2.1.1 → h' 406 k = nxS W L s9 k) ∨ (y = 0 ∧ ¬ gdS L (nxS W L s9))) ∧ (∀ a s, ¬ (a = 200 ∧ (s = 9 ∨ s = 10)) → ¬ ((a = 269 ∨ a = 406 ∨ a = 407) ∧ 0 ≤ s) → h' a s = h a s) ∧ (bd10 h')) (Sum.elim (fun h' => (0 : Int) = 1) (Sum.elim (fun h' => (0 : Int) = 1) (fun h' => (0 : Int) = 1)))) := by
  have n3 := rn.2.2.2.2.1
  have LX := rnX_x rn
  unfold gX1_goThrough_j305_163
  refine OK_jb (vX1_goThrough_l310 (E := E) (Rf := Rf) (W := W) (hl := hl) (L := L) (s9 := s9) _ _ _ _ _ (by (first | assumption | omega | ((try dsimp only [jt2, jt3, jt4]); first | omega | (simp (disch := omega) only [jst_eq, jst_ne, jst_ni, jst_o, jI_i, jcpy_out, w32_id, jdiv_nn, jshr_k, jand_255] <;> first | done | omega | assumption)) | (intros; simp (disch := omega) only [jst_eq, jst_ne, jst_ni, jst_o, jI_i, jcpy_out, w32_id, jdiv_nn, *] <;> first | done | omega) | (intros; simp (disch := omega) only [jst_eq, jst_ne, jst_ni, jst_o, jI_i, jcpy_out, w32_id, jdiv_nn] at * <;> first | done | omega | assumption) | (intros; first | rfl | (exfalso; omega) | ((repeat' apply And.intro) <;> first | assumption | rfl | omega | trivial)))) (by exact sv) (by exact ⟨ht, rfl⟩)) (fun o54 r1 => ?_)
  obtain ⟨y56, h57⟩ := o54
  refine OK_jt2 ?_
  try dsimp only [Sum.elim_inl, Sum.elim_inr, jt2, jt3, jt4, jt5, jt6, jt7, jt8] at r1
  obtain ⟨z1, q11, fr1, bb1⟩ := r1
  try simp (disch := omega) only [jst_eq, jst_ne, jst_ni, jI_i, jcmp_lt, jcmp_gt, w32_id, jcpy_out, Sum.elim_inl, Sum.elim_inr, jt2, jt3, jt4, jt5, jt6, jt7, jt8] at z1
  try simp (disch := omega) only [jst_eq, jst_ne, jst_ni, jI_i, jcmp_lt, jcmp_gt, w32_id, jcpy_out, Sum.elim_inl, Sum.elim_inr, jt2, jt3, jt4, jt5, jt6, jt7, jt8] at q11
  try simp (disch := omega) only [jst_eq, jst_ne, jst_ni, jI_i, jcmp_lt, jcmp_gt, w32_id, jcpy_out, Sum.elim_inl, Sum.elim_inr, jt2, jt3, jt4, jt5, jt6, jt7, jt8] at fr1
  try simp (disch := omega) only [jst_eq, jst_ne, jst_ni, jI_i, jcmp_lt, jcmp_gt, w32_id, jcpy_out, Sum.elim_inl, Sum.elim_inr, jt2, jt3, jt4, jt5, jt6, jt7, jt8] at bb1
  have FQ : ∀ a s, ¬ (a = 200 ∧ (s = 9 ∨ s = 10)) → ¬ ((a = 269 ∨ a = 407) ∧ 0 ≤ s) → h57 a s = h a s := fun a s y1 y2 => fr1 a s (by omega) (by omega)
  have X57 : h57 200 39 = h 200 39 := FQ _ _ (by omega) (by omega)
  have X572 : h57 (h 200 39) 2 = L.2.1.1 := by { rw [FQ _ _ (by omega) (by omega)]; exact rn.2.1.2.2.1 }
  unfold gX1_goThrough_j383_163
  refine OK_jb (vX1_goThrough_l386 (m := L.2.1.1) _ _ _ _ _ (by (rw [X57, X572]; exact ⟨LX, rfl, by omega, by omega⟩)) (by rfl)) (fun o58 r2 => ?_)
  try dsimp only [Sum.elim_inl, Sum.elim_inr, jt2, jt3, jt4, jt5, jt6, jt7, jt8] at r2
  obtain ⟨q12, fr2⟩ := r2
  try simp (disch := omega) only [jst_eq, jst_ne, jst_ni, jI_i, jcmp_lt, jcmp_gt, w32_id, jcpy_out, Sum.elim_inl, Sum.elim_inr, jt2, jt3, jt4, jt5, jt6, jt7, jt8] at q12
  try simp (disch := omega) only [jst_eq, jst_ne, jst_ni, jI_i, jcmp_lt, jcmp_gt, w32_id, jcpy_out, Sum.elim_inl, Sum.elim_inr, jt2, jt3, jt4, jt5, jt6, jt7, jt8] at fr2
  unfold gX1_goThrough_j423_163
  refine OK_some ?_
  try dsimp only [Sum.elim_inl, Sum.elim_inr, jt2, jt3, jt4, jt5, jt6, jt7, jt8]
  try dsimp only [Sum.elim_inl, Sum.elim_inr, jt2, jt3, jt4, jt5, jt6, jt7, jt8]
  refine ⟨?_, ?_, ?_, ?_⟩
  · exact z1 -- o6 e1.1
  · (intro t1; rcases q11 t1 with z | z; { left; refine ⟨z.1, z.2.1, fun k k0 k1 => ?_⟩; rw [q12 (by omega) k k0 k1]; exact z.2.2 k k0 k1 }; { exact Or.inr z }) -- o7 e1.2
  · exact fun a s y1 y2 => by rw [fr2 a s (by omega)]; exact FQ a s y1 (by omega) -- o8 e1.3
  · (unfold bd10; rw [fr2 _ _ (by omega)]; exact bb1) -- o9 e1.4

