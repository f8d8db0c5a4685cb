/-! x: a program is applied, from the tape; m: examples from the tape, rows cleared -/
theorem vX1_apply_l29 (i1 : Int) (a20 : Int) (a30 : Int) {h : AH} (hk : 0 ≤ i1 ∧ i1 ≤ 2000) (h4 : (a20 = 0 ∨ a20 = 1) ∧ a30 = 0) : OK (gX1_apply_l29 i1 a20 a30 h) (fun r => (r = 1 ∧ a20 = 1 ∧ wtA (h 440) 0 i1) ∨ (r = 0 ∧ ¬ (a20 = 1 ∧ wtA (h 440) 0 i1))) := by
  unfold gX1_apply_l29
  refine OK_jit (I := (fun (s : Int × Int) => jt2 s fun a2 a3 => (0 ≤ a3) ∧ ((a2 = 1 ∧ a20 = 1 ∧ wtA (h 440) 0 a3) ∨ (a2 = 0 ∧ ¬ (a20 = 1 ∧ wtA (h 440) 0 i1))))) (m := (fun (s : Int × Int) => jt2 s fun a2 a3 => (i1 - a3).toNat)) ?_ ?_
  · intro s hs
    obtain ⟨a2, a3⟩ := s
    dsimp only [Sum.elim_inl, Sum.elim_inr, jt2, jt3, jt4, jt5, jt6, jt7, jt8] at hs
    obtain ⟨q0, q1⟩ := hs
    unfold gX1_apply_b29
    refine OK_jt2 ?_
    have QQ := q1
    refine OK_if (fun c1 => ?_) (fun c1 => ?_)
    · skip
      try simp (disch := omega) only [jst_eq, jst_ne, jst_ni, jI_i, jcmp_lt, jcmp_gt, w32_id, jcpy_out, Sum.elim_inl, Sum.elim_inr, jt2, jt3, jt4, jt5, jt6, jt7, jt8] at c1
      refine OK_ir ?_
      (rcases QQ with q | q; { exact Or.inl ⟨q.1, q.2.1, fun k k0 k1 => q.2.2 k k0 (by omega)⟩ }; { exact Or.inr q }) -- o1 e1
    · skip
      try simp (disch := omega) only [jst_eq, jst_ne, jst_ni, jI_i, jcmp_lt, jcmp_gt, w32_id, jcpy_out, Sum.elim_inl, Sum.elim_inr, jt2, jt3, jt4, jt5, jt6, jt7, jt8] at c1
      have L1 : ¬ (97 ≤ h 440 a3 ∧ h 440 a3 ≤ 122) → ¬ (a20 = 1 ∧ wtA (h 440) 0 i1) := fun y z => by { have w := isL_r (z.2 a3 q0 (by omega)); exact y w }
      refine OK_if (fun c2 => ?_) (fun c2 => ?_)
      · skip
        try simp (disch := omega) only [jst_eq, jst_ne, jst_ni, jI_i, jcmp_lt, jcmp_gt, w32_id, jcpy_out, Sum.elim_inl, Sum.elim_inr, jt2, jt3, jt4, jt5, jt6, jt7, jt8] at c2
        refine OK_ir ?_
        (rcases QQ with q | q; { have := q.1; omega }; { exact Or.inr ⟨by omega, q.2⟩ }) -- o2 e2
      · skip
        try simp (disch := omega) only [jst_eq, jst_ne, jst_ni, jI_i, jcmp_lt, jcmp_gt, w32_id, jcpy_out, Sum.elim_inl, Sum.elim_inr, jt2, jt3, jt4, jt5, jt6, jt7, jt8] at c2
        have Q2 := QQ.resolve_right (fun z => c2 z.1)
        refine OK_jg (by (first | assumption | omega | ((try dsimp only [jt2, jt3, jt4]); first | omega | (simp (disch := omega) only [jst_eq, jst_ne, jst_ni, jst_o, jI_i, jcpy_out, w32_id, jdiv_nn, jshr_k, jand_255] <;> first | done | omega | assumption)) | (intros; simp (disch := omega) only [jst_eq, jst_ne, jst_ni, jst_o, jI_i, jcpy_out, w32_id, jdiv_nn, *] <;> first | done | omega) | (intros; simp (disch := omega) only [jst_eq, jst_ne, jst_ni, jst_o, jI_i, jcpy_out, w32_id, jdiv_nn] at * <;> first | done | omega | assumption) | (intros; first | rfl | (exfalso; omega) | ((repeat' apply And.intro) <;> first | assumption | rfl | omega | trivial)))) ?_ -- o3
        refine OK_if (fun c3 => ?_) (fun c3 => ?_)
        · skip
          try simp (disch := omega) only [jst_eq, jst_ne, jst_ni, jI_i, jcmp_lt, jcmp_gt, w32_id, jcpy_out, Sum.elim_inl, Sum.elim_inr, jt2, jt3, jt4, jt5, jt6, jt7, jt8] at c3
          unfold gX1_apply_j65_29
          refine OK_jlx (fun x20 ex20 => ?_)
          try simp (disch := omega) only [jst_eq, jst_ne, jst_ni, jI_i, jcmp_lt, jcmp_gt, w32_id, jcpy_out, Sum.elim_inl, Sum.elim_inr, jt2, jt3, jt4, jt5, jt6, jt7, jt8] at ex20
          refine OK_il ?_ ?_
          · try dsimp only [Sum.elim_inl, Sum.elim_inr, jt2, jt3, jt4, jt5, jt6, jt7, jt8]
            refine ⟨?_, ?_⟩
            · (first | assumption | omega | ((try dsimp only [jt2, jt3, jt4]); first | omega | (simp (disch := omega) only [jst_eq, jst_ne, jst_ni, jst_o, jI_i, jcpy_out, w32_id, jdiv_nn, jshr_k, jand_255] <;> first | done | omega | assumption)) | (intros; simp (disch := omega) only [jst_eq, jst_ne, jst_ni, jst_o, jI_i, jcpy_out, w32_id, jdiv_nn, *] <;> first | done | omega) | (intros; simp (disch := omega) only [jst_eq, jst_ne, jst_ni, jst_o, jI_i, jcpy_out, w32_id, jdiv_nn] at * <;> first | done | omega | assumption) | (intros; first | rfl | (exfalso; omega) | ((repeat' apply And.intro) <;> first | assumption | rfl | omega | trivial))) -- o4 e3i.1
            · (right; exact ⟨rfl, L1 (by omega)⟩) -- o5 e3i.2
          · (first | assumption | omega | ((try dsimp only [jt2, jt3, jt4]); first | omega | (simp (disch := omega) only [jst_eq, jst_ne, jst_ni, jst_o, jI_i, jcpy_out, w32_id, jdiv_nn, jshr_k, jand_255] <;> first | done | omega | assumption)) | (intros; simp (disch := omega) only [jst_eq, jst_ne, jst_ni, jst_o, jI_i, jcpy_out, w32_id, jdiv_nn, *] <;> first | done | omega) | (intros; simp (disch := omega) only [jst_eq, jst_ne, jst_ni, jst_o, jI_i, jcpy_out, w32_id, jdiv_nn] at * <;> first | done | omega | assumption) | (intros; first | rfl | (exfalso; omega) | ((repeat' apply And.intro) <;> first | assumption | rfl | omega | trivial))) -- o6 e3m
        · skip
          try simp (disch := omega) only [jst_eq, jst_ne, jst_ni, jI_i, jcmp_lt, jcmp_gt, w32_id, jcpy_out, Sum.elim_inl, Sum.elim_inr, jt2, jt3, jt4, jt5, jt6, jt7, jt8] at c3
          refine OK_if (fun c4 => ?_) (fun c4 => ?_)
          · skip
            try simp (disch := omega) only [jst_eq, jst_ne, jst_ni, jI_i, jcmp_lt, jcmp_gt, w32_id, jcpy_out, Sum.elim_inl, Sum.elim_inr, jt2, jt3, jt4, jt5, jt6, jt7, jt8] at c4
            unfold gX1_apply_j65_29
            refine OK_jlx (fun x20 ex20 => ?_)
            try simp (disch := omega) only [jst_eq, jst_ne, jst_ni, jI_i, jcmp_lt, jcmp_gt, w32_id, jcpy_out, Sum.elim_inl, Sum.elim_inr, jt2, jt3, jt4, jt5, jt6, jt7, jt8] at ex20
            refine OK_il ?_ ?_
            · try dsimp only [Sum.elim_inl, Sum.elim_inr, jt2, jt3, jt4, jt5, jt6, jt7, jt8]
              refine ⟨?_, ?_⟩
              · (first | assumption | omega | ((try dsimp only [jt2, jt3, jt4]); first | omega | (simp (disch := omega) only [jst_eq, jst_ne, jst_ni, jst_o, jI_i, jcpy_out, w32_id, jdiv_nn, jshr_k, jand_255] <;> first | done | omega | assumption)) | (intros; simp (disch := omega) only [jst_eq, jst_ne, jst_ni, jst_o, jI_i, jcpy_out, w32_id, jdiv_nn, *] <;> first | done | omega) | (intros; simp (disch := omega) only [jst_eq, jst_ne, jst_ni, jst_o, jI_i, jcpy_out, w32_id, jdiv_nn] at * <;> first | done | omega | assumption) | (intros; first | rfl | (exfalso; omega) | ((repeat' apply And.intro) <;> first | assumption | rfl | omega | trivial))) -- o7 e4i.1
              · (right; exact ⟨rfl, L1 (by omega)⟩) -- o8 e4i.2
            · (first | assumption | omega | ((try dsimp only [jt2, jt3, jt4]); first | omega | (simp (disch := omega) only [jst_eq, jst_ne, jst_ni, jst_o, jI_i, jcpy_out, w32_id, jdiv_nn, jshr_k, jand_255] <;> first | done | omega | assumption)) | (intros; simp (disch := omega) only [jst_eq, jst_ne, jst_ni, jst_o, jI_i, jcpy_out, w32_id, jdiv_nn, *] <;> first | done | omega) | (intros; simp (disch := omega) only [jst_eq, jst_ne, jst_ni, jst_o, jI_i, jcpy_out, w32_id, jdiv_nn] at * <;> first | done | omega | assumption) | (intros; first | rfl | (exfalso; omega) | ((repeat' apply And.intro) <;> first | assumption | rfl | omega | trivial))) -- o9 e4m
          · skip
            try simp (disch := omega) only [jst_eq, jst_ne, jst_ni, jI_i, jcmp_lt, jcmp_gt, w32_id, jcpy_out, Sum.elim_inl, Sum.elim_inr, jt2, jt3, jt4, jt5, jt6, jt7, jt8] at c4
            unfold gX1_apply_j65_29
            refine OK_jlx (fun x20 ex20 => ?_)
            try simp (disch := omega) only [jst_eq, jst_ne, jst_ni, jI_i, jcmp_lt, jcmp_gt, w32_id, jcpy_out, Sum.elim_inl, Sum.elim_inr, jt2, jt3, jt4, jt5, jt6, jt7, jt8] at ex20
            refine OK_il ?_ ?_
            · try dsimp only [Sum.elim_inl, Sum.elim_inr, jt2, jt3, jt4, jt5, jt6, jt7, jt8]
              refine ⟨?_, ?_⟩
              · (first | assumption | omega | ((try dsimp only [jt2, jt3, jt4]); first | omega | (simp (disch := omega) only [jst_eq, jst_ne, jst_ni, jst_o, jI_i, jcpy_out, w32_id, jdiv_nn, jshr_k, jand_255] <;> first | done | omega | assumption)) | (intros; simp (disch := omega) only [jst_eq, jst_ne, jst_ni, jst_o, jI_i, jcpy_out, w32_id, jdiv_nn, *] <;> first | done | omega) | (intros; simp (disch := omega) only [jst_eq, jst_ne, jst_ni, jst_o, jI_i, jcpy_out, w32_id, jdiv_nn] at * <;> first | done | omega | assumption) | (intros; first | rfl | (exfalso; omega) | ((repeat' apply And.intro) <;> first | assumption | rfl | omega | trivial))) -- o10 e5i.1
              · (left; refine ⟨rfl, Q2.2.1, fun k k0 k1 => ?_⟩; by_cases y : k = a3; { rw [y]; exact isL_t (by omega) (by omega) }; { exact Q2.2.2 k k0 (by omega) }) -- o11 e5i.2
            · (first | assumption | omega | ((try dsimp only [jt2, jt3, jt4]); first | omega | (simp (disch := omega) only [jst_eq, jst_ne, jst_ni, jst_o, jI_i, jcpy_out, w32_id, jdiv_nn, jshr_k, jand_255] <;> first | done | omega | assumption)) | (intros; simp (disch := omega) only [jst_eq, jst_ne, jst_ni, jst_o, jI_i, jcpy_out, w32_id, jdiv_nn, *] <;> first | done | omega) | (intros; simp (disch := omega) only [jst_eq, jst_ne, jst_ni, jst_o, jI_i, jcpy_out, w32_id, jdiv_nn] at * <;> first | done | omega | assumption) | (intros; first | rfl | (exfalso; omega) | ((repeat' apply And.intro) <;> first | assumption | rfl | omega | trivial))) -- o12 e5m
  · try dsimp only [Sum.elim_inl, Sum.elim_inr, jt2, jt3, jt4, jt5, jt6, jt7, jt8]
    refine ⟨?_, ?_⟩
    · (first | assumption | omega | ((try dsimp only [jt2, jt3, jt4]); first | omega | (simp (disch := omega) only [jst_eq, jst_ne, jst_ni, jst_o, jI_i, jcpy_out, w32_id, jdiv_nn, jshr_k, jand_255] <;> first | done | omega | assumption)) | (intros; simp (disch := omega) only [jst_eq, jst_ne, jst_ni, jst_o, jI_i, jcpy_out, w32_id, jdiv_nn, *] <;> first | done | omega) | (intros; simp (disch := omega) only [jst_eq, jst_ne, jst_ni, jst_o, jI_i, jcpy_out, w32_id, jdiv_nn] at * <;> first | done | omega | assumption) | (intros; first | rfl | (exfalso; omega) | ((repeat' apply And.intro) <;> first | assumption | rfl | omega | trivial))) -- o13 init.1
    · (rcases h4.1 with z | z; { right; exact ⟨z, fun y => by have := y.1; omega⟩ }; { left; exact ⟨z, z, fun k k0 k1 => by omega⟩ }) -- o14 init.2
theorem vX1_apply_j26 (a1 : Int) (t0 : Int) {h : AH} {l : List (Int × Int)} (hn : 0 ≤ a1 ∧ a1 ≤ 2000 ∧ (t0 = 0 ∨ (t0 = 1 ∧ a1 ≤ 10))) (hk : (h 440 (-2) = 103 ∧ h 440 (-1) = 2000) ∧ h 453 (-1) = 100) (hl : h 408 16 = (l.length : Nat) ∧ l.length ≤ 4) (hz : (h 200 63 = 0 ∧ l = []) ∨ (h 200 63 = 1 ∧ l ≠ [])) (hi : l ≠ [] → itsX h 0 l) (ho : ∀ it ∈ l, itO it) : OK (gX1_apply_j26 a1 t0 h) (fun r => jt2 r fun v h' => ((¬ (t0 = 1 ∧ wtA (h 440) 0 a1) ∧ v = -1 ∧ h' = h) ∨ ((t0 = 1 ∧ wtA (h 440) 0 a1) ∧ ((l = [] ∧ v = -2 ∧ h' = h) ∨ (l ≠ [] ∧ ((apL (fun k => h 440 k - 97) a1 l = none ∧ v = -1 ∧ h' 200 55 = h 200 55) ∨ ∃ o, apL (fun k => h 440 k - 97) a1 l = some o ∧ o.length ≤ 40 ∧ v = (o.length : Nat) ∧ h' 200 55 = (o.length : Nat) ∧ ∀ i : Nat, i < o.length → h' 440 i = o.getD i 0))))) ∧ (∀ a s, ¬ (a = 200 ∧ s = 55) → ¬ (a = 452 ∧ s = 1) → ¬ ((a = 440 ∨ a = 453) ∧ 0 ≤ s) → h' a s = h a s)) := by
  unfold gX1_apply_j26
  refine OK_jb (vX1_apply_l29 _ _ _ (by omega) (by omega)) (fun o6 r1 => ?_)
  try dsimp only [Sum.elim_inl, Sum.elim_inr, jt2, jt3, jt4, jt5, jt6, jt7, jt8] at r1
  have wt1 := r1
  clear r1
  try simp (disch := omega) only [jst_eq, jst_ne, jst_ni, jI_i, jcmp_lt, jcmp_gt, w32_id, jcpy_out, Sum.elim_inl, Sum.elim_inr, jt2, jt3, jt4, jt5, jt6, jt7, jt8] at wt1
  have Q6 : (o6 = 1 ∧ t0 = 1 ∧ wtA (h 440) 0 a1) ∨ (o6 = 0 ∧ ¬ (t0 = 1 ∧ wtA (h 440) 0 a1)) := by assumption
  unfold gX1_apply_j72
  refine OK_if (fun c1 => ?_) (fun c1 => ?_)
  · skip
    try simp (disch := omega) only [jst_eq, jst_ne, jst_ni, jI_i, jcmp_lt, jcmp_gt, w32_id, jcpy_out, Sum.elim_inl, Sum.elim_inr, jt2, jt3, jt4, jt5, jt6, jt7, jt8] at c1
    refine OK_some ?_
    try dsimp only [Sum.elim_inl, Sum.elim_inr, jt2, jt3, jt4, jt5, jt6, jt7, jt8]
    try dsimp only [Sum.elim_inl, Sum.elim_inr, jt2, jt3, jt4, jt5, jt6, jt7, jt8]
    refine ⟨?_, ?_⟩
    · (rcases Q6 with z | z; { omega }; { exact Or.inl ⟨z.2, rfl, rfl⟩ }) -- o3 e1.1
    · (first | assumption | omega | ((try dsimp only [jt2, jt3, jt4]); first | omega | (simp (disch := omega) only [jst_eq, jst_ne, jst_ni, jst_o, jI_i, jcpy_out, w32_id, jdiv_nn, jshr_k, jand_255] <;> first | done | omega | assumption)) | (intros; simp (disch := omega) only [jst_eq, jst_ne, jst_ni, jst_o, jI_i, jcpy_out, w32_id, jdiv_nn, *] <;> first | done | omega) | (intros; simp (disch := omega) only [jst_eq, jst_ne, jst_ni, jst_o, jI_i, jcpy_out, w32_id, jdiv_nn] at * <;> first | done | omega | assumption) | (intros; first | rfl | (exfalso; omega) | ((repeat' apply And.intro) <;> first | assumption | rfl | omega | trivial))) -- o4 e1.2
  · skip
    try simp (disch := omega) only [jst_eq, jst_ne, jst_ni, jI_i, jcmp_lt, jcmp_gt, w32_id, jcpy_out, Sum.elim_inl, Sum.elim_inr, jt2, jt3, jt4, jt5, jt6, jt7, jt8] at c1
    have WY := (Q6.resolve_right (fun z => c1 z.1)).2
    refine OK_if (fun c2 => ?_) (fun c2 => ?_)
    · skip
      try simp (disch := omega) only [jst_eq, jst_ne, jst_ni, jI_i, jcmp_lt, jcmp_gt, w32_id, jcpy_out, Sum.elim_inl, Sum.elim_inr, jt2, jt3, jt4, jt5, jt6, jt7, jt8] at c2
      refine OK_some ?_
      try dsimp only [Sum.elim_inl, Sum.elim_inr, jt2, jt3, jt4, jt5, jt6, jt7, jt8]
      try dsimp only [Sum.elim_inl, Sum.elim_inr, jt2, jt3, jt4, jt5, jt6, jt7, jt8]
      refine ⟨?_, ?_⟩
      · exact Or.inr ⟨WY, Or.inl ⟨by rcases hz with z | z; { exact z.2 }; { omega }, rfl, rfl⟩⟩ -- o5 e2.1
      · (first | assumption | omega | ((try dsimp only [jt2, jt3, jt4]); first | omega | (simp (disch := omega) only [jst_eq, jst_ne, jst_ni, jst_o, jI_i, jcpy_out, w32_id, jdiv_nn, jshr_k, jand_255] <;> first | done | omega | assumption)) | (intros; simp (disch := omega) only [jst_eq, jst_ne, jst_ni, jst_o, jI_i, jcpy_out, w32_id, jdiv_nn, *] <;> first | done | omega) | (intros; simp (disch := omega) only [jst_eq, jst_ne, jst_ni, jst_o, jI_i, jcpy_out, w32_id, jdiv_nn] at * <;> first | done | omega | assumption) | (intros; first | rfl | (exfalso; omega) | ((repeat' apply And.intro) <;> first | assumption | rfl | omega | trivial))) -- o6 e2.2
    · skip
      try simp (disch := omega) only [jst_eq, jst_ne, jst_ni, jI_i, jcmp_lt, jcmp_gt, w32_id, jcpy_out, Sum.elim_inl, Sum.elim_inr, jt2, jt3, jt4, jt5, jt6, jt7, jt8] at c2
      have LN : l ≠ [] := by { rcases hz with z | z; { exact absurd z.1 c2 }; { exact z.2 } }
      refine OK_jb2 (vX9_apply (f := fun k => h 440 k - 97) (l := l) _ (by omega) (by (intro k k0 k1; have := isL_r (WY.2 k k0 k1); (try dsimp only); omega)) (by omega) (by exact hl) (by exact hi LN) (by exact ho)) (fun v11 h12 r2 => ?_)
      try dsimp only [Sum.elim_inl, Sum.elim_inr, jt2, jt3, jt4, jt5, jt6, jt7, jt8] at r2
      obtain ⟨ap2, fr2⟩ := r2
      try simp (disch := omega) only [jst_eq, jst_ne, jst_ni, jI_i, jcmp_lt, jcmp_gt, w32_id, jcpy_out, Sum.elim_inl, Sum.elim_inr, jt2, jt3, jt4, jt5, jt6, jt7, jt8] at ap2
      try simp (disch := omega) only [jst_eq, jst_ne, jst_ni, jI_i, jcmp_lt, jcmp_gt, w32_id, jcpy_out, Sum.elim_inl, Sum.elim_inr, jt2, jt3, jt4, jt5, jt6, jt7, jt8] at fr2
      have F12 : ∀ a s, ¬ (a = 452 ∧ s = 1) → ¬ (a = 453 ∧ 0 ≤ s) → h12 a s = h a s := by assumption
      refine OK_if (fun c3 => ?_) (fun c3 => ?_)
      · skip
        try simp (disch := omega) only [jst_eq, jst_ne, jst_ni, jI_i, jcmp_lt, jcmp_gt, w32_id, jcpy_out, Sum.elim_inl, Sum.elim_inr, jt2, jt3, jt4, jt5, jt6, jt7, jt8] at c3
        refine OK_some ?_
        try dsimp only [Sum.elim_inl, Sum.elim_inr, jt2, jt3, jt4, jt5, jt6, jt7, jt8]
        try dsimp only [Sum.elim_inl, Sum.elim_inr, jt2, jt3, jt4, jt5, jt6, jt7, jt8]
        refine ⟨?_, ?_⟩
        · (rcases ap2 with z | z; { exact Or.inr ⟨WY, Or.inr ⟨LN, Or.inl ⟨z.2, rfl, F12 _ _ (by omega) (by omega)⟩⟩⟩ }; { omega }) -- o13 e3.1
        · exact fun a s y1 y2 y3 => F12 a s y2 (by omega) -- o14 e3.2
      · skip
        try simp (disch := omega) only [jst_eq, jst_ne, jst_ni, jI_i, jcmp_lt, jcmp_gt, w32_id, jcpy_out, Sum.elim_inl, Sum.elim_inr, jt2, jt3, jt4, jt5, jt6, jt7, jt8] at c3
        obtain ⟨o, O1, O2, O3, O4⟩ := (ap2.resolve_left (fun z => c3 z.1)).2
        refine OK_jl ?_
        have N14 : jst h12 200 55 (h12 452 1) 200 55 = (o.length : Nat) := by { rw [jst_eq]; exact O3 }
        rw [N14]
        refine OK_jg (by omega) ?_ -- o15
        refine OK_jl ?_
        refine OK_some ?_
        try dsimp only [Sum.elim_inl, Sum.elim_inr, jt2, jt3, jt4, jt5, jt6, jt7, jt8]
        try dsimp only [Sum.elim_inl, Sum.elim_inr, jt2, jt3, jt4, jt5, jt6, jt7, jt8]
        refine ⟨?_, ?_⟩
        · (have LO : (0 : Int) ≤ (o.length : Nat) := (by omega); refine Or.inr ⟨WY, Or.inr ⟨LN, Or.inr ⟨o, O1, O2, ?_, ?_, fun i hi2 => ?_⟩⟩⟩; { rw [jcpy_ne (by decide)]; exact N14 }; { rw [jcpy_ne (by decide)]; exact N14 }; { rw [jcpy_in (by omega) (by omega), jst_ne (by decide), show (0 : Int) + ((i : Int) - 0) = i by omega]; exact O4 i hi2 }) -- o16 e4.1
        · exact fun a s y1 y2 y3 => by rw [jcpy_out (by omega), jst_o (by omega)]; exact F12 a s y2 (by omega) -- o17 e4.2
theorem vX1_apply {h : AH} {l : List (Int × Int)} {n : Int} (hd : h 200 53 = 0 ∨ h 200 53 = 1) (hn : n = h 200 55 ∧ 0 ≤ n ∧ n ≤ 2000) (hk : (h 440 (-2) = 103 ∧ h 440 (-1) = 2000) ∧ h 453 (-1) = 100) (hl : h 408 16 = (l.length : Nat) ∧ l.length ≤ 4) (hz : (h 200 63 = 0 ∧ l = []) ∨ (h 200 63 = 1 ∧ l ≠ [])) (hi : l ≠ [] → itsX h 0 l) (ho : ∀ it ∈ l, itO it) : OK (gX1_apply h) (fun r => jt2 r fun v h' => ((h 200 53 = 1 ∧ v = -5 ∧ h' = h) ∨ (h 200 53 = 0 ∧ (((10 < n ∨ ¬ wtA (h 440) 0 n) ∧ v = -1 ∧ h' 200 55 = 0) ∨ ((n ≤ 10 ∧ wtA (h 440) 0 n) ∧ ((l = [] ∧ v = -2 ∧ h' 200 55 = 0) ∨ (l ≠ [] ∧ ((apL (fun k => h 440 k - 97) n l = none ∧ v = -1 ∧ h' 200 55 = 0) ∨ ∃ o, apL (fun k => h 440 k - 97) n l = some o ∧ o.length ≤ 40 ∧ v = (o.length : Nat) ∧ h' 200 55 = (o.length : Nat) ∧ ∀ i : Nat, i < o.length → h' 440 i = o.getD i 0))))))) ∧ (∀ a s, ¬ (a = 200 ∧ s = 55) → ¬ (a = 452 ∧ s = 1) → ¬ ((a = 440 ∨ a = 453) ∧ 0 ≤ s) → h' a s = h a s)) := by
  unfold gX1_apply
  refine OK_if (fun c1 => ?_) (fun c1 => ?_)
  · skip
    try simp (disch := omega) only [jst_eq, jst_ne, jst_ni, jI_i, jcmp_lt, jcmp_gt, w32_id, jcpy_out, Sum.elim_inl, Sum.elim_inr, jt2, jt3, jt4, jt5, jt6, jt7, jt8] at c1
    refine OK_jb2 (vX1_takeTape) (fun v3 h4 r1 => ?_)
    try dsimp only [Sum.elim_inl, Sum.elim_inr, jt2, jt3, jt4, jt5, jt6, jt7, jt8] at r1
    obtain ⟨v1, hh1⟩ := r1
    try simp (disch := omega) only [jst_eq, jst_ne, jst_ni, jI_i, jcmp_lt, jcmp_gt, w32_id, jcpy_out, Sum.elim_inl, Sum.elim_inr, jt2, jt3, jt4, jt5, jt6, jt7, jt8] at v1
    try simp (disch := omega) only [jst_eq, jst_ne, jst_ni, jI_i, jcmp_lt, jcmp_gt, w32_id, jcpy_out, Sum.elim_inl, Sum.elim_inr, jt2, jt3, jt4, jt5, jt6, jt7, jt8] at hh1
    have F4 : ∀ a x, ¬ (a = 200 ∧ x = 55) → h4 a x = h a x := fun a x y => by { rw [hh1]; exact jst_o y }
    have V3 : v3 = n := by omega
    have F440 : h4 440 = h 440 := funext fun s => F4 _ _ (by omega)
    have Z4 : h4 200 55 = 0 := by { rw [hh1, jst_eq] }
    rw [V3]
    refine OK_if (fun c2 => ?_) (fun c2 => ?_)
    · skip
      try simp (disch := omega) only [jst_eq, jst_ne, jst_ni, jI_i, jcmp_lt, jcmp_gt, w32_id, jcpy_out, Sum.elim_inl, Sum.elim_inr, jt2, jt3, jt4, jt5, jt6, jt7, jt8] at c2
      refine OK_mono (vX1_apply_j26 (l := l) _ _ (by omega) (by (rw [F4 _ _ (by omega), F4 _ _ (by omega), F4 _ _ (by omega)]; exact hk)) (by (rw [F4 _ _ (by omega)]; exact hl)) (by (rw [F4 _ _ (by omega)]; exact hz)) (by exact fun z => itsX_f (hi z) (fun a s a0 a1 _ _ => F4 a s (by omega))) (by exact ho)) (fun r r2 => ?_)
      obtain ⟨y1, y2⟩ := r
      try dsimp only [Sum.elim_inl, Sum.elim_inr, jt2, jt3, jt4, jt5, jt6, jt7, jt8] at r2
      obtain ⟨ap2, fr2⟩ := r2
      try simp (disch := omega) only [jst_eq, jst_ne, jst_ni, jI_i, jcmp_lt, jcmp_gt, w32_id, jcpy_out, Sum.elim_inl, Sum.elim_inr, jt2, jt3, jt4, jt5, jt6, jt7, jt8] at ap2
      try simp (disch := omega) only [jst_eq, jst_ne, jst_ni, jI_i, jcmp_lt, jcmp_gt, w32_id, jcpy_out, Sum.elim_inl, Sum.elim_inr, jt2, jt3, jt4, jt5, jt6, jt7, jt8] at fr2
      try dsimp only [Sum.elim_inl, Sum.elim_inr, jt2, jt3, jt4, jt5, jt6, jt7, jt8]
      try dsimp only [Sum.elim_inl, Sum.elim_inr, jt2, jt3, jt4, jt5, jt6, jt7, jt8]
      refine ⟨?_, ?_⟩
      · (rw [F440] at ap2; rcases ap2 with z | z; { refine Or.inr ⟨c1, Or.inl ⟨Or.inl c2, z.2.1, ?_⟩⟩; rw [z.2.2]; exact Z4 }; { have := z.1.1; omega }) -- o7 e1.1
      · exact fun a s y1 y2 y3 => by rw [fr2 a s y1 y2 y3]; exact F4 a s y1 -- o8 e1.2
    · skip
      try simp (disch := omega) only [jst_eq, jst_ne, jst_ni, jI_i, jcmp_lt, jcmp_gt, w32_id, jcpy_out, Sum.elim_inl, Sum.elim_inr, jt2, jt3, jt4, jt5, jt6, jt7, jt8] at c2
      refine OK_mono (vX1_apply_j26 (l := l) _ _ (by omega) (by (rw [F4 _ _ (by omega), F4 _ _ (by omega), F4 _ _ (by omega)]; exact hk)) (by (rw [F4 _ _ (by omega)]; exact hl)) (by (rw [F4 _ _ (by omega)]; exact hz)) (by exact fun z => itsX_f (hi z) (fun a s a0 a1 _ _ => F4 a s (by omega))) (by exact ho)) (fun r r3 => ?_)
      obtain ⟨y3, y4⟩ := r
      try dsimp only [Sum.elim_inl, Sum.elim_inr, jt2, jt3, jt4, jt5, jt6, jt7, jt8] at r3
      obtain ⟨ap3, fr3⟩ := r3
      try simp (disch := omega) only [jst_eq, jst_ne, jst_ni, jI_i, jcmp_lt, jcmp_gt, w32_id, jcpy_out, Sum.elim_inl, Sum.elim_inr, jt2, jt3, jt4, jt5, jt6, jt7, jt8] at ap3
      try simp (disch := omega) only [jst_eq, jst_ne, jst_ni, jI_i, jcmp_lt, jcmp_gt, w32_id, jcpy_out, Sum.elim_inl, Sum.elim_inr, jt2, jt3, jt4, jt5, jt6, jt7, jt8] at fr3
      try dsimp only [Sum.elim_inl, Sum.elim_inr, jt2, jt3, jt4, jt5, jt6, jt7, jt8]
      try dsimp only [Sum.elim_inl, Sum.elim_inr, jt2, jt3, jt4, jt5, jt6, jt7, jt8]
      refine ⟨?_, ?_⟩
      · (rw [F440] at ap3; rcases ap3 with z | z; { refine Or.inr ⟨c1, Or.inl ⟨Or.inr (fun y => z.1 ⟨by first | rfl | trivial, y⟩), z.2.1, ?_⟩⟩; rw [z.2.2]; exact Z4 }; { refine Or.inr ⟨c1, Or.inr ⟨⟨by omega, z.1.2⟩, ?_⟩⟩; rcases z.2 with y | ⟨y1, y2⟩; { refine Or.inl ⟨y.1, y.2.1, ?_⟩; rw [y.2.2]; exact Z4 }; { refine Or.inr ⟨y1, ?_⟩; rcases y2 with y2 | y2; { exact Or.inl ⟨y2.1, y2.2.1, y2.2.2.trans Z4⟩ }; { exact Or.inr y2 } } }) -- o15 e2.1
      · exact fun a s y1 y2 y3 => by rw [fr3 a s y1 y2 y3]; exact F4 a s y1 -- o16 e2.2
  · skip
    try simp (disch := omega) only [jst_eq, jst_ne, jst_ni, jI_i, jcmp_lt, jcmp_gt, w32_id, jcpy_out, Sum.elim_inl, Sum.elim_inr, jt2, jt3, jt4, jt5, jt6, jt7, jt8] at c1
    refine OK_some ?_
    try dsimp only [Sum.elim_inl, Sum.elim_inr, jt2, jt3, jt4, jt5, jt6, jt7, jt8]
    try dsimp only [Sum.elim_inl, Sum.elim_inr, jt2, jt3, jt4, jt5, jt6, jt7, jt8]
    refine ⟨?_, ?_⟩
    · exact Or.inl ⟨by omega, rfl, rfl⟩ -- o17 e3.1
    · (first | assumption | omega | ((try dsimp only [jt2, jt3, jt4]); first | omega | (simp (disch := omega) only [jst_eq, jst_ne, jst_ni, jst_o, jI_i, jcpy_out, w32_id, jdiv_nn, jshr_k, jand_255] <;> first | done | omega | assumption)) | (intros; simp (disch := omega) only [jst_eq, jst_ne, jst_ni, jst_o, jI_i, jcpy_out, w32_id, jdiv_nn, *] <;> first | done | omega) | (intros; simp (disch := omega) only [jst_eq, jst_ne, jst_ni, jst_o, jI_i, jcpy_out, w32_id, jdiv_nn] at * <;> first | done | omega | assumption) | (intros; first | rfl | (exfalso; omega) | ((repeat' apply And.intro) <;> first | assumption | rfl | omega | trivial))) -- o18 e3.2
theorem vX14_example (a1 : Int) {h : AH} {e : CE} {n : Int} (hd : h 454 54 = 0 ∨ h 454 54 = 1) (hn : n = h 454 53 ∧ 0 ≤ n ∧ n ≤ 2000) (hk : h 471 (-2) = 101 ∧ h 471 (-1) = 4000) (hl : lgM h) (he : cuM h e ∧ 0 ≤ e.1 ∧ e.1 ≤ 8) (hv : e.1 = 0 ∨ vCE e) (hr : -2147483648 ≤ a1 ∧ a1 ≤ 2147483647) : OK (gX14_example a1 h) (fun r => jt2 r fun v h' => ((h 454 54 = 1 ∧ v = -5 ∧ h' = jst h 454 51 0) ∨ (h 454 54 = 0 ∧ h' 454 53 = 0 ∧ h' 454 51 = 0 ∧ ((¬ exG (h 790) 0 a1 n ∧ v = -1 ∧ cuM h' e ∧ h' 454 156 = h 454 156 ∧ h' 454 154 = h 454 154) ∨ (exG (h 790) 0 a1 n ∧ (e.1 = 8 ∨ ¬ rmM h (n + 1)) ∧ v = -3 ∧ cuM h' e ∧ h' 454 156 = h 454 156 ∧ h' 454 154 = h 454 154) ∨ (exG (h 790) 0 a1 n ∧ e.1 < 8 ∧ rmM h (n + 1) ∧ v = e.1 + 1 ∧ (∃ T : Int → Int, (∀ k, 0 ≤ k → k < n → T (0 + k) = h 790 k) ∧ cuM h' (addE e (fun k => T (0 + k) - 97) (fun k => T (0 + (k + a1)) - 97) a1 (n - a1))) ∧ reM h h' 6 (fun k => if k = 0 then a1 else h 790 (k - 1)) (n + 1))))) ∧ (∀ a s, ¬ (a = 454 ∧ (s = 25 ∨ s = 51 ∨ s = 53 ∨ s = 109 ∨ s = 154 ∨ s = 156)) → ¬ (((817 ≤ a ∧ a ≤ 820) ∨ a = 471 ∨ a = 473) ∧ 0 ≤ s) → ¬ (a = 872 ∧ h 454 156 ≤ s) → h' a s = h a s)) := by
  unfold gX14_example
  refine OK_jb2 (vX14_isDown (by (first | assumption | omega | ((try dsimp only [jt2, jt3, jt4]); first | omega | (simp (disch := omega) only [jst_eq, jst_ne, jst_ni, jst_o, jI_i, jcpy_out, w32_id, jdiv_nn, jshr_k, jand_255] <;> first | done | omega | assumption)) | (intros; simp (disch := omega) only [jst_eq, jst_ne, jst_ni, jst_o, jI_i, jcpy_out, w32_id, jdiv_nn, *] <;> first | done | omega) | (intros; simp (disch := omega) only [jst_eq, jst_ne, jst_ni, jst_o, jI_i, jcpy_out, w32_id, jdiv_nn] at * <;> first | done | omega | assumption) | (intros; first | rfl | (exfalso; omega) | ((repeat' apply And.intro) <;> first | assumption | rfl | omega | trivial))))) (fun v2 h3 r1 => ?_)
  try dsimp only [Sum.elim_inl, Sum.elim_inr, jt2, jt3, jt4, jt5, jt6, jt7, jt8] at r1
  obtain ⟨dv1, dh1⟩ := r1
  try simp (disch := omega) only [jst_eq, jst_ne, jst_ni, jI_i, jcmp_lt, jcmp_gt, w32_id, jcpy_out, Sum.elim_inl, Sum.elim_inr, jt2, jt3, jt4, jt5, jt6, jt7, jt8] at dv1
  try simp (disch := omega) only [jst_eq, jst_ne, jst_ni, jI_i, jcmp_lt, jcmp_gt, w32_id, jcpy_out, Sum.elim_inl, Sum.elim_inr, jt2, jt3, jt4, jt5, jt6, jt7, jt8] at dh1
  have F3 : ∀ a x, ¬ (a = 454 ∧ x = 51) → h3 a x = h a x := fun a x y => by { rw [dh1]; exact jst_o y }
  refine OK_if (fun c1 => ?_) (fun c1 => ?_)
  · skip
    try simp (disch := omega) only [jst_eq, jst_ne, jst_ni, jI_i, jcmp_lt, jcmp_gt, w32_id, jcpy_out, Sum.elim_inl, Sum.elim_inr, jt2, jt3, jt4, jt5, jt6, jt7, jt8] at c1
    refine OK_jb (vX14_takeTape (by (rw [F3 _ _ (by omega)]; omega))) (fun h6 r2 => ?_)
    try dsimp only [Sum.elim_inl, Sum.elim_inr, jt2, jt3, jt4, jt5, jt6, jt7, jt8] at r2
    obtain ⟨z2, b2, fr2⟩ := r2
    try simp (disch := omega) only [jst_eq, jst_ne, jst_ni, jI_i, jcmp_lt, jcmp_gt, w32_id, jcpy_out, Sum.elim_inl, Sum.elim_inr, jt2, jt3, jt4, jt5, jt6, jt7, jt8] at z2
    try simp (disch := omega) only [jst_eq, jst_ne, jst_ni, jI_i, jcmp_lt, jcmp_gt, w32_id, jcpy_out, Sum.elim_inl, Sum.elim_inr, jt2, jt3, jt4, jt5, jt6, jt7, jt8] at b2
    try simp (disch := omega) only [jst_eq, jst_ne, jst_ni, jI_i, jcmp_lt, jcmp_gt, w32_id, jcpy_out, Sum.elim_inl, Sum.elim_inr, jt2, jt3, jt4, jt5, jt6, jt7, jt8] at fr2
    have F6 : ∀ a x, ¬ (a = 454 ∧ (x = 25 ∨ x = 51 ∨ x = 53)) → ¬ (a = 473 ∧ 0 ≤ x) → h6 a x = h a x := fun a x y1 y2 => by { rw [fr2 a x y1 (by omega)]; exact F3 a x (by omega) }
    have N3 : h3 454 53 = h 454 53 := F3 _ _ (by omega)
    have Z53 : h6 454 53 = 0 ∧ h6 454 51 = 0 ∧ h6 454 25 = n := by { have := z2; omega }
    have B6 : ∀ k, 0 ≤ k → k < n → h6 473 (0 + k) = h 790 k := fun k k0 k1 => by { rw [Int.zero_add, b2 k k0 (by omega)]; exact F3 _ _ (by omega) }
    have EG : exG (h6 473) 0 a1 n ↔ exG (h 790) 0 a1 n := by { have q : wtA (h6 473) 0 (0 + n) ↔ wtA (h 790) 0 (0 + n) := ⟨fun z k k0 k1 => by (rw [← B6 k k0 (by omega), Int.zero_add]; exact z k k0 k1), fun z k k0 k1 => by (have := B6 k k0 (by omega); rw [Int.zero_add] at this; rw [this]; exact z k k0 k1)⟩; exact ⟨fun z => ⟨z.1, z.2.1, q.mp z.2.2⟩, fun z => ⟨z.1, z.2.1, q.mpr z.2.2⟩⟩ }
    refine OK_jb2 (vX14_example_2 (e := e) (N := n) _ _ _ (by exact ⟨cuM_f he.1 (fun a s y => F6 a s (by omega) (by omega)), he.2⟩) (by exact szE_v hv) (by omega) (by omega) (by exact hr) (by (right; refine ⟨rfl, ?_, by rw [F6 _ _ (by omega) (by omega)]; exact hk.1, by rw [F6 _ _ (by omega) (by omega)]; exact hk.2⟩; unfold lgM; rw [F6 _ _ (by omega) (by omega), F6 _ _ (by omega) (by omega), F6 _ _ (by omega) (by omega)]; exact hl))) (fun v8 h9 r3 => ?_)
    try dsimp only [Sum.elim_inl, Sum.elim_inr, jt2, jt3, jt4, jt5, jt6, jt7, jt8] at r3
    obtain ⟨ex3, fr3⟩ := r3
    try simp (disch := omega) only [jst_eq, jst_ne, jst_ni, jI_i, jcmp_lt, jcmp_gt, w32_id, jcpy_out, Sum.elim_inl, Sum.elim_inr, jt2, jt3, jt4, jt5, jt6, jt7, jt8] at ex3
    try simp (disch := omega) only [jst_eq, jst_ne, jst_ni, jI_i, jcmp_lt, jcmp_gt, w32_id, jcpy_out, Sum.elim_inl, Sum.elim_inr, jt2, jt3, jt4, jt5, jt6, jt7, jt8] at fr3
    have K56 : h6 454 156 = h 454 156 := F6 _ _ (by omega) (by omega)
    have K54 : h6 454 154 = h 454 154 := F6 _ _ (by omega) (by omega)
    have K60 : h6 454 160 = h 454 160 := F6 _ _ (by omega) (by omega)
    have RM : rmM h6 (n + 1) ↔ rmM h (n + 1) := by { unfold rmM; rw [K56, K60] }
    have C6 : cuM h6 e := cuM_f he.1 (fun a s y => F6 a s (by omega) (by omega))
    refine OK_some ?_
    try dsimp only [Sum.elim_inl, Sum.elim_inr, jt2, jt3, jt4, jt5, jt6, jt7, jt8]
    try dsimp only [Sum.elim_inl, Sum.elim_inr, jt2, jt3, jt4, jt5, jt6, jt7, jt8]
    refine ⟨?_, ?_⟩
    · (right; refine ⟨by omega, by rw [fr3 _ _ (by omega) (by omega) (by omega)]; exact Z53.1, by rw [fr3 _ _ (by omega) (by omega) (by omega)]; exact Z53.2.1, ?_⟩; rcases ex3 with z | z | z; { exact Or.inl ⟨fun y => z.1 (EG.mpr y), z.2.1, by rw [z.2.2]; exact C6, by rw [z.2.2]; exact K56, by rw [z.2.2]; exact K54⟩ }; { refine Or.inr (Or.inl ⟨EG.mp z.1, ?_, z.2.2.1, by rw [z.2.2.2]; exact C6, by rw [z.2.2.2]; exact K56, by rw [z.2.2.2]; exact K54⟩); rcases z.2.1 with y | y; { exact Or.inl y }; { exact Or.inr (fun x => y.2 (RM.mpr x)) } }; { obtain ⟨z1, z2, z3, z4, z5, z6⟩ := z; refine Or.inr (Or.inr ⟨EG.mp z1, z2, RM.mp (z3 (by first | rfl | trivial)), z4, ⟨h6 473, B6, z5⟩, ?_⟩); obtain ⟨r1, r2, r3, r4⟩ := z6 (by first | rfl | trivial); rw [K56] at r1 r3 r4; rw [K54] at r2; refine ⟨r1, r2, r3, fun k k0 k1 => ?_⟩; rw [r4 k k0 k1]; dsimp only; by_cases y : k = 0; { rw [if_pos y, if_pos y] }; { rw [if_neg y, if_neg y, B6 (k - 1) (by omega) (by omega)]; omega } }) -- o9 e1.1
    · exact fun a s y1 y2 y3 => by rw [fr3 a s (by omega) (by omega) (by omega)]; exact F6 a s (by omega) (by omega) -- o10 e1.2
  · skip
    try simp (disch := omega) only [jst_eq, jst_ne, jst_ni, jI_i, jcmp_lt, jcmp_gt, w32_id, jcpy_out, Sum.elim_inl, Sum.elim_inr, jt2, jt3, jt4, jt5, jt6, jt7, jt8] at c1
    refine OK_some ?_
    try dsimp only [Sum.elim_inl, Sum.elim_inr, jt2, jt3, jt4, jt5, jt6, jt7, jt8]
    try dsimp only [Sum.elim_inl, Sum.elim_inr, jt2, jt3, jt4, jt5, jt6, jt7, jt8]
    refine ⟨?_, ?_⟩
    · exact Or.inl ⟨by omega, rfl, dh1⟩ -- o11 e2.1
    · exact fun a s y1 y2 y3 => F3 a s (by omega) -- o12 e2.2
theorem vX14_clear_j46 (a1 : Int) {h : AH} : OK (gX14_clear_j46 a1 h) (fun r => jt2 r fun v h' => v = a1 ∧ h' = jst h 454 109 0) := by
  unfold gX14_clear_j46
  refine OK_jl ?_
  refine OK_some ?_
  try dsimp only [Sum.elim_inl, Sum.elim_inr, jt2, jt3, jt4, jt5, jt6, jt7, jt8]
  (first | assumption | omega | ((try dsimp only [jt2, jt3, jt4]); first | omega | (simp (disch := omega) only [jst_eq, jst_ne, jst_ni, jst_o, jI_i, jcpy_out, w32_id, jdiv_nn, jshr_k, jand_255] <;> first | done | omega | assumption)) | (intros; simp (disch := omega) only [jst_eq, jst_ne, jst_ni, jst_o, jI_i, jcpy_out, w32_id, jdiv_nn, *] <;> first | done | omega) | (intros; simp (disch := omega) only [jst_eq, jst_ne, jst_ni, jst_o, jI_i, jcpy_out, w32_id, jdiv_nn] at * <;> first | done | omega | assumption) | (intros; first | rfl | (exfalso; omega) | ((repeat' apply And.intro) <;> first | assumption | rfl | omega | trivial))) -- o1 e1
theorem vX14_clear {h : AH} {N : Int} (hd : h 454 54 = 0 ∨ h 454 54 = 1) (hl : lgM h) (hk : h 473 (-2) = 101 ∧ h 473 (-1) = 2000) (he : h 454 109 = N ∧ 0 ≤ N ∧ N ≤ 8) : OK (gX14_clear h) (fun r => jt2 r fun v h' => ((h 454 54 = 1 ∧ v = -5 ∧ h' = jst h 454 51 0) ∨ (h 454 54 = 0 ∧ h' 454 51 = 0 ∧ ((N = 0 ∧ v = 0 ∧ h' 454 109 = 0 ∧ h' 454 156 = h 454 156 ∧ h' 454 154 = h 454 154) ∨ (N ≠ 0 ∧ ¬ rmM h 0 ∧ v = -3 ∧ h' 454 109 = N ∧ h' 454 156 = h 454 156 ∧ h' 454 154 = h 454 154) ∨ (N ≠ 0 ∧ rmM h 0 ∧ v = N ∧ h' 454 109 = 0 ∧ reM h h' 7 (fun _ => 0) 0)))) ∧ (∀ a s, ¬ (a = 454 ∧ (s = 51 ∨ s = 109 ∨ s = 154 ∨ s = 156)) → ¬ (a = 872 ∧ h 454 156 ≤ s) → h' a s = h a s)) := by
  have HL := hl
  unfold lgM at HL
  unfold gX14_clear
  refine OK_jb2 (vX14_isDown (by (first | assumption | omega | ((try dsimp only [jt2, jt3, jt4]); first | omega | (simp (disch := omega) only [jst_eq, jst_ne, jst_ni, jst_o, jI_i, jcpy_out, w32_id, jdiv_nn, jshr_k, jand_255] <;> first | done | omega | assumption)) | (intros; simp (disch := omega) only [jst_eq, jst_ne, jst_ni, jst_o, jI_i, jcpy_out, w32_id, jdiv_nn, *] <;> first | done | omega) | (intros; simp (disch := omega) only [jst_eq, jst_ne, jst_ni, jst_o, jI_i, jcpy_out, w32_id, jdiv_nn] at * <;> first | done | omega | assumption) | (intros; first | rfl | (exfalso; omega) | ((repeat' apply And.intro) <;> first | assumption | rfl | omega | trivial))))) (fun v2 h3 r1 => ?_)
  try dsimp only [Sum.elim_inl, Sum.elim_inr, jt2, jt3, jt4, jt5, jt6, jt7, jt8] at r1
  obtain ⟨dv1, dh1⟩ := r1
  try simp (disch := omega) only [jst_eq, jst_ne, jst_ni, jI_i, jcmp_lt, jcmp_gt, w32_id, jcpy_out, Sum.elim_inl, Sum.elim_inr, jt2, jt3, jt4, jt5, jt6, jt7, jt8] at dv1
  try simp (disch := omega) only [jst_eq, jst_ne, jst_ni, jI_i, jcmp_lt, jcmp_gt, w32_id, jcpy_out, Sum.elim_inl, Sum.elim_inr, jt2, jt3, jt4, jt5, jt6, jt7, jt8] at dh1
  have F3 : ∀ a x, ¬ (a = 454 ∧ x = 51) → h3 a x = h a x := fun a x y => by { rw [dh1]; exact jst_o y }
  refine OK_if (fun c1 => ?_) (fun c1 => ?_)
  · skip
    try simp (disch := omega) only [jst_eq, jst_ne, jst_ni, jI_i, jcmp_lt, jcmp_gt, w32_id, jcpy_out, Sum.elim_inl, Sum.elim_inr, jt2, jt3, jt4, jt5, jt6, jt7, jt8] at c1
    refine OK_jlx (fun x5 ex5 => ?_)
    try simp (disch := omega) only [jst_eq, jst_ne, jst_ni, jI_i, jcmp_lt, jcmp_gt, w32_id, jcpy_out, Sum.elim_inl, Sum.elim_inr, jt2, jt3, jt4, jt5, jt6, jt7, jt8] at ex5
    have X5 : x5 = N := by { rw [ex5, F3 _ _ (by omega)]; exact he.1 }
    refine OK_if (fun c2 => ?_) (fun c2 => ?_)
    · skip
      try simp (disch := omega) only [jst_eq, jst_ne, jst_ni, jI_i, jcmp_lt, jcmp_gt, w32_id, jcpy_out, Sum.elim_inl, Sum.elim_inr, jt2, jt3, jt4, jt5, jt6, jt7, jt8] at c2
      unfold gX14_clear_j30
      refine OK_if (fun c3 => ?_) (fun c3 => ?_)
      · skip
        try simp (disch := omega) only [jst_eq, jst_ne, jst_ni, jI_i, jcmp_lt, jcmp_gt, w32_id, jcpy_out, Sum.elim_inl, Sum.elim_inr, jt2, jt3, jt4, jt5, jt6, jt7, jt8] at c3
        refine OK_mono (vX14_clear_j46 _) (fun r r2 => ?_)
        obtain ⟨y1, y2⟩ := r
        try dsimp only [Sum.elim_inl, Sum.elim_inr, jt2, jt3, jt4, jt5, jt6, jt7, jt8] at r2
        have vv2 := r2
        clear r2
        try simp (disch := omega) only [jst_eq, jst_ne, jst_ni, jI_i, jcmp_lt, jcmp_gt, w32_id, jcpy_out, Sum.elim_inl, Sum.elim_inr, jt2, jt3, jt4, jt5, jt6, jt7, jt8] at vv2
        try dsimp only [Sum.elim_inl, Sum.elim_inr, jt2, jt3, jt4, jt5, jt6, jt7, jt8]
        try dsimp only [Sum.elim_inl, Sum.elim_inr, jt2, jt3, jt4, jt5, jt6, jt7, jt8]
        refine ⟨?_, ?_⟩
        · (right; refine ⟨by omega, by rw [vv2.2, jst_ni (by decide), dh1, jst_eq], Or.inl ⟨by omega, by rw [vv2.1]; omega, by rw [vv2.2, jst_eq], by rw [vv2.2, jst_ni (by decide)]; exact F3 _ _ (by omega), by rw [vv2.2, jst_ni (by decide)]; exact F3 _ _ (by omega)⟩⟩) -- o2 e1.1
        · exact fun a s y1 y2 => by rw [vv2.2, jst_o (by omega)]; exact F3 a s (by omega) -- o3 e1.2
      · skip
        try simp (disch := omega) only [jst_eq, jst_ne, jst_ni, jI_i, jcmp_lt, jcmp_gt, w32_id, jcpy_out, Sum.elim_inl, Sum.elim_inr, jt2, jt3, jt4, jt5, jt6, jt7, jt8] at c3
        exfalso
        omega
    · skip
      try simp (disch := omega) only [jst_eq, jst_ne, jst_ni, jI_i, jcmp_lt, jcmp_gt, w32_id, jcpy_out, Sum.elim_inl, Sum.elim_inr, jt2, jt3, jt4, jt5, jt6, jt7, jt8] at c2
      refine OK_jb (vX14_hasRoom _ (by (rw [F3 _ _ (by omega)]; omega)) (by (rw [F3 _ _ (by omega)]; omega)) (by omega)) (fun v8 r3 => ?_)
      try dsimp only [Sum.elim_inl, Sum.elim_inr, jt2, jt3, jt4, jt5, jt6, jt7, jt8] at r3
      have hr3 := r3
      clear r3
      try simp (disch := omega) only [jst_eq, jst_ne, jst_ni, jI_i, jcmp_lt, jcmp_gt, w32_id, jcpy_out, Sum.elim_inl, Sum.elim_inr, jt2, jt3, jt4, jt5, jt6, jt7, jt8] at hr3
      rw [F3 454 160 (by omega), F3 454 156 (by omega)] at hr3
      refine OK_if (fun c4 => ?_) (fun c4 => ?_)
      · skip
        try simp (disch := omega) only [jst_eq, jst_ne, jst_ni, jI_i, jcmp_lt, jcmp_gt, w32_id, jcpy_out, Sum.elim_inl, Sum.elim_inr, jt2, jt3, jt4, jt5, jt6, jt7, jt8] at c4
        refine OK_some ?_
        try dsimp only [Sum.elim_inl, Sum.elim_inr, jt2, jt3, jt4, jt5, jt6, jt7, jt8]
        try dsimp only [Sum.elim_inl, Sum.elim_inr, jt2, jt3, jt4, jt5, jt6, jt7, jt8]
        refine ⟨?_, ?_⟩
        · (right; refine ⟨by omega, by rw [dh1, jst_eq], Or.inr (Or.inl ⟨by omega, by unfold rmM; omega, rfl, by rw [F3 _ _ (by omega)]; exact he.1, F3 _ _ (by omega), F3 _ _ (by omega)⟩)⟩) -- o7 e2.1
        · exact fun a s y1 y2 => F3 a s (by omega) -- o8 e2.2
      · skip
        try simp (disch := omega) only [jst_eq, jst_ne, jst_ni, jI_i, jcmp_lt, jcmp_gt, w32_id, jcpy_out, Sum.elim_inl, Sum.elim_inr, jt2, jt3, jt4, jt5, jt6, jt7, jt8] at c4
        unfold gX14_clear_j30
        refine OK_if (fun c5 => ?_) (fun c5 => ?_)
        · skip
          try simp (disch := omega) only [jst_eq, jst_ne, jst_ni, jI_i, jcmp_lt, jcmp_gt, w32_id, jcpy_out, Sum.elim_inl, Sum.elim_inr, jt2, jt3, jt4, jt5, jt6, jt7, jt8] at c5
          exfalso
          omega
        · skip
          try simp (disch := omega) only [jst_eq, jst_ne, jst_ni, jI_i, jcmp_lt, jcmp_gt, w32_id, jcpy_out, Sum.elim_inl, Sum.elim_inr, jt2, jt3, jt4, jt5, jt6, jt7, jt8] at c5
          refine OK_jb (vX14_record _ _ _ _ (by (rw [F3 _ _ (by omega), F3 _ _ (by omega)]; omega)) (by omega) (by (rw [F3 _ _ (by omega)]; omega)) (by (rw [F3 _ _ (by omega)]; omega))) (fun h12 r4 => ?_)
          try dsimp only [Sum.elim_inl, Sum.elim_inr, jt2, jt3, jt4, jt5, jt6, jt7, jt8] at r4
          obtain ⟨z4, n4, b04, b14, b24, b34, fr4⟩ := r4
          try simp (disch := omega) only [jst_eq, jst_ne, jst_ni, jI_i, jcmp_lt, jcmp_gt, w32_id, jcpy_out, Sum.elim_inl, Sum.elim_inr, jt2, jt3, jt4, jt5, jt6, jt7, jt8] at z4
          try simp (disch := omega) only [jst_eq, jst_ne, jst_ni, jI_i, jcmp_lt, jcmp_gt, w32_id, jcpy_out, Sum.elim_inl, Sum.elim_inr, jt2, jt3, jt4, jt5, jt6, jt7, jt8] at n4
          try simp (disch := omega) only [jst_eq, jst_ne, jst_ni, jI_i, jcmp_lt, jcmp_gt, w32_id, jcpy_out, Sum.elim_inl, Sum.elim_inr, jt2, jt3, jt4, jt5, jt6, jt7, jt8] at b04
          try simp (disch := omega) only [jst_eq, jst_ne, jst_ni, jI_i, jcmp_lt, jcmp_gt, w32_id, jcpy_out, Sum.elim_inl, Sum.elim_inr, jt2, jt3, jt4, jt5, jt6, jt7, jt8] at b14
          try simp (disch := omega) only [jst_eq, jst_ne, jst_ni, jI_i, jcmp_lt, jcmp_gt, w32_id, jcpy_out, Sum.elim_inl, Sum.elim_inr, jt2, jt3, jt4, jt5, jt6, jt7, jt8] at b24
          try simp (disch := omega) only [jst_eq, jst_ne, jst_ni, jI_i, jcmp_lt, jcmp_gt, w32_id, jcpy_out, Sum.elim_inl, Sum.elim_inr, jt2, jt3, jt4, jt5, jt6, jt7, jt8] at b34
          try simp (disch := omega) only [jst_eq, jst_ne, jst_ni, jI_i, jcmp_lt, jcmp_gt, w32_id, jcpy_out, Sum.elim_inl, Sum.elim_inr, jt2, jt3, jt4, jt5, jt6, jt7, jt8] at fr4
          refine OK_mono (vX14_clear_j46 _) (fun r r5 => ?_)
          obtain ⟨y3, y4⟩ := r
          try dsimp only [Sum.elim_inl, Sum.elim_inr, jt2, jt3, jt4, jt5, jt6, jt7, jt8] at r5
          have vv5 := r5
          clear r5
          try simp (disch := omega) only [jst_eq, jst_ne, jst_ni, jI_i, jcmp_lt, jcmp_gt, w32_id, jcpy_out, Sum.elim_inl, Sum.elim_inr, jt2, jt3, jt4, jt5, jt6, jt7, jt8] at vv5
          try dsimp only [Sum.elim_inl, Sum.elim_inr, jt2, jt3, jt4, jt5, jt6, jt7, jt8]
          try dsimp only [Sum.elim_inl, Sum.elim_inr, jt2, jt3, jt4, jt5, jt6, jt7, jt8]
          refine ⟨?_, ?_⟩
          · (have S6 : h3 454 154 = h 454 154 := F3 _ _ (by omega); have S5 : h3 454 156 = h 454 156 := F3 _ _ (by omega); have J : ∀ a s, ¬ (a = 454 ∧ s = 109) → jst h12 454 109 0 a s = h12 a s := (fun a s y => jst_o y); right; rw [vv5.2]; refine ⟨by omega, by rw [J _ _ (by omega), fr4 _ _ (by omega) (by omega), dh1, jst_eq], Or.inr (Or.inr ⟨by omega, by unfold rmM; omega, by rw [vv5.1]; omega, jst_eq, ?_⟩)⟩; refine ⟨by rw [J _ _ (by omega)]; omega, by rw [J _ _ (by omega)]; omega, ⟨?_, ?_, ?_⟩, fun k k0 k1 => by omega⟩; { rw [J _ _ (by omega), ← S5]; omega }; { rw [J _ _ (by omega), ← S5]; omega }; { rw [J _ _ (by omega), ← S5]; omega }) -- o13 e3.1
          · (have S5 : h3 454 156 = h 454 156 := F3 _ _ (by omega); exact fun a s y1 y2 => by rw [vv5.2, jst_o (by omega), fr4 a s (by omega) (by omega)]; exact F3 a s (by omega)) -- o14 e3.2
  · skip
    try simp (disch := omega) only [jst_eq, jst_ne, jst_ni, jI_i, jcmp_lt, jcmp_gt, w32_id, jcpy_out, Sum.elim_inl, Sum.elim_inr, jt2, jt3, jt4, jt5, jt6, jt7, jt8] at c1
    refine OK_some ?_
    try dsimp only [Sum.elim_inl, Sum.elim_inr, jt2, jt3, jt4, jt5, jt6, jt7, jt8]
    try dsimp only [Sum.elim_inl, Sum.elim_inr, jt2, jt3, jt4, jt5, jt6, jt7, jt8]
    refine ⟨?_, ?_⟩
    · exact Or.inl ⟨by omega, rfl, dh1⟩ -- o15 e4.1
    · exact fun a s y1 y2 => F3 a s (by omega) -- o16 e4.2

