/-! m's shortest row -/
theorem nib_eq {x y : Int} (hx : jr64 x) (hy : jr64 y) : (∀ j, j < 16 → nb (uL x) j = nb (uL y) j) ↔ x = y := ⟨fun h => nbL_ext hx hy h, fun e => by rw [e]; exact fun _ _ => rfl⟩
theorem vX14_leads_l6 (i1 : Int) (i2 : Int) (i3 : Int) (a50 : Int) (a60 : Int) {h : AH} {p1 p2 p3 p4 p8 : Int} {c : Nat} (hk : TK h p1 p2 p3 p4 p8) (hi : 0 ≤ i1 ∧ i1 < 111152 ∧ i2 = c ∧ c < 18) (hr : jr64 (h p1 i1) ∧ jr64 (h p2 i1)) (hg : jr64 i3) (h0 : a50 = 1 ∧ a60 = 0) : OK (gX14_leads_l6 i1 i2 i3 a50 a60 h) (fun y => (y = 1 ∧ AL c (h p1 i1) (h p2 i1) = i3) ∨ (y = 0 ∧ AL c (h p1 i1) (h p2 i1) ≠ i3)) := by
  obtain ⟨⟨k1, k2, k3, k4, k8⟩, ⟨s1, s2, s3, s4, s8⟩, z1, z2, z3, z4, z8⟩ := hk
  unfold gX14_leads_l6
  refine OK_jit (I := (fun (s : Int × Int) => jt2 s fun a5 a6 => (0 ≤ a6 ∧ a6 ≤ 16) ∧ ((a5 = 1 ∧ ∀ j, j < a6.toNat → nb (uL (AL c (h p1 i1) (h p2 i1))) j = nb (uL i3) j) ∨ (a5 = 0 ∧ AL c (h p1 i1) (h p2 i1) ≠ i3)))) (m := (fun (s : Int × Int) => jt2 s fun a5 a6 => (16 - a6).toNat)) ?_ ?_
  · intro s hs
    obtain ⟨a5, a6⟩ := s
    dsimp only [Sum.elim_inl, Sum.elim_inr, jt2, jt3, jt4, jt5, jt6, jt7, jt8] at hs
    obtain ⟨q0, q1⟩ := hs
    unfold gX14_leads_b6
    refine OK_jt2 ?_
    rw [k1, k2]
    refine OK_if (fun c1 => ?_) (fun c1 => ?_)
    · skip
      try simp (disch := omega) only [jst_eq, jst_ne, jst_ni, jI_i, jcmp_lt, jcmp_gt, w32_id, jcpy_out, Sum.elim_inl, Sum.elim_inr, jt2, jt3, jt4, jt5, jt6, jt7, jt8] at c1
      refine OK_ir ?_
      (rcases q1 with q | q; { exact Or.inl ⟨q.1, nbL_ext (AL_r hr.1 hr.2) hg (fun j l => q.2 j (by omega))⟩ }; { exact Or.inr q }) -- o1 e1
    · skip
      try simp (disch := omega) only [jst_eq, jst_ne, jst_ni, jI_i, jcmp_lt, jcmp_gt, w32_id, jcpy_out, Sum.elim_inl, Sum.elim_inr, jt2, jt3, jt4, jt5, jt6, jt7, jt8] at c1
      refine OK_if (fun c2 => ?_) (fun c2 => ?_)
      · skip
        try simp (disch := omega) only [jst_eq, jst_ne, jst_ni, jI_i, jcmp_lt, jcmp_gt, w32_id, jcpy_out, Sum.elim_inl, Sum.elim_inr, jt2, jt3, jt4, jt5, jt6, jt7, jt8] at c2
        refine OK_ir ?_
        (rcases q1 with q | q; { exfalso; omega }; { exact Or.inr q }) -- o2 e2
      · skip
        try simp (disch := omega) only [jst_eq, jst_ne, jst_ni, jI_i, jcmp_lt, jcmp_gt, w32_id, jcpy_out, Sum.elim_inl, Sum.elim_inr, jt2, jt3, jt4, jt5, jt6, jt7, jt8] at c2
        refine OK_jg (by (first | assumption | omega | ((try dsimp only [jt2, jt3, jt4]); first | omega | (simp (disch := omega) only [jst_eq, jst_ne, jst_ni, jst_o, jI_i, jcpy_out, w32_id, jdiv_nn, jshr_k, jand_255] <;> first | done | omega | assumption)) | (intros; simp (disch := omega) only [jst_eq, jst_ne, jst_ni, jst_o, jI_i, jcpy_out, w32_id, jdiv_nn, *] <;> first | done | omega) | (intros; simp (disch := omega) only [jst_eq, jst_ne, jst_ni, jst_o, jI_i, jcpy_out, w32_id, jdiv_nn] at * <;> first | done | omega | assumption) | (intros; first | rfl | (exfalso; omega) | ((repeat' apply And.intro) <;> first | assumption | rfl | omega | trivial)))) ?_ -- o3
        refine OK_jb (vX14_nibble _ _ (by exact hr.1) (by (first | assumption | omega | ((try dsimp only [jt2, jt3, jt4]); first | omega | (simp (disch := omega) only [jst_eq, jst_ne, jst_ni, jst_o, jI_i, jcpy_out, w32_id, jdiv_nn, jshr_k, jand_255] <;> first | done | omega | assumption)) | (intros; simp (disch := omega) only [jst_eq, jst_ne, jst_ni, jst_o, jI_i, jcpy_out, w32_id, jdiv_nn, *] <;> first | done | omega) | (intros; simp (disch := omega) only [jst_eq, jst_ne, jst_ni, jst_o, jI_i, jcpy_out, w32_id, jdiv_nn] at * <;> first | done | omega | assumption) | (intros; first | rfl | (exfalso; omega) | ((repeat' apply And.intro) <;> first | assumption | rfl | omega | trivial))))) (fun v6 r1 => ?_)
        try dsimp only [Sum.elim_inl, Sum.elim_inr, jt2, jt3, jt4, jt5, jt6, jt7, jt8] at r1
        have v1 := r1
        clear r1
        try simp (disch := omega) only [jst_eq, jst_ne, jst_ni, jI_i, jcmp_lt, jcmp_gt, w32_id, jcpy_out, Sum.elim_inl, Sum.elim_inr, jt2, jt3, jt4, jt5, jt6, jt7, jt8] at v1
        refine OK_jg (by (first | assumption | omega | ((try dsimp only [jt2, jt3, jt4]); first | omega | (simp (disch := omega) only [jst_eq, jst_ne, jst_ni, jst_o, jI_i, jcpy_out, w32_id, jdiv_nn, jshr_k, jand_255] <;> first | done | omega | assumption)) | (intros; simp (disch := omega) only [jst_eq, jst_ne, jst_ni, jst_o, jI_i, jcpy_out, w32_id, jdiv_nn, *] <;> first | done | omega) | (intros; simp (disch := omega) only [jst_eq, jst_ne, jst_ni, jst_o, jI_i, jcpy_out, w32_id, jdiv_nn] at * <;> first | done | omega | assumption) | (intros; first | rfl | (exfalso; omega) | ((repeat' apply And.intro) <;> first | assumption | rfl | omega | trivial)))) ?_ -- o6
        refine OK_jb (vX14_nibble _ _ (by exact hr.2) (by (first | assumption | omega | ((try dsimp only [jt2, jt3, jt4]); first | omega | (simp (disch := omega) only [jst_eq, jst_ne, jst_ni, jst_o, jI_i, jcpy_out, w32_id, jdiv_nn, jshr_k, jand_255] <;> first | done | omega | assumption)) | (intros; simp (disch := omega) only [jst_eq, jst_ne, jst_ni, jst_o, jI_i, jcpy_out, w32_id, jdiv_nn, *] <;> first | done | omega) | (intros; simp (disch := omega) only [jst_eq, jst_ne, jst_ni, jst_o, jI_i, jcpy_out, w32_id, jdiv_nn] at * <;> first | done | omega | assumption) | (intros; first | rfl | (exfalso; omega) | ((repeat' apply And.intro) <;> first | assumption | rfl | omega | trivial))))) (fun v8 r2 => ?_)
        try dsimp only [Sum.elim_inl, Sum.elim_inr, jt2, jt3, jt4, jt5, jt6, jt7, jt8] at r2
        have v2 := r2
        clear r2
        try simp (disch := omega) only [jst_eq, jst_ne, jst_ni, jI_i, jcmp_lt, jcmp_gt, w32_id, jcpy_out, Sum.elim_inl, Sum.elim_inr, jt2, jt3, jt4, jt5, jt6, jt7, jt8] at v2
        refine OK_jb (vX14_stepA (c := c) (p := nb (uL (h p1 i1)) a6.toNat) (q := nb (uL (h p2 i1)) a6.toNat) _ _ _ (by exact ⟨⟨hi.2.2.1, hi.2.2.2⟩, ⟨v1, nb_lt _ _⟩, v2, nb_lt _ _⟩)) (fun v10 r3 => ?_)
        try dsimp only [Sum.elim_inl, Sum.elim_inr, jt2, jt3, jt4, jt5, jt6, jt7, jt8] at r3
        have v3 := r3
        clear r3
        try simp (disch := omega) only [jst_eq, jst_ne, jst_ni, jI_i, jcmp_lt, jcmp_gt, w32_id, jcpy_out, Sum.elim_inl, Sum.elim_inr, jt2, jt3, jt4, jt5, jt6, jt7, jt8] at v3
        refine OK_jb (vX14_nibble _ _ (by exact hg) (by (first | assumption | omega | ((try dsimp only [jt2, jt3, jt4]); first | omega | (simp (disch := omega) only [jst_eq, jst_ne, jst_ni, jst_o, jI_i, jcpy_out, w32_id, jdiv_nn, jshr_k, jand_255] <;> first | done | omega | assumption)) | (intros; simp (disch := omega) only [jst_eq, jst_ne, jst_ni, jst_o, jI_i, jcpy_out, w32_id, jdiv_nn, *] <;> first | done | omega) | (intros; simp (disch := omega) only [jst_eq, jst_ne, jst_ni, jst_o, jI_i, jcpy_out, w32_id, jdiv_nn] at * <;> first | done | omega | assumption) | (intros; first | rfl | (exfalso; omega) | ((repeat' apply And.intro) <;> first | assumption | rfl | omega | trivial))))) (fun v12 r4 => ?_)
        try dsimp only [Sum.elim_inl, Sum.elim_inr, jt2, jt3, jt4, jt5, jt6, jt7, jt8] at r4
        have v4 := r4
        clear r4
        try simp (disch := omega) only [jst_eq, jst_ne, jst_ni, jI_i, jcmp_lt, jcmp_gt, w32_id, jcpy_out, Sum.elim_inl, Sum.elim_inr, jt2, jt3, jt4, jt5, jt6, jt7, jt8] at v4
        refine OK_if (fun c3 => ?_) (fun c3 => ?_)
        · skip
          try simp (disch := omega) only [jst_eq, jst_ne, jst_ni, jI_i, jcmp_lt, jcmp_gt, w32_id, jcpy_out, Sum.elim_inl, Sum.elim_inr, jt2, jt3, jt4, jt5, jt6, jt7, jt8] at c3
          unfold gX14_leads_j58_6
          refine OK_jlx (fun x14 ex14 => ?_)
          try simp (disch := omega) only [jst_eq, jst_ne, jst_ni, jI_i, jcmp_lt, jcmp_gt, w32_id, jcpy_out, Sum.elim_inl, Sum.elim_inr, jt2, jt3, jt4, jt5, jt6, jt7, jt8] at ex14
          refine OK_il ?_ ?_
          · try dsimp only [Sum.elim_inl, Sum.elim_inr, jt2, jt3, jt4, jt5, jt6, jt7, jt8]
            refine ⟨?_, ?_⟩
            · (first | assumption | omega | ((try dsimp only [jt2, jt3, jt4]); first | omega | (simp (disch := omega) only [jst_eq, jst_ne, jst_ni, jst_o, jI_i, jcpy_out, w32_id, jdiv_nn, jshr_k, jand_255] <;> first | done | omega | assumption)) | (intros; simp (disch := omega) only [jst_eq, jst_ne, jst_ni, jst_o, jI_i, jcpy_out, w32_id, jdiv_nn, *] <;> first | done | omega) | (intros; simp (disch := omega) only [jst_eq, jst_ne, jst_ni, jst_o, jI_i, jcpy_out, w32_id, jdiv_nn] at * <;> first | done | omega | assumption) | (intros; first | rfl | (exfalso; omega) | ((repeat' apply And.intro) <;> first | assumption | rfl | omega | trivial))) -- o12 e3i.1
            · (rcases q1 with q | q; { refine Or.inl ⟨rfl, fun j l => ?_⟩; by_cases y : j = a6.toNat; { rw [y, AL_n hi.2.2.2 _ _ (by omega)]; rw [v3, v4] at c3; omega }; { exact q.2 j (by omega) } }; { exfalso; omega }) -- o13 e3i.2
          · (first | assumption | omega | ((try dsimp only [jt2, jt3, jt4]); first | omega | (simp (disch := omega) only [jst_eq, jst_ne, jst_ni, jst_o, jI_i, jcpy_out, w32_id, jdiv_nn, jshr_k, jand_255] <;> first | done | omega | assumption)) | (intros; simp (disch := omega) only [jst_eq, jst_ne, jst_ni, jst_o, jI_i, jcpy_out, w32_id, jdiv_nn, *] <;> first | done | omega) | (intros; simp (disch := omega) only [jst_eq, jst_ne, jst_ni, jst_o, jI_i, jcpy_out, w32_id, jdiv_nn] at * <;> first | done | omega | assumption) | (intros; first | rfl | (exfalso; omega) | ((repeat' apply And.intro) <;> first | assumption | rfl | omega | trivial))) -- o14 e3m
        · skip
          try simp (disch := omega) only [jst_eq, jst_ne, jst_ni, jI_i, jcmp_lt, jcmp_gt, w32_id, jcpy_out, Sum.elim_inl, Sum.elim_inr, jt2, jt3, jt4, jt5, jt6, jt7, jt8] at c3
          unfold gX14_leads_j58_6
          refine OK_jlx (fun x14 ex14 => ?_)
          try simp (disch := omega) only [jst_eq, jst_ne, jst_ni, jI_i, jcmp_lt, jcmp_gt, w32_id, jcpy_out, Sum.elim_inl, Sum.elim_inr, jt2, jt3, jt4, jt5, jt6, jt7, jt8] at ex14
          refine OK_il ?_ ?_
          · try dsimp only [Sum.elim_inl, Sum.elim_inr, jt2, jt3, jt4, jt5, jt6, jt7, jt8]
            refine ⟨?_, ?_⟩
            · (first | assumption | omega | ((try dsimp only [jt2, jt3, jt4]); first | omega | (simp (disch := omega) only [jst_eq, jst_ne, jst_ni, jst_o, jI_i, jcpy_out, w32_id, jdiv_nn, jshr_k, jand_255] <;> first | done | omega | assumption)) | (intros; simp (disch := omega) only [jst_eq, jst_ne, jst_ni, jst_o, jI_i, jcpy_out, w32_id, jdiv_nn, *] <;> first | done | omega) | (intros; simp (disch := omega) only [jst_eq, jst_ne, jst_ni, jst_o, jI_i, jcpy_out, w32_id, jdiv_nn] at * <;> first | done | omega | assumption) | (intros; first | rfl | (exfalso; omega) | ((repeat' apply And.intro) <;> first | assumption | rfl | omega | trivial))) -- o15 e4i.1
            · (refine Or.inr ⟨rfl, fun w => c3 ?_⟩; rw [v3, v4, ← w, AL_n hi.2.2.2 _ _ (by omega)]) -- o16 e4i.2
          · (first | assumption | omega | ((try dsimp only [jt2, jt3, jt4]); first | omega | (simp (disch := omega) only [jst_eq, jst_ne, jst_ni, jst_o, jI_i, jcpy_out, w32_id, jdiv_nn, jshr_k, jand_255] <;> first | done | omega | assumption)) | (intros; simp (disch := omega) only [jst_eq, jst_ne, jst_ni, jst_o, jI_i, jcpy_out, w32_id, jdiv_nn, *] <;> first | done | omega) | (intros; simp (disch := omega) only [jst_eq, jst_ne, jst_ni, jst_o, jI_i, jcpy_out, w32_id, jdiv_nn] at * <;> first | done | omega | assumption) | (intros; first | rfl | (exfalso; omega) | ((repeat' apply And.intro) <;> first | assumption | rfl | omega | trivial))) -- o17 e4m
  · try dsimp only [Sum.elim_inl, Sum.elim_inr, jt2, jt3, jt4, jt5, jt6, jt7, jt8]
    refine ⟨?_, ?_⟩
    · (first | assumption | omega | ((try dsimp only [jt2, jt3, jt4]); first | omega | (simp (disch := omega) only [jst_eq, jst_ne, jst_ni, jst_o, jI_i, jcpy_out, w32_id, jdiv_nn, jshr_k, jand_255] <;> first | done | omega | assumption)) | (intros; simp (disch := omega) only [jst_eq, jst_ne, jst_ni, jst_o, jI_i, jcpy_out, w32_id, jdiv_nn, *] <;> first | done | omega) | (intros; simp (disch := omega) only [jst_eq, jst_ne, jst_ni, jst_o, jI_i, jcpy_out, w32_id, jdiv_nn] at * <;> first | done | omega | assumption) | (intros; first | rfl | (exfalso; omega) | ((repeat' apply And.intro) <;> first | assumption | rfl | omega | trivial))) -- o18 init.1
    · (rw [h0.1, h0.2]; exact Or.inl ⟨rfl, fun j l => by omega⟩) -- o19 init.2
theorem vX14_leads (a1 : Int) (a2 : Int) (a3 : Int) {h : AH} {p1 p2 p3 p4 p8 : Int} {c : Nat} (hk : TK h p1 p2 p3 p4 p8) (hi : 0 ≤ a1 ∧ a1 < 111152 ∧ a2 = c ∧ c < 18) (hr : jr64 (h p1 a1) ∧ jr64 (h p2 a1)) (hg : jr64 a3) : OK (gX14_leads a1 a2 a3 h) (fun y => (y = 1 ∧ AL c (h p1 a1) (h p2 a1) = a3) ∨ (y = 0 ∧ AL c (h p1 a1) (h p2 a1) ≠ a3)) := by
  unfold gX14_leads
  refine OK_jb (vX14_leads_l6 (p1 := p1) (p2 := p2) (p3 := p3) (p4 := p4) (p8 := p8) (c := c) _ _ _ _ _ (by (first | assumption | omega | ((try dsimp only [jt2, jt3, jt4]); first | omega | (simp (disch := omega) only [jst_eq, jst_ne, jst_ni, jst_o, jI_i, jcpy_out, w32_id, jdiv_nn, jshr_k, jand_255] <;> first | done | omega | assumption)) | (intros; simp (disch := omega) only [jst_eq, jst_ne, jst_ni, jst_o, jI_i, jcpy_out, w32_id, jdiv_nn, *] <;> first | done | omega) | (intros; simp (disch := omega) only [jst_eq, jst_ne, jst_ni, jst_o, jI_i, jcpy_out, w32_id, jdiv_nn] at * <;> first | done | omega | assumption) | (intros; first | rfl | (exfalso; omega) | ((repeat' apply And.intro) <;> first | assumption | rfl | omega | trivial)))) (by (first | assumption | omega | ((try dsimp only [jt2, jt3, jt4]); first | omega | (simp (disch := omega) only [jst_eq, jst_ne, jst_ni, jst_o, jI_i, jcpy_out, w32_id, jdiv_nn, jshr_k, jand_255] <;> first | done | omega | assumption)) | (intros; simp (disch := omega) only [jst_eq, jst_ne, jst_ni, jst_o, jI_i, jcpy_out, w32_id, jdiv_nn, *] <;> first | done | omega) | (intros; simp (disch := omega) only [jst_eq, jst_ne, jst_ni, jst_o, jI_i, jcpy_out, w32_id, jdiv_nn] at * <;> first | done | omega | assumption) | (intros; first | rfl | (exfalso; omega) | ((repeat' apply And.intro) <;> first | assumption | rfl | omega | trivial)))) (by (first | assumption | omega | ((try dsimp only [jt2, jt3, jt4]); first | omega | (simp (disch := omega) only [jst_eq, jst_ne, jst_ni, jst_o, jI_i, jcpy_out, w32_id, jdiv_nn, jshr_k, jand_255] <;> first | done | omega | assumption)) | (intros; simp (disch := omega) only [jst_eq, jst_ne, jst_ni, jst_o, jI_i, jcpy_out, w32_id, jdiv_nn, *] <;> first | done | omega) | (intros; simp (disch := omega) only [jst_eq, jst_ne, jst_ni, jst_o, jI_i, jcpy_out, w32_id, jdiv_nn] at * <;> first | done | omega | assumption) | (intros; first | rfl | (exfalso; omega) | ((repeat' apply And.intro) <;> first | assumption | rfl | omega | trivial)))) (by (first | assumption | omega | ((try dsimp only [jt2, jt3, jt4]); first | omega | (simp (disch := omega) only [jst_eq, jst_ne, jst_ni, jst_o, jI_i, jcpy_out, w32_id, jdiv_nn, jshr_k, jand_255] <;> first | done | omega | assumption)) | (intros; simp (disch := omega) only [jst_eq, jst_ne, jst_ni, jst_o, jI_i, jcpy_out, w32_id, jdiv_nn, *] <;> first | done | omega) | (intros; simp (disch := omega) only [jst_eq, jst_ne, jst_ni, jst_o, jI_i, jcpy_out, w32_id, jdiv_nn] at * <;> first | done | omega | assumption) | (intros; first | rfl | (exfalso; omega) | ((repeat' apply And.intro) <;> first | assumption | rfl | omega | trivial)))) (by exact ⟨rfl, rfl⟩)) (fun o1 r1 => ?_)
  try dsimp only [Sum.elim_inl, Sum.elim_inr, jt2, jt3, jt4, jt5, jt6, jt7, jt8] at r1
  have v1 := r1
  clear r1
  try simp (disch := omega) only [jst_eq, jst_ne, jst_ni, jI_i, jcmp_lt, jcmp_gt, w32_id, jcpy_out, Sum.elim_inl, Sum.elim_inr, jt2, jt3, jt4, jt5, jt6, jt7, jt8] at v1
  refine OK_jg (by (unfold jZ; omega)) ?_ -- o6
  refine OK_some ?_
  try dsimp only [Sum.elim_inl, Sum.elim_inr, jt2, jt3, jt4, jt5, jt6, jt7, jt8]
  (first | assumption | omega | ((try dsimp only [jt2, jt3, jt4]); first | omega | (simp (disch := omega) only [jst_eq, jst_ne, jst_ni, jst_o, jI_i, jcpy_out, w32_id, jdiv_nn, jshr_k, jand_255] <;> first | done | omega | assumption)) | (intros; simp (disch := omega) only [jst_eq, jst_ne, jst_ni, jst_o, jI_i, jcpy_out, w32_id, jdiv_nn, *] <;> first | done | omega) | (intros; simp (disch := omega) only [jst_eq, jst_ne, jst_ni, jst_o, jI_i, jcpy_out, w32_id, jdiv_nn] at * <;> first | done | omega | assumption) | (intros; first | rfl | (exfalso; omega) | ((repeat' apply And.intro) <;> first | assumption | rfl | omega | trivial))) -- o7 e1
theorem vX14_lastOf_l12 (i1 : Int) (a30 : Int) {h : AH} {r1 r2 r3 M D : Int} (hk : TL h r1 r2 r3) (hp : PL h r1 r3 M) (hM : M ≤ 262144) (h7 : a30 = sumH i1 0 19) (hD : 0 ≤ D ∧ D < 524288 ∧ h r3 (slP 524288 (sumH i1 0 19) D) = 0) : OK (gX14_lastOf_l12 i1 a30 h) (Sum.elim (fun o => (0 ≤ o ∧ o < 524288) ∧ (1 ≤ h r3 o ∧ h r3 o ≤ M) ∧ h r1 (h r3 o - 1) = i1) (fun _ => ∀ k, 0 ≤ k → k < M → ¬ (h r1 k = i1))) := by
  have hb := sumH19 i1 0
  obtain ⟨⟨k1, k2, k3⟩, ⟨s1, s2, s3⟩, z1, z2, z3⟩ := hk
  unfold gX14_lastOf_l12
  refine OK_jit (I := (fun (a3 : Int) => (0 ≤ a3 ∧ a3 < 524288 ∧ (a3 - sumH i1 0 19) % 524288 ≤ D) ∧ (∀ e, 0 ≤ e → e < (a3 - sumH i1 0 19) % 524288 → h r3 (slP 524288 (sumH i1 0 19) e) ≠ 0 ∧ ¬ (h r1 (h r3 (slP 524288 (sumH i1 0 19) e) - 1) = i1)))) (m := (fun (a3 : Int) => (D - (a3 - sumH i1 0 19) % 524288).toNat)) ?_ ?_
  · intro a3 hs
    try dsimp only at hs
    obtain ⟨q0, q1⟩ := hs
    unfold gX14_lastOf_b12
    rw [k1, k3]
    have tb := hp.2.2.1 a3 q0.1 q0.2.1
    have sl : slP 524288 (sumH i1 0 19) ((a3 - sumH i1 0 19) % 524288) = a3 := slP_i (by omega) q0.1 q0.2.1
    have nx : jand (a3 + 1) 524287 = (a3 + 1) % 524288 := by rw [jand_524287]
    have nD : h r3 a3 ≠ 0 → (a3 - sumH i1 0 19) % 524288 ≠ D := fun z w => by rw [w] at sl; rw [sl] at hD; exact z hD.2.2
    have w14 : w32 (h r3 a3 - 1) = h r3 a3 - 1 := w32_id (by omega) (by omega)
    have st : h r3 a3 ≠ 0 → ¬ (h r1 (h r3 a3 - 1) = i1) → ∀ e, 0 ≤ e → e < (jand (a3 + 1) 524287 - sumH i1 0 19) % 524288 → h r3 (slP 524288 (sumH i1 0 19) e) ≠ 0 ∧ ¬ (h r1 (h r3 (slP 524288 (sumH i1 0 19) e) - 1) = i1) := fun y1 y2 e e0 e1 => by have := nD y1; rw [nx] at e1; by_cases w : e = (a3 - sumH i1 0 19) % 524288; { rw [w, sl]; exact ⟨y1, y2⟩ }; { exact q1 e e0 (by omega) }
    rw [w14]
    refine OK_jg (by (first | assumption | omega | ((try dsimp only [jt2, jt3, jt4]); first | omega | (simp (disch := omega) only [jst_eq, jst_ne, jst_ni, jst_o, jI_i, jcpy_out, w32_id, jdiv_nn, jshr_k, jand_255] <;> first | done | omega | assumption)) | (intros; simp (disch := omega) only [jst_eq, jst_ne, jst_ni, jst_o, jI_i, jcpy_out, w32_id, jdiv_nn, *] <;> first | done | omega) | (intros; simp (disch := omega) only [jst_eq, jst_ne, jst_ni, jst_o, jI_i, jcpy_out, w32_id, jdiv_nn] at * <;> first | done | omega | assumption) | (intros; first | rfl | (exfalso; omega) | ((repeat' apply And.intro) <;> first | assumption | rfl | omega | trivial)))) ?_ -- o1
    refine OK_if (fun c1 => ?_) (fun c1 => ?_)
    · skip
      try simp (disch := omega) only [jst_eq, jst_ne, jst_ni, jI_i, jcmp_lt, jcmp_gt, w32_id, jcpy_out, Sum.elim_inl, Sum.elim_inr, jt2, jt3, jt4, jt5, jt6, jt7, jt8] at c1
      refine OK_ir ?_
      (rintro k k0 k1 w1; obtain ⟨e, e0, e1, e2⟩ := prT_m hp (x := sumH i1 0 19) (D := (a3 - sumH i1 0 19) % 524288) (by omega) (by rw [sl]; omega) k0 k1 (by show sumH (h r1 k) 0 19 = _; rw [w1]); refine (q1 e e0 e1).2 ?_; rw [e2, show k + 1 - 1 = k by omega]; exact w1) -- o2 e1
    · skip
      try simp (disch := omega) only [jst_eq, jst_ne, jst_ni, jI_i, jcmp_lt, jcmp_gt, w32_id, jcpy_out, Sum.elim_inl, Sum.elim_inr, jt2, jt3, jt4, jt5, jt6, jt7, jt8] at c1
      refine OK_jg (by (first | assumption | omega | ((try dsimp only [jt2, jt3, jt4]); first | omega | (simp (disch := omega) only [jst_eq, jst_ne, jst_ni, jst_o, jI_i, jcpy_out, w32_id, jdiv_nn, jshr_k, jand_255] <;> first | done | omega | assumption)) | (intros; simp (disch := omega) only [jst_eq, jst_ne, jst_ni, jst_o, jI_i, jcpy_out, w32_id, jdiv_nn, *] <;> first | done | omega) | (intros; simp (disch := omega) only [jst_eq, jst_ne, jst_ni, jst_o, jI_i, jcpy_out, w32_id, jdiv_nn] at * <;> first | done | omega | assumption) | (intros; first | rfl | (exfalso; omega) | ((repeat' apply And.intro) <;> first | assumption | rfl | omega | trivial)))) ?_ -- o3
      refine OK_if (fun c2 => ?_) (fun c2 => ?_)
      · skip
        try simp (disch := omega) only [jst_eq, jst_ne, jst_ni, jI_i, jcmp_lt, jcmp_gt, w32_id, jcpy_out, Sum.elim_inl, Sum.elim_inr, jt2, jt3, jt4, jt5, jt6, jt7, jt8] at c2
        refine OK_ir ?_
        exact ⟨⟨by omega, by omega⟩, ⟨by omega, by omega⟩, jcmp_eq.mp c2⟩ -- o4 e2
      · skip
        try simp (disch := omega) only [jst_eq, jst_ne, jst_ni, jI_i, jcmp_lt, jcmp_gt, w32_id, jcpy_out, Sum.elim_inl, Sum.elim_inr, jt2, jt3, jt4, jt5, jt6, jt7, jt8] at c2
        refine OK_jlx (fun x18 ex18 => ?_)
        try simp (disch := omega) only [jst_eq, jst_ne, jst_ni, jI_i, jcmp_lt, jcmp_gt, w32_id, jcpy_out, Sum.elim_inl, Sum.elim_inr, jt2, jt3, jt4, jt5, jt6, jt7, jt8] at ex18
        refine OK_il ?_ ?_
        · try dsimp only [Sum.elim_inl, Sum.elim_inr, jt2, jt3, jt4, jt5, jt6, jt7, jt8]
          refine ⟨?_, ?_⟩
          · (have := nD (by omega); rw [ex18, nx]; omega) -- o5 e3i.1
          · (rw [ex18]; exact st (by omega) (fun w => c2 (jcmp_eq.mpr w))) -- o6 e3i.2
        · (have := nD (by omega); rw [ex18, nx]; omega) -- o7 e3m
  · try dsimp only [Sum.elim_inl, Sum.elim_inr, jt2, jt3, jt4, jt5, jt6, jt7, jt8]
    refine ⟨?_, ?_⟩
    · (rw [h7]; omega) -- o8 init.1
    · (rw [h7]; intro e e0 e1; omega) -- o9 init.2
def gr4 (h : AH) (p1 p2 : Int) : Prop := ∀ k, h 871 4 ≤ k → k < h 871 5 → (jr64 (h p1 k) ∧ jr64 (h p2 k)) ∧ 0 ≤ k ∧ k < 111152
theorem vX14_lastOf_l93 (i1 : Int) (i4 : Int) (a50 : Int) {h : AH} {p1 p2 p3 p4 p8 : Int} (hk : TK h p1 p2 p3 p4 p8) (hr : (jr64 (h p1 i4) ∧ jr64 (h p2 i4)) ∧ 0 ≤ i4 ∧ i4 < 111152) (hg : jr64 i1) (h0 : a50 = 0) : OK (gX14_lastOf_l93 i1 i4 a50 h) (Sum.elim (fun o => ∃ x : Nat, x < 18 ∧ o = x ∧ AL x (h p1 i4) (h p2 i4) = i1 ∧ ∀ x' : Nat, x' < x → AL x' (h p1 i4) (h p2 i4) ≠ i1) (fun _ => ∀ x : Nat, x < 18 → AL x (h p1 i4) (h p2 i4) ≠ i1)) := by
  unfold gX14_lastOf_l93
  refine OK_jit (I := (fun (a5 : Int) => (0 ≤ a5 ∧ a5 ≤ 18) ∧ (∀ x : Nat, (x : Int) < a5 → AL x (h p1 i4) (h p2 i4) ≠ i1))) (m := (fun (a5 : Int) => (18 - a5).toNat)) ?_ ?_
  · intro a5 hs
    try dsimp only at hs
    obtain ⟨q0, q1⟩ := hs
    unfold gX14_lastOf_b93
    refine OK_if (fun c1 => ?_) (fun c1 => ?_)
    · skip
      try simp (disch := omega) only [jst_eq, jst_ne, jst_ni, jI_i, jcmp_lt, jcmp_gt, w32_id, jcpy_out, Sum.elim_inl, Sum.elim_inr, jt2, jt3, jt4, jt5, jt6, jt7, jt8] at c1
      refine OK_ir ?_
      exact fun x l => q1 x (by omega) -- o1 e1
    · skip
      try simp (disch := omega) only [jst_eq, jst_ne, jst_ni, jI_i, jcmp_lt, jcmp_gt, w32_id, jcpy_out, Sum.elim_inl, Sum.elim_inr, jt2, jt3, jt4, jt5, jt6, jt7, jt8] at c1
      refine OK_jb (vX14_leads (p1 := p1) (p2 := p2) (p3 := p3) (p4 := p4) (p8 := p8) (c := a5.toNat) _ _ _ (by exact hk) (by exact ⟨hr.2.1, hr.2.2, by omega, by omega⟩) (by exact hr.1) (by (first | assumption | omega | ((try dsimp only [jt2, jt3, jt4]); first | omega | (simp (disch := omega) only [jst_eq, jst_ne, jst_ni, jst_o, jI_i, jcpy_out, w32_id, jdiv_nn, jshr_k, jand_255] <;> first | done | omega | assumption)) | (intros; simp (disch := omega) only [jst_eq, jst_ne, jst_ni, jst_o, jI_i, jcpy_out, w32_id, jdiv_nn, *] <;> first | done | omega) | (intros; simp (disch := omega) only [jst_eq, jst_ne, jst_ni, jst_o, jI_i, jcpy_out, w32_id, jdiv_nn] at * <;> first | done | omega | assumption) | (intros; first | rfl | (exfalso; omega) | ((repeat' apply And.intro) <;> first | assumption | rfl | omega | trivial))))) (fun v28 r1 => ?_)
      try dsimp only [Sum.elim_inl, Sum.elim_inr, jt2, jt3, jt4, jt5, jt6, jt7, jt8] at r1
      have v1 := r1
      clear r1
      try simp (disch := omega) only [jst_eq, jst_ne, jst_ni, jI_i, jcmp_lt, jcmp_gt, w32_id, jcpy_out, Sum.elim_inl, Sum.elim_inr, jt2, jt3, jt4, jt5, jt6, jt7, jt8] at v1
      refine OK_if (fun c2 => ?_) (fun c2 => ?_)
      · skip
        try simp (disch := omega) only [jst_eq, jst_ne, jst_ni, jI_i, jcmp_lt, jcmp_gt, w32_id, jcpy_out, Sum.elim_inl, Sum.elim_inr, jt2, jt3, jt4, jt5, jt6, jt7, jt8] at c2
        refine OK_jlx (fun x30 ex30 => ?_)
        try simp (disch := omega) only [jst_eq, jst_ne, jst_ni, jI_i, jcmp_lt, jcmp_gt, w32_id, jcpy_out, Sum.elim_inl, Sum.elim_inr, jt2, jt3, jt4, jt5, jt6, jt7, jt8] at ex30
        refine OK_il ?_ ?_
        · try dsimp only [Sum.elim_inl, Sum.elim_inr, jt2, jt3, jt4, jt5, jt6, jt7, jt8]
          refine ⟨?_, ?_⟩
          · (first | assumption | omega | ((try dsimp only [jt2, jt3, jt4]); first | omega | (simp (disch := omega) only [jst_eq, jst_ne, jst_ni, jst_o, jI_i, jcpy_out, w32_id, jdiv_nn, jshr_k, jand_255] <;> first | done | omega | assumption)) | (intros; simp (disch := omega) only [jst_eq, jst_ne, jst_ni, jst_o, jI_i, jcpy_out, w32_id, jdiv_nn, *] <;> first | done | omega) | (intros; simp (disch := omega) only [jst_eq, jst_ne, jst_ni, jst_o, jI_i, jcpy_out, w32_id, jdiv_nn] at * <;> first | done | omega | assumption) | (intros; first | rfl | (exfalso; omega) | ((repeat' apply And.intro) <;> first | assumption | rfl | omega | trivial))) -- o6 e2i.1
          · (intro x l; by_cases y : x = a5.toNat; { rw [y]; exact (v1.resolve_left (fun z => by omega)).2 }; { exact q1 x (by omega) }) -- o7 e2i.2
        · (first | assumption | omega | ((try dsimp only [jt2, jt3, jt4]); first | omega | (simp (disch := omega) only [jst_eq, jst_ne, jst_ni, jst_o, jI_i, jcpy_out, w32_id, jdiv_nn, jshr_k, jand_255] <;> first | done | omega | assumption)) | (intros; simp (disch := omega) only [jst_eq, jst_ne, jst_ni, jst_o, jI_i, jcpy_out, w32_id, jdiv_nn, *] <;> first | done | omega) | (intros; simp (disch := omega) only [jst_eq, jst_ne, jst_ni, jst_o, jI_i, jcpy_out, w32_id, jdiv_nn] at * <;> first | done | omega | assumption) | (intros; first | rfl | (exfalso; omega) | ((repeat' apply And.intro) <;> first | assumption | rfl | omega | trivial))) -- o8 e2m
      · skip
        try simp (disch := omega) only [jst_eq, jst_ne, jst_ni, jI_i, jcmp_lt, jcmp_gt, w32_id, jcpy_out, Sum.elim_inl, Sum.elim_inr, jt2, jt3, jt4, jt5, jt6, jt7, jt8] at c2
        refine OK_ir ?_
        exact ⟨a5.toNat, by omega, by omega, (v1.resolve_right (fun z => by omega)).2, fun x' l => q1 x' (by omega)⟩ -- o9 e3
  · try dsimp only [Sum.elim_inl, Sum.elim_inr, jt2, jt3, jt4, jt5, jt6, jt7, jt8]
    refine ⟨?_, ?_⟩
    · (first | assumption | omega | ((try dsimp only [jt2, jt3, jt4]); first | omega | (simp (disch := omega) only [jst_eq, jst_ne, jst_ni, jst_o, jI_i, jcpy_out, w32_id, jdiv_nn, jshr_k, jand_255] <;> first | done | omega | assumption)) | (intros; simp (disch := omega) only [jst_eq, jst_ne, jst_ni, jst_o, jI_i, jcpy_out, w32_id, jdiv_nn, *] <;> first | done | omega) | (intros; simp (disch := omega) only [jst_eq, jst_ne, jst_ni, jst_o, jI_i, jcpy_out, w32_id, jdiv_nn] at * <;> first | done | omega | assumption) | (intros; first | rfl | (exfalso; omega) | ((repeat' apply And.intro) <;> first | assumption | rfl | omega | trivial))) -- o10 init.1
    · (intro x l; omega) -- o11 init.2
theorem vX14_lastOf_l72 (i1 : Int) (a40 : Int) {h : AH} {p1 p2 p3 p4 p8 : Int} (hk : TK h p1 p2 p3 p4 p8) (hr : gr4 h p1 p2) (hg : jr64 i1) (hf : h 454 153 = 0 ∨ ∀ (k : Int) (x : Nat), h 871 4 ≤ k → k < h 871 5 → x < 18 → AL x (h p1 k) (h p2 k) ≠ i1) (h0 : a40 = h 871 4 ∧ h 871 4 ≤ h 871 5) : OK (gX14_lastOf_l72 i1 a40 h) (Sum.elim (fun r => jt2 r fun y z => ∃ x : Nat, (h 871 4 ≤ y ∧ y < h 871 5 ∧ x < 18) ∧ z = x ∧ AL x (h p1 y) (h p2 y) = i1 ∧ ∀ (k' : Int) (x' : Nat), h 871 4 ≤ k' → x' < 18 → 18 * k' + x' < 18 * y + x → AL x' (h p1 k') (h p2 k') ≠ i1) (fun _ => ∀ (k : Int) (x : Nat), h 871 4 ≤ k → k < h 871 5 → x < 18 → AL x (h p1 k) (h p2 k) ≠ i1)) := by
  unfold gX14_lastOf_l72
  refine OK_jit (I := (fun (a4 : Int) => (h 871 4 ≤ a4 ∧ a4 ≤ h 871 5) ∧ (∀ (k : Int) (x : Nat), h 871 4 ≤ k → k < a4 → x < 18 → AL x (h p1 k) (h p2 k) ≠ i1))) (m := (fun (a4 : Int) => (h 871 5 - a4).toNat)) ?_ ?_
  · intro a4 hs
    try dsimp only at hs
    obtain ⟨q0, q1⟩ := hs
    unfold gX14_lastOf_b72
    refine OK_if (fun c1 => ?_) (fun c1 => ?_)
    · skip
      try simp (disch := omega) only [jst_eq, jst_ne, jst_ni, jI_i, jcmp_lt, jcmp_gt, w32_id, jcpy_out, Sum.elim_inl, Sum.elim_inr, jt2, jt3, jt4, jt5, jt6, jt7, jt8] at c1
      refine OK_ir ?_
      exact fun k x y1 y2 y3 => q1 k x y1 (by omega) y3 -- o1 e1
    · skip
      try simp (disch := omega) only [jst_eq, jst_ne, jst_ni, jI_i, jcmp_lt, jcmp_gt, w32_id, jcpy_out, Sum.elim_inl, Sum.elim_inr, jt2, jt3, jt4, jt5, jt6, jt7, jt8] at c1
      have R9 := (hr a4 q0.1 (by omega)).2
      refine OK_if (fun c2 => ?_) (fun c2 => ?_)
      · skip
        try simp (disch := omega) only [jst_eq, jst_ne, jst_ni, jI_i, jcmp_lt, jcmp_gt, w32_id, jcpy_out, Sum.elim_inl, Sum.elim_inr, jt2, jt3, jt4, jt5, jt6, jt7, jt8] at c2
        refine OK_jb (vX14_lastOf_l93 (p1 := p1) (p2 := p2) (p3 := p3) (p4 := p4) (p8 := p8) _ _ _ (by exact hk) (by exact hr a4 q0.1 (by omega)) (by (first | assumption | omega | ((try dsimp only [jt2, jt3, jt4]); first | omega | (simp (disch := omega) only [jst_eq, jst_ne, jst_ni, jst_o, jI_i, jcpy_out, w32_id, jdiv_nn, jshr_k, jand_255] <;> first | done | omega | assumption)) | (intros; simp (disch := omega) only [jst_eq, jst_ne, jst_ni, jst_o, jI_i, jcpy_out, w32_id, jdiv_nn, *] <;> first | done | omega) | (intros; simp (disch := omega) only [jst_eq, jst_ne, jst_ni, jst_o, jI_i, jcpy_out, w32_id, jdiv_nn] at * <;> first | done | omega | assumption) | (intros; first | rfl | (exfalso; omega) | ((repeat' apply And.intro) <;> first | assumption | rfl | omega | trivial)))) (by (first | assumption | omega | ((try dsimp only [jt2, jt3, jt4]); first | omega | (simp (disch := omega) only [jst_eq, jst_ne, jst_ni, jst_o, jI_i, jcpy_out, w32_id, jdiv_nn, jshr_k, jand_255] <;> first | done | omega | assumption)) | (intros; simp (disch := omega) only [jst_eq, jst_ne, jst_ni, jst_o, jI_i, jcpy_out, w32_id, jdiv_nn, *] <;> first | done | omega) | (intros; simp (disch := omega) only [jst_eq, jst_ne, jst_ni, jst_o, jI_i, jcpy_out, w32_id, jdiv_nn] at * <;> first | done | omega | assumption) | (intros; first | rfl | (exfalso; omega) | ((repeat' apply And.intro) <;> first | assumption | rfl | omega | trivial))))) (fun o21 r1 => ?_)
        rcases o21 with o23 | o24
        · skip
          have r2 := r1; clear r1
          dsimp only [Sum.elim_inl, Sum.elim_inr] at r2
          try dsimp only [Sum.elim_inl, Sum.elim_inr, jt2, jt3, jt4, jt5, jt6, jt7, jt8] at r2
          have ye1 := r2
          clear r2
          try simp (disch := omega) only [jst_eq, jst_ne, jst_ni, jI_i, jcmp_lt, jcmp_gt, w32_id, jcpy_out, Sum.elim_inl, Sum.elim_inr, jt2, jt3, jt4, jt5, jt6, jt7, jt8] at ye1
          refine OK_jml ?_
          refine OK_ir ?_
          (obtain ⟨x, x1, x2, x3, x4⟩ := ye1; exact ⟨x, ⟨q0.1, by omega, x1⟩, x2, x3, fun k' x' y1 y2 y3 => by by_cases w : k' = a4; { rw [w]; exact x4 x' (by omega) }; { exact q1 k' x' y1 (by omega) y2 }⟩) -- o6 e2
        · skip
          have r3 := r1; clear r1
          dsimp only [Sum.elim_inl, Sum.elim_inr] at r3
          try dsimp only [Sum.elim_inl, Sum.elim_inr, jt2, jt3, jt4, jt5, jt6, jt7, jt8] at r3
          have no2 := r3
          clear r3
          try simp (disch := omega) only [jst_eq, jst_ne, jst_ni, jI_i, jcmp_lt, jcmp_gt, w32_id, jcpy_out, Sum.elim_inl, Sum.elim_inr, jt2, jt3, jt4, jt5, jt6, jt7, jt8] at no2
          refine OK_jmr ?_
          refine OK_jlx (fun x25 ex25 => ?_)
          try simp (disch := omega) only [jst_eq, jst_ne, jst_ni, jI_i, jcmp_lt, jcmp_gt, w32_id, jcpy_out, Sum.elim_inl, Sum.elim_inr, jt2, jt3, jt4, jt5, jt6, jt7, jt8] at ex25
          refine OK_il ?_ ?_
          · try dsimp only [Sum.elim_inl, Sum.elim_inr, jt2, jt3, jt4, jt5, jt6, jt7, jt8]
            refine ⟨?_, ?_⟩
            · (first | assumption | omega | ((try dsimp only [jt2, jt3, jt4]); first | omega | (simp (disch := omega) only [jst_eq, jst_ne, jst_ni, jst_o, jI_i, jcpy_out, w32_id, jdiv_nn, jshr_k, jand_255] <;> first | done | omega | assumption)) | (intros; simp (disch := omega) only [jst_eq, jst_ne, jst_ni, jst_o, jI_i, jcpy_out, w32_id, jdiv_nn, *] <;> first | done | omega) | (intros; simp (disch := omega) only [jst_eq, jst_ne, jst_ni, jst_o, jI_i, jcpy_out, w32_id, jdiv_nn] at * <;> first | done | omega | assumption) | (intros; first | rfl | (exfalso; omega) | ((repeat' apply And.intro) <;> first | assumption | rfl | omega | trivial))) -- o7 e3i.1
            · (intro k x y1 y2 y3; by_cases w : k = a4; { rw [w]; exact no2 x y3 }; { exact q1 k x y1 (by omega) y3 }) -- o8 e3i.2
          · (first | assumption | omega | ((try dsimp only [jt2, jt3, jt4]); first | omega | (simp (disch := omega) only [jst_eq, jst_ne, jst_ni, jst_o, jI_i, jcpy_out, w32_id, jdiv_nn, jshr_k, jand_255] <;> first | done | omega | assumption)) | (intros; simp (disch := omega) only [jst_eq, jst_ne, jst_ni, jst_o, jI_i, jcpy_out, w32_id, jdiv_nn, *] <;> first | done | omega) | (intros; simp (disch := omega) only [jst_eq, jst_ne, jst_ni, jst_o, jI_i, jcpy_out, w32_id, jdiv_nn] at * <;> first | done | omega | assumption) | (intros; first | rfl | (exfalso; omega) | ((repeat' apply And.intro) <;> first | assumption | rfl | omega | trivial))) -- o9 e3m
      · skip
        try simp (disch := omega) only [jst_eq, jst_ne, jst_ni, jI_i, jcmp_lt, jcmp_gt, w32_id, jcpy_out, Sum.elim_inl, Sum.elim_inr, jt2, jt3, jt4, jt5, jt6, jt7, jt8] at c2
        refine OK_ir ?_
        exact hf.resolve_left c2 -- o10 e4
  · try dsimp only [Sum.elim_inl, Sum.elim_inr, jt2, jt3, jt4, jt5, jt6, jt7, jt8]
    refine ⟨?_, ?_⟩
    · (first | assumption | omega | ((try dsimp only [jt2, jt3, jt4]); first | omega | (simp (disch := omega) only [jst_eq, jst_ne, jst_ni, jst_o, jI_i, jcpy_out, w32_id, jdiv_nn, jshr_k, jand_255] <;> first | done | omega | assumption)) | (intros; simp (disch := omega) only [jst_eq, jst_ne, jst_ni, jst_o, jI_i, jcpy_out, w32_id, jdiv_nn, *] <;> first | done | omega) | (intros; simp (disch := omega) only [jst_eq, jst_ne, jst_ni, jst_o, jI_i, jcpy_out, w32_id, jdiv_nn] at * <;> first | done | omega | assumption) | (intros; first | rfl | (exfalso; omega) | ((repeat' apply And.intro) <;> first | assumption | rfl | omega | trivial))) -- o11 init.1
    · (intro k x y1 y2; omega) -- o12 init.2
/-- the first of the fifth acts that come to a goal, told by 32 times the place and the act; or none -/
def lsO (h : AH) (p1 p2 g v : Int) : Prop := (v = -1 ∧ ∀ (k : Int) (x : Nat), h 871 4 ≤ k → k < h 871 5 → x < 18 → AL x (h p1 k) (h p2 k) ≠ g) ∨ ∃ (k : Int) (x : Nat), (h 871 4 ≤ k ∧ k < h 871 5 ∧ x < 18) ∧ v = 32 * k + x ∧ AL x (h p1 k) (h p2 k) = g ∧ ∀ (k' : Int) (x' : Nat), h 871 4 ≤ k' → x' < 18 → 18 * k' + x' < 18 * k + x → AL x' (h p1 k') (h p2 k') ≠ g
/-- the fifth act's table, or none yet -/
def LSM (h : AH) (p1 p2 p3 p4 p8 : Int) (L : Nat) : Prop := (h 454 151 = 0 ∧ h 454 152 = 0) ∨ (L = 5 ∧ h 454 151 ≠ 0 ∧ h 454 151 < h 0 0 ∧ ∃ r1 r2 r3, LTJ h p1 p2 p3 p4 p8 r1 r2 r3 (18 * h 871 5))
/-- cells and slots made, but for these tables -/
def us1 (h : AH) : Int := h 0 1 - (if h 454 146 = 0 then 0 else 5) - (if h 454 151 = 0 then 0 else 3)
def us2 (h : AH) : Int := h 0 2 - (if h 454 146 = 0 then 0 else 706752) - (if h 454 151 = 0 then 0 else 1048576)
def usP (h h' : AH) : Prop := us1 h' = us1 h ∧ us2 h' = us2 h ∧ h 0 0 ≤ h' 0 0 ∧ h 0 1 ≤ h' 0 1 ∧ h 0 2 ≤ h' 0 2
def usR (h : AH) : Prop := 0 ≤ h 0 1 ∧ 0 ≤ h 0 2 ∧ us1 h + 8 ≤ 575367 ∧ us2 h + 1755328 ≤ 7362325
theorem usP_r (h : AH) : usP h h := ⟨rfl, rfl, Int.le_refl _, Int.le_refl _, Int.le_refl _⟩
theorem usP_t {a b c : AH} (x : usP a b) (y : usP b c) : usP a c := ⟨y.1.trans x.1, y.2.1.trans x.2.1, Int.le_trans x.2.2.1 y.2.2.1, Int.le_trans x.2.2.2.1 y.2.2.2.1, Int.le_trans x.2.2.2.2 y.2.2.2.2⟩
theorem usR_t {a b : AH} (x : usR a) (y : usP a b) : usR b := ⟨Int.le_trans x.1 y.2.2.2.1, Int.le_trans x.2.1 y.2.2.2.2, by rw [y.1]; exact x.2.2.1, by rw [y.2.1]; exact x.2.2.2⟩
theorem usR_0 {h : AH} (x : usR h) (z : h 454 146 = 0) (z2 : h 454 151 = 0) : room h 5 706752 := by
  have a := x.2.2
  unfold us1 us2 at a
  rw [if_pos z, if_pos z2, if_pos z, if_pos z2] at a
  exact ⟨x.1, x.2.1, by omega, by omega⟩
theorem usR_1 {h : AH} (x : usR h) (z : h 454 146 ≠ 0) (z2 : h 454 151 = 0) : room h 3 1048576 := by
  have a := x.2.2
  unfold us1 us2 at a
  rw [if_neg z, if_pos z2, if_neg z, if_pos z2] at a
  exact ⟨x.1, x.2.1, by omega, by omega⟩
def owM (h : AH) (a : Int) : Prop := (h 454 146 ≠ 0 ∧ (a = h 454 141 ∨ a = h 454 142 ∨ a = h 454 143 ∨ a = h 454 144 ∨ a = h 454 148)) ∨ (h 454 151 ≠ 0 ∧ (a = h 454 149 ∨ a = h 454 150 ∨ a = h 454 151))
def frX9 (h h' : AH) : Prop := ∀ a s, a ≠ 0 → a < h 0 0 → ¬ owM h a → ¬ (a = 454 ∧ 141 ≤ s ∧ s ≤ 153) → a ≠ 871 → h' a s = h a s
def MBI (h : AH) (p1 p2 p3 p4 p8 : Int) (L : Nat) : Prop := BTI h p1 p2 p3 p4 p8 L ∧ p8 < h 0 0 ∧ LSM h p1 p2 p3 p4 p8 L
def MB0 (h : AH) : Prop := h 454 146 = 0 ∧ h 454 145 = 0 ∧ h 871 0 = 0 ∧ h 454 151 = 0 ∧ h 454 152 = 0
/-- the tables of rows of acts: none yet, or so many levels -/
def MBS (h : AH) (L : Nat) : Prop := 1078 ≤ h 0 0 ∧ ((L = 0 ∧ MB0 h) ∨ (1 ≤ L ∧ ∃ p1 p2 p3 p4 p8, MBI h p1 p2 p3 p4 p8 L))
theorem MBI_g {h : AH} {p1 p2 p3 p4 p8 : Int} (w : BTI h p1 p2 p3 p4 p8 5) : gr4 h p1 p2 ∧ h 871 4 ≤ h 871 5 := by
  obtain ⟨t, q, cd, pt, hN, f⟩ := w
  refine ⟨fun k k0 k1 => ?_, f.2.1 4 (by omega)⟩
  have s := f.2.2.1 4 (by omega) k k0 k1
  have r := runL_r 4 (cd k)
  rw [← s.2.1] at r
  have z := FUL_sz f
  have z4 := (FUL_sz (FUL_lt f (show 4 ≤ 5 by omega))).1
  rw [szB_5] at z
  have z1 : 0 ≤ h 871 4 := z4
  have z2 : h 871 5 ≤ 111151 := z.2
  exact ⟨r, by omega, by omega⟩
theorem vX14_findLast {h : AH} {p1 p2 p3 p4 p8 : Int} (w : MBI h p1 p2 p3 p4 p8 5 ∧ usR h) : OK (gX14_findLast h) (fun h' => (MBI h' p1 p2 p3 p4 p8 5 ∧ h' 454 151 ≠ 0 ∧ ∃ r1 r2 r3, LTJ h' p1 p2 p3 p4 p8 r1 r2 r3 (18 * h' 871 5)) ∧ usP h h' ∧ ((∀ a, a ≠ 0 → a < h 0 0 → (owM h' a ↔ owM h a)) ∧ ∀ a s, a ≠ 0 → a < h 0 0 → ¬ (a = 454 ∧ 149 ≤ s ∧ s ≤ 153) → h' a s = h a s)) := by
  obtain ⟨⟨b, hb, l⟩, ur⟩ := w
  rcases l with l | ⟨_, l1, l2, l3⟩
  · obtain ⟨g1, g2⟩ := MBI_g b
    have q146 : h 454 146 = ((5 : Nat) : Int) := b.2.1.1
    have tz := b.1.2.2
    refine OK_mono (vX14_findLast0 l b.1 hb g1 g2 (usR_1 ur (by omega) l.1)) (fun h' z => ?_)
    obtain ⟨z1, ⟨z2, z3, z4⟩, z5⟩ := z
    have r := z1.2.2.2.1.1.2.2
    have e151 : h' 454 151 = h 0 0 + 2 := r
    have f : ∀ p, p ≠ 0 → p ≠ 454 → p < h 0 0 → h' p = h p := fun p n n2 n3 => funext fun s => z5 p s n n3 (by omega)
    have b' : BTI h' p1 p2 p3 p4 p8 5 := by
      obtain ⟨t, q, cd, pt, hN, fu⟩ := b
      have c145 : h' 454 145 = h 454 145 := z5 _ _ (by omega) (by omega) (by omega)
      have c146 : h' 454 146 = h 454 146 := z5 _ _ (by omega) (by omega) (by omega)
      refine ⟨z1.1, by rw [c146]; exact q, cd, ?_, ?_, ?_⟩
      · unfold PT
        rw [f p1 (by omega) (by omega) (by omega), f p2 (by omega) (by omega) (by omega), f p8 (by omega) (by omega) (by omega), f 871 (by omega) (by omega) (by omega)]
        exact pt
      · rw [c145, f 871 (by omega) (by omega) (by omega)]; exact hN
      · rw [f p1 (by omega) (by omega) (by omega), f p2 (by omega) (by omega) (by omega), f p3 (by omega) (by omega) (by omega), f p4 (by omega) (by omega) (by omega), f 871 (by omega) (by omega) (by omega)]
        exact fu
    refine ⟨⟨⟨b', by omega, Or.inr ⟨rfl, by omega, by omega, _, _, _, z1⟩⟩, by omega, _, _, _, z1⟩, ⟨?_, ?_, by omega, by omega, by omega⟩, fun a a0 a1 => ?_, z5⟩
    · unfold us1
      rw [if_neg (show ¬ h' 454 146 = 0 by rw [b'.2.1.1]; omega), if_neg (show ¬ h' 454 151 = 0 by omega), if_neg (show ¬ h 454 146 = 0 by omega), if_pos l.1]
      omega
    · unfold us2
      rw [if_neg (show ¬ h' 454 146 = 0 by rw [b'.2.1.1]; omega), if_neg (show ¬ h' 454 151 = 0 by omega), if_neg (show ¬ h 454 146 = 0 by omega), if_pos l.1]
      omega
    · have c : ∀ s, s < 149 → h' 454 s = h 454 s := fun s n => z5 _ _ (by omega) (by omega) (by omega)
      have tk := z1.2.2.2.1.1
      have r1 : h' 454 149 = h 0 0 := tk.1
      have r2 : h' 454 150 = h 0 0 + 1 := tk.2.1
      unfold owM
      rw [c 146 (by decide), c 141 (by decide), c 142 (by decide), c 143 (by decide), c 144 (by decide), c 148 (by decide), r1, r2, e151]
      constructor
      · rintro (q | ⟨_, q⟩)
        · exact Or.inl q
        · omega
      · rintro (q | ⟨q, _⟩)
        · exact Or.inl q
        · exact absurd l.1 q
  · refine OK_mono (vX14_findLast1 l1) (fun h' z => ?_)
    subst z
    exact ⟨⟨⟨b, hb, Or.inr ⟨rfl, l1, l2, l3⟩⟩, l1, l3⟩, usP_r _, fun _ _ _ => Iff.rfl, fun _ _ _ _ _ => rfl⟩
theorem vX14_lastOf (a1 : Int) {h : AH} {p1 p2 p3 p4 p8 : Int} (hm : MBI h p1 p2 p3 p4 p8 5) (hu : usR h) (hg : jr64 a1) : OK (gX14_lastOf a1 h) (fun r => jt2 r fun v h' => (lsO h' p1 p2 a1 v) ∧ (MBI h' p1 p2 p3 p4 p8 5) ∧ (usP h h') ∧ ((∀ a, a ≠ 0 → a < h 0 0 → (owM h' a ↔ owM h a)) ∧ ∀ a s, a ≠ 0 → a < h 0 0 → ¬ (a = 454 ∧ 149 ≤ s ∧ s ≤ 153) → h' a s = h a s)) := by
  have tz := hm.1.1.2.2
  have hb8 := hm.2.1
  unfold gX14_lastOf
  refine OK_jb (vX14_findLast (p1 := p1) (p2 := p2) (p3 := p3) (p4 := p4) (p8 := p8) (by exact ⟨hm, hu⟩)) (fun h2 r1 => ?_)
  try dsimp only [Sum.elim_inl, Sum.elim_inr, jt2, jt3, jt4, jt5, jt6, jt7, jt8] at r1
  obtain ⟨ls1, us1, fr1⟩ := r1
  try simp (disch := omega) only [jst_eq, jst_ne, jst_ni, jI_i, jcmp_lt, jcmp_gt, w32_id, jcpy_out, Sum.elim_inl, Sum.elim_inr, jt2, jt3, jt4, jt5, jt6, jt7, jt8] at ls1
  try simp (disch := omega) only [jst_eq, jst_ne, jst_ni, jI_i, jcmp_lt, jcmp_gt, w32_id, jcpy_out, Sum.elim_inl, Sum.elim_inr, jt2, jt3, jt4, jt5, jt6, jt7, jt8] at us1
  try simp (disch := omega) only [jst_eq, jst_ne, jst_ni, jI_i, jcmp_lt, jcmp_gt, w32_id, jcpy_out, Sum.elim_inl, Sum.elim_inr, jt2, jt3, jt4, jt5, jt6, jt7, jt8] at fr1
  obtain ⟨M2, n151, r1, r2, r3, J⟩ := ls1
  obtain ⟨JT, J8, JG, J1, J2, J3, J4, J5, J6⟩ := id J
  obtain ⟨⟨k1, k2, k3⟩, ⟨s1, s2, s3⟩, y1, y2, y3⟩ := id J1
  obtain ⟨G4, G5⟩ := MBI_g M2.1
  obtain ⟨D, hD⟩ := prT_e J2 (by omega) (sumH a1 0 19)
  refine OK_jb (vX14_sumOf _ _ _) (fun v4 r2 => ?_)
  try dsimp only [Sum.elim_inl, Sum.elim_inr, jt2, jt3, jt4, jt5, jt6, jt7, jt8] at r2
  have v2 := r2
  clear r2
  try simp (disch := omega) only [jst_eq, jst_ne, jst_ni, jI_i, jcmp_lt, jcmp_gt, w32_id, jcpy_out, Sum.elim_inl, Sum.elim_inr, jt2, jt3, jt4, jt5, jt6, jt7, jt8] at v2
  refine OK_jb (vX14_lastOf_l12 (r1 := r1) (r2 := r2) (r3 := r3) (M := h2 454 152) (D := D) _ _ (by (first | assumption | omega | ((try dsimp only [jt2, jt3, jt4]); first | omega | (simp (disch := omega) only [jst_eq, jst_ne, jst_ni, jst_o, jI_i, jcpy_out, w32_id, jdiv_nn, jshr_k, jand_255] <;> first | done | omega | assumption)) | (intros; simp (disch := omega) only [jst_eq, jst_ne, jst_ni, jst_o, jI_i, jcpy_out, w32_id, jdiv_nn, *] <;> first | done | omega) | (intros; simp (disch := omega) only [jst_eq, jst_ne, jst_ni, jst_o, jI_i, jcpy_out, w32_id, jdiv_nn] at * <;> first | done | omega | assumption) | (intros; first | rfl | (exfalso; omega) | ((repeat' apply And.intro) <;> first | assumption | rfl | omega | trivial)))) (by (first | assumption | omega | ((try dsimp only [jt2, jt3, jt4]); first | omega | (simp (disch := omega) only [jst_eq, jst_ne, jst_ni, jst_o, jI_i, jcpy_out, w32_id, jdiv_nn, jshr_k, jand_255] <;> first | done | omega | assumption)) | (intros; simp (disch := omega) only [jst_eq, jst_ne, jst_ni, jst_o, jI_i, jcpy_out, w32_id, jdiv_nn, *] <;> first | done | omega) | (intros; simp (disch := omega) only [jst_eq, jst_ne, jst_ni, jst_o, jI_i, jcpy_out, w32_id, jdiv_nn] at * <;> first | done | omega | assumption) | (intros; first | rfl | (exfalso; omega) | ((repeat' apply And.intro) <;> first | assumption | rfl | omega | trivial)))) (by (first | assumption | omega | ((try dsimp only [jt2, jt3, jt4]); first | omega | (simp (disch := omega) only [jst_eq, jst_ne, jst_ni, jst_o, jI_i, jcpy_out, w32_id, jdiv_nn, jshr_k, jand_255] <;> first | done | omega | assumption)) | (intros; simp (disch := omega) only [jst_eq, jst_ne, jst_ni, jst_o, jI_i, jcpy_out, w32_id, jdiv_nn, *] <;> first | done | omega) | (intros; simp (disch := omega) only [jst_eq, jst_ne, jst_ni, jst_o, jI_i, jcpy_out, w32_id, jdiv_nn] at * <;> first | done | omega | assumption) | (intros; first | rfl | (exfalso; omega) | ((repeat' apply And.intro) <;> first | assumption | rfl | omega | trivial)))) (by (first | assumption | omega | ((try dsimp only [jt2, jt3, jt4]); first | omega | (simp (disch := omega) only [jst_eq, jst_ne, jst_ni, jst_o, jI_i, jcpy_out, w32_id, jdiv_nn, jshr_k, jand_255] <;> first | done | omega | assumption)) | (intros; simp (disch := omega) only [jst_eq, jst_ne, jst_ni, jst_o, jI_i, jcpy_out, w32_id, jdiv_nn, *] <;> first | done | omega) | (intros; simp (disch := omega) only [jst_eq, jst_ne, jst_ni, jst_o, jI_i, jcpy_out, w32_id, jdiv_nn] at * <;> first | done | omega | assumption) | (intros; first | rfl | (exfalso; omega) | ((repeat' apply And.intro) <;> first | assumption | rfl | omega | trivial)))) (by (first | assumption | omega | ((try dsimp only [jt2, jt3, jt4]); first | omega | (simp (disch := omega) only [jst_eq, jst_ne, jst_ni, jst_o, jI_i, jcpy_out, w32_id, jdiv_nn, jshr_k, jand_255] <;> first | done | omega | assumption)) | (intros; simp (disch := omega) only [jst_eq, jst_ne, jst_ni, jst_o, jI_i, jcpy_out, w32_id, jdiv_nn, *] <;> first | done | omega) | (intros; simp (disch := omega) only [jst_eq, jst_ne, jst_ni, jst_o, jI_i, jcpy_out, w32_id, jdiv_nn] at * <;> first | done | omega | assumption) | (intros; first | rfl | (exfalso; omega) | ((repeat' apply And.intro) <;> first | assumption | rfl | omega | trivial))))) (fun o5 r3 => ?_)
  rcases o5 with o7 | o8
  · skip
    have r4 := r3; clear r3
    dsimp only [Sum.elim_inl, Sum.elim_inr] at r4
    try dsimp only [Sum.elim_inl, Sum.elim_inr, jt2, jt3, jt4, jt5, jt6, jt7, jt8] at r4
    have ye3 := r4
    clear r4
    try simp (disch := omega) only [jst_eq, jst_ne, jst_ni, jI_i, jcmp_lt, jcmp_gt, w32_id, jcpy_out, Sum.elim_inl, Sum.elim_inr, jt2, jt3, jt4, jt5, jt6, jt7, jt8] at ye3
    refine OK_jml ?_
    rw [k3, k2]
    have w7 : w32 (h2 r3 o7 - 1) = h2 r3 o7 - 1 := w32_id (by omega) (by omega)
    rw [w7]
    refine OK_jg (by (first | assumption | omega | ((try dsimp only [jt2, jt3, jt4]); first | omega | (simp (disch := omega) only [jst_eq, jst_ne, jst_ni, jst_o, jI_i, jcpy_out, w32_id, jdiv_nn, jshr_k, jand_255] <;> first | done | omega | assumption)) | (intros; simp (disch := omega) only [jst_eq, jst_ne, jst_ni, jst_o, jI_i, jcpy_out, w32_id, jdiv_nn, *] <;> first | done | omega) | (intros; simp (disch := omega) only [jst_eq, jst_ne, jst_ni, jst_o, jI_i, jcpy_out, w32_id, jdiv_nn] at * <;> first | done | omega | assumption) | (intros; first | rfl | (exfalso; omega) | ((repeat' apply And.intro) <;> first | assumption | rfl | omega | trivial)))) ?_ -- o7
    refine OK_jg (by (first | assumption | omega | ((try dsimp only [jt2, jt3, jt4]); first | omega | (simp (disch := omega) only [jst_eq, jst_ne, jst_ni, jst_o, jI_i, jcpy_out, w32_id, jdiv_nn, jshr_k, jand_255] <;> first | done | omega | assumption)) | (intros; simp (disch := omega) only [jst_eq, jst_ne, jst_ni, jst_o, jI_i, jcpy_out, w32_id, jdiv_nn, *] <;> first | done | omega) | (intros; simp (disch := omega) only [jst_eq, jst_ne, jst_ni, jst_o, jI_i, jcpy_out, w32_id, jdiv_nn] at * <;> first | done | omega | assumption) | (intros; first | rfl | (exfalso; omega) | ((repeat' apply And.intro) <;> first | assumption | rfl | omega | trivial)))) ?_ -- o8
    refine OK_some ?_
    try dsimp only [Sum.elim_inl, Sum.elim_inr, jt2, jt3, jt4, jt5, jt6, jt7, jt8]
    try dsimp only [Sum.elim_inl, Sum.elim_inr, jt2, jt3, jt4, jt5, jt6, jt7, jt8]
    refine ⟨?_, ?_, ?_, ?_⟩
    · (obtain ⟨_, u1, u2⟩ := ye3; obtain ⟨k, x, ⟨z4, z5, z6⟩, z7, z8, z9⟩ := J4 (h2 r3 o7 - 1) (by omega) (by omega); exact Or.inr ⟨k, x, ⟨z4, by omega, z5⟩, z7, by rw [← z8]; exact u2, fun k' x' q1 q2 q3 => by rw [← u2]; exact z9 k' x' q1 q2 q3⟩) -- o9 e1.1
    · (first | assumption | omega | ((try dsimp only [jt2, jt3, jt4]); first | omega | (simp (disch := omega) only [jst_eq, jst_ne, jst_ni, jst_o, jI_i, jcpy_out, w32_id, jdiv_nn, jshr_k, jand_255] <;> first | done | omega | assumption)) | (intros; simp (disch := omega) only [jst_eq, jst_ne, jst_ni, jst_o, jI_i, jcpy_out, w32_id, jdiv_nn, *] <;> first | done | omega) | (intros; simp (disch := omega) only [jst_eq, jst_ne, jst_ni, jst_o, jI_i, jcpy_out, w32_id, jdiv_nn] at * <;> first | done | omega | assumption) | (intros; first | rfl | (exfalso; omega) | ((repeat' apply And.intro) <;> first | assumption | rfl | omega | trivial))) -- o10 e1.2
    · (first | assumption | omega | ((try dsimp only [jt2, jt3, jt4]); first | omega | (simp (disch := omega) only [jst_eq, jst_ne, jst_ni, jst_o, jI_i, jcpy_out, w32_id, jdiv_nn, jshr_k, jand_255] <;> first | done | omega | assumption)) | (intros; simp (disch := omega) only [jst_eq, jst_ne, jst_ni, jst_o, jI_i, jcpy_out, w32_id, jdiv_nn, *] <;> first | done | omega) | (intros; simp (disch := omega) only [jst_eq, jst_ne, jst_ni, jst_o, jI_i, jcpy_out, w32_id, jdiv_nn] at * <;> first | done | omega | assumption) | (intros; first | rfl | (exfalso; omega) | ((repeat' apply And.intro) <;> first | assumption | rfl | omega | trivial))) -- o11 e1.3
    · (first | assumption | omega | ((try dsimp only [jt2, jt3, jt4]); first | omega | (simp (disch := omega) only [jst_eq, jst_ne, jst_ni, jst_o, jI_i, jcpy_out, w32_id, jdiv_nn, jshr_k, jand_255] <;> first | done | omega | assumption)) | (intros; simp (disch := omega) only [jst_eq, jst_ne, jst_ni, jst_o, jI_i, jcpy_out, w32_id, jdiv_nn, *] <;> first | done | omega) | (intros; simp (disch := omega) only [jst_eq, jst_ne, jst_ni, jst_o, jI_i, jcpy_out, w32_id, jdiv_nn] at * <;> first | done | omega | assumption) | (intros; first | rfl | (exfalso; omega) | ((repeat' apply And.intro) <;> first | assumption | rfl | omega | trivial))) -- o12 e1.4
  · skip
    have r5 := r3; clear r3
    dsimp only [Sum.elim_inl, Sum.elim_inr] at r5
    try dsimp only [Sum.elim_inl, Sum.elim_inr, jt2, jt3, jt4, jt5, jt6, jt7, jt8] at r5
    have no4 := r5
    clear r5
    try simp (disch := omega) only [jst_eq, jst_ne, jst_ni, jI_i, jcmp_lt, jcmp_gt, w32_id, jcpy_out, Sum.elim_inl, Sum.elim_inr, jt2, jt3, jt4, jt5, jt6, jt7, jt8] at no4
    refine OK_jmr ?_
    refine OK_jlx (fun x9 ex9 => ?_)
    try simp (disch := omega) only [jst_eq, jst_ne, jst_ni, jI_i, jcmp_lt, jcmp_gt, w32_id, jcpy_out, Sum.elim_inl, Sum.elim_inr, jt2, jt3, jt4, jt5, jt6, jt7, jt8] at ex9
    refine OK_jb (vX14_lastOf_l72 (p1 := p1) (p2 := p2) (p3 := p3) (p4 := p4) (p8 := p8) _ _ (by exact JT) (by (first | assumption | omega | ((try dsimp only [jt2, jt3, jt4]); first | omega | (simp (disch := omega) only [jst_eq, jst_ne, jst_ni, jst_o, jI_i, jcpy_out, w32_id, jdiv_nn, jshr_k, jand_255] <;> first | done | omega | assumption)) | (intros; simp (disch := omega) only [jst_eq, jst_ne, jst_ni, jst_o, jI_i, jcpy_out, w32_id, jdiv_nn, *] <;> first | done | omega) | (intros; simp (disch := omega) only [jst_eq, jst_ne, jst_ni, jst_o, jI_i, jcpy_out, w32_id, jdiv_nn] at * <;> first | done | omega | assumption) | (intros; first | rfl | (exfalso; omega) | ((repeat' apply And.intro) <;> first | assumption | rfl | omega | trivial)))) (by (first | assumption | omega | ((try dsimp only [jt2, jt3, jt4]); first | omega | (simp (disch := omega) only [jst_eq, jst_ne, jst_ni, jst_o, jI_i, jcpy_out, w32_id, jdiv_nn, jshr_k, jand_255] <;> first | done | omega | assumption)) | (intros; simp (disch := omega) only [jst_eq, jst_ne, jst_ni, jst_o, jI_i, jcpy_out, w32_id, jdiv_nn, *] <;> first | done | omega) | (intros; simp (disch := omega) only [jst_eq, jst_ne, jst_ni, jst_o, jI_i, jcpy_out, w32_id, jdiv_nn] at * <;> first | done | omega | assumption) | (intros; first | rfl | (exfalso; omega) | ((repeat' apply And.intro) <;> first | assumption | rfl | omega | trivial)))) (by (rcases J6 with f | f; { right; intro k x y1 y2 y3 e; obtain ⟨m, m0, m1, m2⟩ := J5 f k x y1 y3 (by omega); exact no4 m m0 m1 (by rw [m2]; exact e) }; { exact Or.inl f.1 })) (by exact ⟨ex9, G5⟩)) (fun o10 r6 => ?_)
    rcases o10 with o12 | o13
    · skip
      have r7 := r6; clear r6
      dsimp only [Sum.elim_inl, Sum.elim_inr] at r7
      refine OK_jml ?_
      obtain ⟨y14, y15⟩ := o12
      refine OK_jt2 ?_
      try dsimp only [Sum.elim_inl, Sum.elim_inr, jt2, jt3, jt4, jt5, jt6, jt7, jt8] at r7
      have ye5 := r7
      clear r7
      try simp (disch := omega) only [jst_eq, jst_ne, jst_ni, jI_i, jcmp_lt, jcmp_gt, w32_id, jcpy_out, Sum.elim_inl, Sum.elim_inr, jt2, jt3, jt4, jt5, jt6, jt7, jt8] at ye5
      refine OK_some ?_
      try dsimp only [Sum.elim_inl, Sum.elim_inr, jt2, jt3, jt4, jt5, jt6, jt7, jt8]
      try dsimp only [Sum.elim_inl, Sum.elim_inr, jt2, jt3, jt4, jt5, jt6, jt7, jt8]
      refine ⟨?_, ?_, ?_, ?_⟩
      · (obtain ⟨x, ⟨u1, u2, u3⟩, u4, u5, u6⟩ := ye5; have g := (G4 y14 u1 u2).2; refine Or.inr ⟨y14, x, ⟨u1, u2, u3⟩, ?_, u5, u6⟩; rw [u4, w32_id (x := 32 * y14) (by omega) (by omega), w32_id (by omega) (by omega)]) -- o18 e2.1
      · (first | assumption | omega | ((try dsimp only [jt2, jt3, jt4]); first | omega | (simp (disch := omega) only [jst_eq, jst_ne, jst_ni, jst_o, jI_i, jcpy_out, w32_id, jdiv_nn, jshr_k, jand_255] <;> first | done | omega | assumption)) | (intros; simp (disch := omega) only [jst_eq, jst_ne, jst_ni, jst_o, jI_i, jcpy_out, w32_id, jdiv_nn, *] <;> first | done | omega) | (intros; simp (disch := omega) only [jst_eq, jst_ne, jst_ni, jst_o, jI_i, jcpy_out, w32_id, jdiv_nn] at * <;> first | done | omega | assumption) | (intros; first | rfl | (exfalso; omega) | ((repeat' apply And.intro) <;> first | assumption | rfl | omega | trivial))) -- o19 e2.2
      · (first | assumption | omega | ((try dsimp only [jt2, jt3, jt4]); first | omega | (simp (disch := omega) only [jst_eq, jst_ne, jst_ni, jst_o, jI_i, jcpy_out, w32_id, jdiv_nn, jshr_k, jand_255] <;> first | done | omega | assumption)) | (intros; simp (disch := omega) only [jst_eq, jst_ne, jst_ni, jst_o, jI_i, jcpy_out, w32_id, jdiv_nn, *] <;> first | done | omega) | (intros; simp (disch := omega) only [jst_eq, jst_ne, jst_ni, jst_o, jI_i, jcpy_out, w32_id, jdiv_nn] at * <;> first | done | omega | assumption) | (intros; first | rfl | (exfalso; omega) | ((repeat' apply And.intro) <;> first | assumption | rfl | omega | trivial))) -- o20 e2.3
      · (first | assumption | omega | ((try dsimp only [jt2, jt3, jt4]); first | omega | (simp (disch := omega) only [jst_eq, jst_ne, jst_ni, jst_o, jI_i, jcpy_out, w32_id, jdiv_nn, jshr_k, jand_255] <;> first | done | omega | assumption)) | (intros; simp (disch := omega) only [jst_eq, jst_ne, jst_ni, jst_o, jI_i, jcpy_out, w32_id, jdiv_nn, *] <;> first | done | omega) | (intros; simp (disch := omega) only [jst_eq, jst_ne, jst_ni, jst_o, jI_i, jcpy_out, w32_id, jdiv_nn] at * <;> first | done | omega | assumption) | (intros; first | rfl | (exfalso; omega) | ((repeat' apply And.intro) <;> first | assumption | rfl | omega | trivial))) -- o21 e2.4
    · skip
      have r8 := r6; clear r6
      dsimp only [Sum.elim_inl, Sum.elim_inr] at r8
      try dsimp only [Sum.elim_inl, Sum.elim_inr, jt2, jt3, jt4, jt5, jt6, jt7, jt8] at r8
      have no6 := r8
      clear r8
      try simp (disch := omega) only [jst_eq, jst_ne, jst_ni, jI_i, jcmp_lt, jcmp_gt, w32_id, jcpy_out, Sum.elim_inl, Sum.elim_inr, jt2, jt3, jt4, jt5, jt6, jt7, jt8] at no6
      refine OK_jmr ?_
      refine OK_some ?_
      try dsimp only [Sum.elim_inl, Sum.elim_inr, jt2, jt3, jt4, jt5, jt6, jt7, jt8]
      try dsimp only [Sum.elim_inl, Sum.elim_inr, jt2, jt3, jt4, jt5, jt6, jt7, jt8]
      refine ⟨?_, ?_, ?_, ?_⟩
      · exact Or.inl ⟨rfl, no6⟩ -- o22 e3.1
      · (first | assumption | omega | ((try dsimp only [jt2, jt3, jt4]); first | omega | (simp (disch := omega) only [jst_eq, jst_ne, jst_ni, jst_o, jI_i, jcpy_out, w32_id, jdiv_nn, jshr_k, jand_255] <;> first | done | omega | assumption)) | (intros; simp (disch := omega) only [jst_eq, jst_ne, jst_ni, jst_o, jI_i, jcpy_out, w32_id, jdiv_nn, *] <;> first | done | omega) | (intros; simp (disch := omega) only [jst_eq, jst_ne, jst_ni, jst_o, jI_i, jcpy_out, w32_id, jdiv_nn] at * <;> first | done | omega | assumption) | (intros; first | rfl | (exfalso; omega) | ((repeat' apply And.intro) <;> first | assumption | rfl | omega | trivial))) -- o23 e3.2
      · (first | assumption | omega | ((try dsimp only [jt2, jt3, jt4]); first | omega | (simp (disch := omega) only [jst_eq, jst_ne, jst_ni, jst_o, jI_i, jcpy_out, w32_id, jdiv_nn, jshr_k, jand_255] <;> first | done | omega | assumption)) | (intros; simp (disch := omega) only [jst_eq, jst_ne, jst_ni, jst_o, jI_i, jcpy_out, w32_id, jdiv_nn, *] <;> first | done | omega) | (intros; simp (disch := omega) only [jst_eq, jst_ne, jst_ni, jst_o, jI_i, jcpy_out, w32_id, jdiv_nn] at * <;> first | done | omega | assumption) | (intros; first | rfl | (exfalso; omega) | ((repeat' apply And.intro) <;> first | assumption | rfl | omega | trivial))) -- o24 e3.3
      · (first | assumption | omega | ((try dsimp only [jt2, jt3, jt4]); first | omega | (simp (disch := omega) only [jst_eq, jst_ne, jst_ni, jst_o, jI_i, jcpy_out, w32_id, jdiv_nn, jshr_k, jand_255] <;> first | done | omega | assumption)) | (intros; simp (disch := omega) only [jst_eq, jst_ne, jst_ni, jst_o, jI_i, jcpy_out, w32_id, jdiv_nn, *] <;> first | done | omega) | (intros; simp (disch := omega) only [jst_eq, jst_ne, jst_ni, jst_o, jI_i, jcpy_out, w32_id, jdiv_nn] at * <;> first | done | omega | assumption) | (intros; first | rfl | (exfalso; omega) | ((repeat' apply And.intro) <;> first | assumption | rfl | omega | trivial))) -- o25 e3.4

