/-! x's word, from the tape -/
def nmX (h : AH) (w : Int) : Prop := ∀ k, 0 ≤ k → k < h 424 0 → h 425 k ≠ w
def rmX (h : AH) (n : Int) : Prop := (h 434 5 + n + 123) / 121 ≤ 200 - h 434 4
theorem first_of {p : Int → Prop} {n : Int} (h : ∃ k, 0 ≤ k ∧ k < n ∧ p k) : ∃ k, 0 ≤ k ∧ k < n ∧ p k ∧ ∀ j, 0 ≤ j → j < k → ¬ p j := by
  obtain ⟨k, k0, k1, k2⟩ := h
  have key : ∀ m : Nat, ∀ k : Int, 0 ≤ k → k < n → p k → k.toNat ≤ m → ∃ k, 0 ≤ k ∧ k < n ∧ p k ∧ ∀ j, 0 ≤ j → j < k → ¬ p j := by
    intro m
    induction m with
    | zero => intro k k0 k1 k2 k3; exact ⟨k, k0, k1, k2, fun j j0 j1 => by omega⟩
    | succ m ih =>
      intro k k0 k1 k2 k3
      by_cases q : ∃ j, 0 ≤ j ∧ j < k ∧ p j
      · obtain ⟨j, j0, j1, j2⟩ := q
        exact ih j j0 (by omega) j2 (by omega)
      · exact ⟨k, k0, k1, k2, fun j j0 j1 j2 => q ⟨j, j0, j1, j2⟩⟩
  exact key k.toNat k k0 k1 k2 (Nat.le_refl _)
theorem vX1_word (a1 : Int) {h : AH} {n : Int} (hd : h 200 53 = 0 ∨ h 200 53 = 1) (hx : n = h 200 55) (hn : 0 ≤ h 424 0 ∧ h 424 0 ≤ 20) (hg : a1 = 0 ∨ a1 = 1) (hs : 0 ≤ h 200 55 ∧ h 200 55 ≤ 2000) (hk : h 440 (-2) = 103 ∧ h 440 (-1) = 2000) (hz : 0 ≤ h 434 5 ∧ h 434 5 ≤ 24200) (hu : 0 ≤ h 434 4 ∧ h 434 4 ≤ 200) (hc : 0 ≤ h 434 6 ∧ h 434 6 ≤ 30000) : OK (gX1_word a1 h) (fun r => jt2 r fun v h' => (h 200 53 = 1 → v = -5 ∧ h' = h) ∧ (h 200 53 = 0 → ¬ isW (h 440) n → v = -1 ∧ h' = jst h 200 55 0) ∧ (h 200 53 = 0 → isW (h 440) n → ∀ k, 0 ≤ k → k < h 424 0 → h 425 k = numX (h 440) n.toNat → (∀ j, 0 ≤ j → j < k → h 425 j ≠ numX (h 440) n.toNat) → v = (if h 426 k = a1 then h 424 0 else -2) ∧ h' = jst h 200 55 0) ∧ (h 200 53 = 0 → isW (h 440) n → nmX h (numX (h 440) n.toNat) → h 424 0 = 20 ∨ ¬ rmX h (n + 1) → v = -3 ∧ h' = jst h 200 55 0) ∧ (h 200 53 = 0 → isW (h 440) n → nmX h (numX (h 440) n.toNat) → h 424 0 < 20 → rmX h (n + 1) → v = h 424 0 + 1 ∧ h' 424 0 = h 424 0 + 1 ∧ h' 425 (h 424 0) = numX (h 440) n.toNat ∧ h' 426 (h 424 0) = a1 ∧ h' 434 5 = h 434 5 + 4 + n ∧ h' 434 6 = h 434 6 + 1 ∧ h' 436 (h 434 5) % 256 = 4 ∧ h' 436 (h 434 5 + 1) % 256 = 0 ∧ h' 436 (h 434 5 + 2) % 256 = n + 1 ∧ h' 436 (h 434 5 + 3) % 256 = a1 ∧ ∀ k, 0 ≤ k → k < n → h' 436 (h 434 5 + 4 + k) % 256 = h 440 k % 256) ∧ (∀ a s, ¬ (a = 200 ∧ s = 55) → ¬ (a = 424 ∧ s = 0) → ¬ ((a = 425 ∨ a = 426) ∧ s = h 424 0) → ¬ (a = 434 ∧ (s = 5 ∨ s = 6 ∨ s = 7)) → ¬ (a = 436 ∧ h 434 5 ≤ s ∧ s < h 434 5 + 4 + n) → h' a s = h a s)) := by
  unfold gX1_word
  refine OK_if (fun c1 => ?_) (fun c1 => ?_)
  · skip
    try simp (disch := omega) only [jst_eq, jst_ne, jst_ni, jI_i, jcmp_lt, jcmp_gt, w32_id, jcpy_out, Sum.elim_inl, Sum.elim_inr, jt2, jt3, jt4, jt5, jt6, jt7, jt8] at c1
    refine OK_jb2 (vX1_takeTape) (fun v3 h4 r1 => ?_)
    try dsimp only [Sum.elim_inl, Sum.elim_inr, jt2, jt3, jt4, jt5, jt6, jt7, jt8] at r1
    obtain ⟨v1, hh1⟩ := r1
    try simp (disch := omega) only [jst_eq, jst_ne, jst_ni, jI_i, jcmp_lt, jcmp_gt, w32_id, jcpy_out, Sum.elim_inl, Sum.elim_inr, jt2, jt3, jt4, jt5, jt6, jt7, jt8] at v1
    try simp (disch := omega) only [jst_eq, jst_ne, jst_ni, jI_i, jcmp_lt, jcmp_gt, w32_id, jcpy_out, Sum.elim_inl, Sum.elim_inr, jt2, jt3, jt4, jt5, jt6, jt7, jt8] at hh1
    subst hh1
    have e3 : v3 = n := by omega
    subst e3
    have E440 : jst h 200 55 0 440 = h 440 := funext fun s => jst_ne (by decide)
    have E425 : jst h 200 55 0 425 = h 425 := funext fun s => jst_ne (by decide)
    have E426 : jst h 200 55 0 426 = h 426 := funext fun s => jst_ne (by decide)
    refine OK_jb (vX1_wordMay _ _ _ (by (first | assumption | omega | ((try dsimp only [jt2, jt3, jt4]); first | omega | (simp (disch := omega) only [jst_eq, jst_ne, jst_ni, jst_o, jI_i, jcpy_out, w32_id, jdiv_nn, jshr_k, jand_255] <;> first | done | omega | assumption)) | (intros; simp (disch := omega) only [jst_eq, jst_ne, jst_ni, jst_o, jI_i, jcpy_out, w32_id, jdiv_nn, *] <;> first | done | omega) | (intros; simp (disch := omega) only [jst_eq, jst_ne, jst_ni, jst_o, jI_i, jcpy_out, w32_id, jdiv_nn] at * <;> first | done | omega | assumption) | (intros; first | rfl | (exfalso; omega) | ((repeat' apply And.intro) <;> first | assumption | rfl | omega | trivial)))) (by (first | assumption | omega | ((try dsimp only [jt2, jt3, jt4]); first | omega | (simp (disch := omega) only [jst_eq, jst_ne, jst_ni, jst_o, jI_i, jcpy_out, w32_id, jdiv_nn, jshr_k, jand_255] <;> first | done | omega | assumption)) | (intros; simp (disch := omega) only [jst_eq, jst_ne, jst_ni, jst_o, jI_i, jcpy_out, w32_id, jdiv_nn, *] <;> first | done | omega) | (intros; simp (disch := omega) only [jst_eq, jst_ne, jst_ni, jst_o, jI_i, jcpy_out, w32_id, jdiv_nn] at * <;> first | done | omega | assumption) | (intros; first | rfl | (exfalso; omega) | ((repeat' apply And.intro) <;> first | assumption | rfl | omega | trivial))))) (fun v6 r2 => ?_)
    try dsimp only [Sum.elim_inl, Sum.elim_inr, jt2, jt3, jt4, jt5, jt6, jt7, jt8] at r2
    obtain ⟨bad2, hit2, miss2⟩ := r2
    try simp (disch := omega) only [jst_eq, jst_ne, jst_ni, jI_i, jcmp_lt, jcmp_gt, w32_id, jcpy_out, Sum.elim_inl, Sum.elim_inr, jt2, jt3, jt4, jt5, jt6, jt7, jt8] at bad2
    try simp (disch := omega) only [jst_eq, jst_ne, jst_ni, jI_i, jcmp_lt, jcmp_gt, w32_id, jcpy_out, Sum.elim_inl, Sum.elim_inr, jt2, jt3, jt4, jt5, jt6, jt7, jt8] at hit2
    try simp (disch := omega) only [jst_eq, jst_ne, jst_ni, jI_i, jcmp_lt, jcmp_gt, w32_id, jcpy_out, Sum.elim_inl, Sum.elim_inr, jt2, jt3, jt4, jt5, jt6, jt7, jt8] at miss2
    rw [E440] at bad2 hit2 miss2
    refine OK_if (fun c2 => ?_) (fun c2 => ?_)
    · skip
      try simp (disch := omega) only [jst_eq, jst_ne, jst_ni, jI_i, jcmp_lt, jcmp_gt, w32_id, jcpy_out, Sum.elim_inl, Sum.elim_inr, jt2, jt3, jt4, jt5, jt6, jt7, jt8] at c2
      have iw : isW (h 440) v3 := Classical.byContradiction (fun z => by have := bad2 z; omega)
      have hm : (v6 = 1 ∧ ¬ nmX h (numX (h 440) v3.toNat)) ∨ (v6 = 0 ∧ nmX h (numX (h 440) v3.toNat) ∧ h 424 0 < 20) := by { by_cases nf : nmX h (numX (h 440) v3.toNat); { have q := miss2 iw nf; by_cases z : h 424 0 = 20; { rw [if_pos z] at q; omega }; { rw [if_neg z] at q; exact Or.inr ⟨q, nf, by omega⟩ } }; { obtain ⟨k, k0, k1, k2, k3⟩ := first_of (p := fun k => h 425 k = numX (h 440) v3.toNat) (n := h 424 0) (Classical.byContradiction fun z => nf (fun k k0 k1 k2 => z ⟨k, k0, k1, k2⟩)); have q := hit2 iw k k0 k1 k2 k3; by_cases z : h 426 k = a1; { rw [if_pos z] at q; exact Or.inl ⟨q, nf⟩ }; { rw [if_neg z] at q; omega } } }
      have n8 := iw.1
      refine OK_if (fun c3 => ?_) (fun c3 => ?_)
      · skip
        try simp (disch := omega) only [jst_eq, jst_ne, jst_ni, jI_i, jcmp_lt, jcmp_gt, w32_id, jcpy_out, Sum.elim_inl, Sum.elim_inr, jt2, jt3, jt4, jt5, jt6, jt7, jt8] at c3
        refine OK_some ?_
        try dsimp only [Sum.elim_inl, Sum.elim_inr, jt2, jt3, jt4, jt5, jt6, jt7, jt8]
        try dsimp only [Sum.elim_inl, Sum.elim_inr, jt2, jt3, jt4, jt5, jt6, jt7, jt8]
        refine ⟨?_, ?_, ?_, ?_, ?_, ?_⟩
        · (first | assumption | omega | ((try dsimp only [jt2, jt3, jt4]); first | omega | (simp (disch := omega) only [jst_eq, jst_ne, jst_ni, jst_o, jI_i, jcpy_out, w32_id, jdiv_nn, jshr_k, jand_255] <;> first | done | omega | assumption)) | (intros; simp (disch := omega) only [jst_eq, jst_ne, jst_ni, jst_o, jI_i, jcpy_out, w32_id, jdiv_nn, *] <;> first | done | omega) | (intros; simp (disch := omega) only [jst_eq, jst_ne, jst_ni, jst_o, jI_i, jcpy_out, w32_id, jdiv_nn] at * <;> first | done | omega | assumption) | (intros; first | rfl | (exfalso; omega) | ((repeat' apply And.intro) <;> first | assumption | rfl | omega | trivial))) -- o3 e1.1
        · (intro _ z; exact absurd iw z) -- o4 e1.2
        · (intro _ _ k k0 k1 k2 k3; have q := hit2 iw k k0 k1 k2 k3; by_cases z : h 426 k = a1; { rw [if_pos z, jst_ne (by decide)]; exact ⟨rfl, rfl⟩ }; { rw [if_neg z] at q; omega }) -- o5 e1.3
        · (intro _ _ z; exact absurd z (hm.resolve_right (fun q => by omega)).2) -- o6 e1.4
        · (intro _ _ z; exact absurd z (hm.resolve_right (fun q => by omega)).2) -- o7 e1.5
        · (intro a s z _ _ _ _; exact jst_o z) -- o8 e1.6
      · skip
        try simp (disch := omega) only [jst_eq, jst_ne, jst_ni, jI_i, jcmp_lt, jcmp_gt, w32_id, jcpy_out, Sum.elim_inl, Sum.elim_inr, jt2, jt3, jt4, jt5, jt6, jt7, jt8] at c3
        have hn2 := hm.resolve_left (fun q => c3 q.1)
        refine OK_jb2 (vX12_begin _ _ (by (first | assumption | omega | ((try dsimp only [jt2, jt3, jt4]); first | omega | (simp (disch := omega) only [jst_eq, jst_ne, jst_ni, jst_o, jI_i, jcpy_out, w32_id, jdiv_nn, jshr_k, jand_255] <;> first | done | omega | assumption)) | (intros; simp (disch := omega) only [jst_eq, jst_ne, jst_ni, jst_o, jI_i, jcpy_out, w32_id, jdiv_nn, *] <;> first | done | omega) | (intros; simp (disch := omega) only [jst_eq, jst_ne, jst_ni, jst_o, jI_i, jcpy_out, w32_id, jdiv_nn] at * <;> first | done | omega | assumption) | (intros; first | rfl | (exfalso; omega) | ((repeat' apply And.intro) <;> first | assumption | rfl | omega | trivial)))) (by (first | assumption | omega | ((try dsimp only [jt2, jt3, jt4]); first | omega | (simp (disch := omega) only [jst_eq, jst_ne, jst_ni, jst_o, jI_i, jcpy_out, w32_id, jdiv_nn, jshr_k, jand_255] <;> first | done | omega | assumption)) | (intros; simp (disch := omega) only [jst_eq, jst_ne, jst_ni, jst_o, jI_i, jcpy_out, w32_id, jdiv_nn, *] <;> first | done | omega) | (intros; simp (disch := omega) only [jst_eq, jst_ne, jst_ni, jst_o, jI_i, jcpy_out, w32_id, jdiv_nn] at * <;> first | done | omega | assumption) | (intros; first | rfl | (exfalso; omega) | ((repeat' apply And.intro) <;> first | assumption | rfl | omega | trivial)))) (by (first | assumption | omega | ((try dsimp only [jt2, jt3, jt4]); first | omega | (simp (disch := omega) only [jst_eq, jst_ne, jst_ni, jst_o, jI_i, jcpy_out, w32_id, jdiv_nn, jshr_k, jand_255] <;> first | done | omega | assumption)) | (intros; simp (disch := omega) only [jst_eq, jst_ne, jst_ni, jst_o, jI_i, jcpy_out, w32_id, jdiv_nn, *] <;> first | done | omega) | (intros; simp (disch := omega) only [jst_eq, jst_ne, jst_ni, jst_o, jI_i, jcpy_out, w32_id, jdiv_nn] at * <;> first | done | omega | assumption) | (intros; first | rfl | (exfalso; omega) | ((repeat' apply And.intro) <;> first | assumption | rfl | omega | trivial))))) (fun v10 h11 r3 => ?_)
        try dsimp only [Sum.elim_inl, Sum.elim_inr, jt2, jt3, jt4, jt5, jt6, jt7, jt8] at r3
        have bg3 := r3
        clear r3
        try simp (disch := omega) only [jst_eq, jst_ne, jst_ni, jI_i, jcmp_lt, jcmp_gt, w32_id, jcpy_out, Sum.elim_inl, Sum.elim_inr, jt2, jt3, jt4, jt5, jt6, jt7, jt8] at bg3
        refine OK_if (fun c4 => ?_) (fun c4 => ?_)
        · skip
          try simp (disch := omega) only [jst_eq, jst_ne, jst_ni, jI_i, jcmp_lt, jcmp_gt, w32_id, jcpy_out, Sum.elim_inl, Sum.elim_inr, jt2, jt3, jt4, jt5, jt6, jt7, jt8] at c4
          refine OK_some ?_
          try dsimp only [Sum.elim_inl, Sum.elim_inr, jt2, jt3, jt4, jt5, jt6, jt7, jt8]
          try dsimp only [Sum.elim_inl, Sum.elim_inr, jt2, jt3, jt4, jt5, jt6, jt7, jt8]
          refine ⟨?_, ?_, ?_, ?_, ?_, ?_⟩
          · (first | assumption | omega | ((try dsimp only [jt2, jt3, jt4]); first | omega | (simp (disch := omega) only [jst_eq, jst_ne, jst_ni, jst_o, jI_i, jcpy_out, w32_id, jdiv_nn, jshr_k, jand_255] <;> first | done | omega | assumption)) | (intros; simp (disch := omega) only [jst_eq, jst_ne, jst_ni, jst_o, jI_i, jcpy_out, w32_id, jdiv_nn, *] <;> first | done | omega) | (intros; simp (disch := omega) only [jst_eq, jst_ne, jst_ni, jst_o, jI_i, jcpy_out, w32_id, jdiv_nn] at * <;> first | done | omega | assumption) | (intros; first | rfl | (exfalso; omega) | ((repeat' apply And.intro) <;> first | assumption | rfl | omega | trivial))) -- o12 e2.1
          · (intro _ z; exact absurd iw z) -- o13 e2.2
          · (intro _ _ k k0 k1 k2 k3; exact absurd k2 (hn2.2.1 k k0 k1)) -- o14 e2.3
          · (intro _ _ _ _; rcases bg3 with q | q; { exact ⟨rfl, q.2.2⟩ }; { omega }) -- o15 e2.4
          · (intro _ _ _ _ z; exfalso; unfold rmX at z; rcases bg3 with q | q; { have := q.2.1; omega }; { omega }) -- o16 e2.5
          · (intro a s z _ _ _ _; rcases bg3 with q | q; { rw [q.2.2]; exact jst_o z }; { omega }) -- o17 e2.6
        · skip
          try simp (disch := omega) only [jst_eq, jst_ne, jst_ni, jI_i, jcmp_lt, jcmp_gt, w32_id, jcpy_out, Sum.elim_inl, Sum.elim_inr, jt2, jt3, jt4, jt5, jt6, jt7, jt8] at c4
          obtain ⟨_, g0, g1, g2, g3, g4⟩ := bg3.resolve_left (fun q => c4 q.1)
          have G : ∀ a s, ¬ (a = 200 ∧ s = 55) → ¬ (a = 434 ∧ s = 7) → ¬ (a = 436 ∧ h 434 5 ≤ s ∧ s < h 434 5 + 3) → h11 a s = h a s := fun a s x y z => by rw [g4 _ _ y z, jst_o x]
          have K440 : h11 440 = h 440 := funext fun s => G _ _ (by omega) (by omega) (by omega)
          have K425 : h11 425 = h 425 := funext fun s => G _ _ (by omega) (by omega) (by omega)
          have K0 := G 424 0 (by omega) (by omega) (by omega)
          have K5 := G 434 5 (by omega) (by omega) (by omega)
          have K6 := G 434 6 (by omega) (by omega) (by omega)
          refine OK_if (fun c5 => ?_) (fun c5 => ?_)
          · skip
            try simp (disch := omega) only [jst_eq, jst_ne, jst_ni, jI_i, jcmp_lt, jcmp_gt, w32_id, jcpy_out, Sum.elim_inl, Sum.elim_inr, jt2, jt3, jt4, jt5, jt6, jt7, jt8] at c5
            refine OK_mono (vX1_word_j75 _ _ _ (by (rw [K440]; exact hk)) (by (first | assumption | omega | ((try dsimp only [jt2, jt3, jt4]); first | omega | (simp (disch := omega) only [jst_eq, jst_ne, jst_ni, jst_o, jI_i, jcpy_out, w32_id, jdiv_nn, jshr_k, jand_255] <;> first | done | omega | assumption)) | (intros; simp (disch := omega) only [jst_eq, jst_ne, jst_ni, jst_o, jI_i, jcpy_out, w32_id, jdiv_nn, *] <;> first | done | omega) | (intros; simp (disch := omega) only [jst_eq, jst_ne, jst_ni, jst_o, jI_i, jcpy_out, w32_id, jdiv_nn] at * <;> first | done | omega | assumption) | (intros; first | rfl | (exfalso; omega) | ((repeat' apply And.intro) <;> first | assumption | rfl | omega | trivial)))) (by (rw [K440, K425, K0]; exact ⟨iw, by omega, hn2.2.1, by omega, by omega⟩)) (by (rw [K5]; exact ⟨by omega, by omega, g1⟩)) (by (rw [K6]; exact hc))) (fun r r4 => ?_)
            obtain ⟨y1, y2⟩ := r
            try dsimp only [Sum.elim_inl, Sum.elim_inr, jt2, jt3, jt4, jt5, jt6, jt7, jt8] at r4
            obtain ⟨v4, n4, w4, z4, r04, r14, fr4⟩ := r4
            try simp (disch := omega) only [jst_eq, jst_ne, jst_ni, jI_i, jcmp_lt, jcmp_gt, w32_id, jcpy_out, Sum.elim_inl, Sum.elim_inr, jt2, jt3, jt4, jt5, jt6, jt7, jt8] at v4
            try simp (disch := omega) only [jst_eq, jst_ne, jst_ni, jI_i, jcmp_lt, jcmp_gt, w32_id, jcpy_out, Sum.elim_inl, Sum.elim_inr, jt2, jt3, jt4, jt5, jt6, jt7, jt8] at n4
            try simp (disch := omega) only [jst_eq, jst_ne, jst_ni, jI_i, jcmp_lt, jcmp_gt, w32_id, jcpy_out, Sum.elim_inl, Sum.elim_inr, jt2, jt3, jt4, jt5, jt6, jt7, jt8] at w4
            try simp (disch := omega) only [jst_eq, jst_ne, jst_ni, jI_i, jcmp_lt, jcmp_gt, w32_id, jcpy_out, Sum.elim_inl, Sum.elim_inr, jt2, jt3, jt4, jt5, jt6, jt7, jt8] at z4
            try simp (disch := omega) only [jst_eq, jst_ne, jst_ni, jI_i, jcmp_lt, jcmp_gt, w32_id, jcpy_out, Sum.elim_inl, Sum.elim_inr, jt2, jt3, jt4, jt5, jt6, jt7, jt8] at r04
            try simp (disch := omega) only [jst_eq, jst_ne, jst_ni, jI_i, jcmp_lt, jcmp_gt, w32_id, jcpy_out, Sum.elim_inl, Sum.elim_inr, jt2, jt3, jt4, jt5, jt6, jt7, jt8] at r14
            try simp (disch := omega) only [jst_eq, jst_ne, jst_ni, jI_i, jcmp_lt, jcmp_gt, w32_id, jcpy_out, Sum.elim_inl, Sum.elim_inr, jt2, jt3, jt4, jt5, jt6, jt7, jt8] at fr4
            try dsimp only [Sum.elim_inl, Sum.elim_inr, jt2, jt3, jt4, jt5, jt6, jt7, jt8]
            try dsimp only [Sum.elim_inl, Sum.elim_inr, jt2, jt3, jt4, jt5, jt6, jt7, jt8]
            refine ⟨?_, ?_, ?_, ?_, ?_, ?_⟩
            · (first | assumption | omega | ((try dsimp only [jt2, jt3, jt4]); first | omega | (simp (disch := omega) only [jst_eq, jst_ne, jst_ni, jst_o, jI_i, jcpy_out, w32_id, jdiv_nn, jshr_k, jand_255] <;> first | done | omega | assumption)) | (intros; simp (disch := omega) only [jst_eq, jst_ne, jst_ni, jst_o, jI_i, jcpy_out, w32_id, jdiv_nn, *] <;> first | done | omega) | (intros; simp (disch := omega) only [jst_eq, jst_ne, jst_ni, jst_o, jI_i, jcpy_out, w32_id, jdiv_nn] at * <;> first | done | omega | assumption) | (intros; first | rfl | (exfalso; omega) | ((repeat' apply And.intro) <;> first | assumption | rfl | omega | trivial))) -- o23 e3.1
            · (intro _ z; exact absurd iw z) -- o24 e3.2
            · (intro _ _ k k0 k1 k2 k3; exact absurd k2 (hn2.2.1 k k0 k1)) -- o25 e3.3
            · (intro _ _ _ z; exfalso; unfold rmX at z; rcases z with z | z; { omega }; { exact z (by omega) }) -- o26 e3.4
            · (intro _ _ _ _ _; refine ⟨by omega, by omega, ?_, ?_, by omega, by omega, ?_, ?_, ?_, ?_, ?_⟩; { rw [← K0, ← K440]; exact w4.1 }; { rw [← K0]; exact w4.2 }; { rw [fr4 _ _ (by omega) (by omega) (by omega) (by omega)]; omega }; { rw [fr4 _ _ (by omega) (by omega) (by omega) (by omega)]; omega }; { rw [fr4 _ _ (by omega) (by omega) (by omega) (by omega)]; omega }; { rw [← K5]; omega }; { intro k k0 k1; rw [← K5, ← K440]; exact r14 k k0 k1 }) -- o27 e3.5
            · (intro a s z z1 z2 z3 z4; rw [fr4 _ _ (by omega) (by omega) (by omega) (by omega)]; exact G _ _ z (by omega) (by omega)) -- o28 e3.6
          · skip
            try simp (disch := omega) only [jst_eq, jst_ne, jst_ni, jI_i, jcmp_lt, jcmp_gt, w32_id, jcpy_out, Sum.elim_inl, Sum.elim_inr, jt2, jt3, jt4, jt5, jt6, jt7, jt8] at c5
            refine OK_mono (vX1_word_j75 _ _ _ (by (rw [K440]; exact hk)) (by (first | assumption | omega | ((try dsimp only [jt2, jt3, jt4]); first | omega | (simp (disch := omega) only [jst_eq, jst_ne, jst_ni, jst_o, jI_i, jcpy_out, w32_id, jdiv_nn, jshr_k, jand_255] <;> first | done | omega | assumption)) | (intros; simp (disch := omega) only [jst_eq, jst_ne, jst_ni, jst_o, jI_i, jcpy_out, w32_id, jdiv_nn, *] <;> first | done | omega) | (intros; simp (disch := omega) only [jst_eq, jst_ne, jst_ni, jst_o, jI_i, jcpy_out, w32_id, jdiv_nn] at * <;> first | done | omega | assumption) | (intros; first | rfl | (exfalso; omega) | ((repeat' apply And.intro) <;> first | assumption | rfl | omega | trivial)))) (by (rw [K440, K425, K0]; exact ⟨iw, by omega, hn2.2.1, by omega, by omega⟩)) (by (rw [K5]; exact ⟨by omega, by omega, g1⟩)) (by (rw [K6]; exact hc))) (fun r r5 => ?_)
            obtain ⟨y3, y4⟩ := r
            try dsimp only [Sum.elim_inl, Sum.elim_inr, jt2, jt3, jt4, jt5, jt6, jt7, jt8] at r5
            obtain ⟨v5, n5, w5, z5, r05, r15, fr5⟩ := r5
            try simp (disch := omega) only [jst_eq, jst_ne, jst_ni, jI_i, jcmp_lt, jcmp_gt, w32_id, jcpy_out, Sum.elim_inl, Sum.elim_inr, jt2, jt3, jt4, jt5, jt6, jt7, jt8] at v5
            try simp (disch := omega) only [jst_eq, jst_ne, jst_ni, jI_i, jcmp_lt, jcmp_gt, w32_id, jcpy_out, Sum.elim_inl, Sum.elim_inr, jt2, jt3, jt4, jt5, jt6, jt7, jt8] at n5
            try simp (disch := omega) only [jst_eq, jst_ne, jst_ni, jI_i, jcmp_lt, jcmp_gt, w32_id, jcpy_out, Sum.elim_inl, Sum.elim_inr, jt2, jt3, jt4, jt5, jt6, jt7, jt8] at w5
            try simp (disch := omega) only [jst_eq, jst_ne, jst_ni, jI_i, jcmp_lt, jcmp_gt, w32_id, jcpy_out, Sum.elim_inl, Sum.elim_inr, jt2, jt3, jt4, jt5, jt6, jt7, jt8] at z5
            try simp (disch := omega) only [jst_eq, jst_ne, jst_ni, jI_i, jcmp_lt, jcmp_gt, w32_id, jcpy_out, Sum.elim_inl, Sum.elim_inr, jt2, jt3, jt4, jt5, jt6, jt7, jt8] at r05
            try simp (disch := omega) only [jst_eq, jst_ne, jst_ni, jI_i, jcmp_lt, jcmp_gt, w32_id, jcpy_out, Sum.elim_inl, Sum.elim_inr, jt2, jt3, jt4, jt5, jt6, jt7, jt8] at r15
            try simp (disch := omega) only [jst_eq, jst_ne, jst_ni, jI_i, jcmp_lt, jcmp_gt, w32_id, jcpy_out, Sum.elim_inl, Sum.elim_inr, jt2, jt3, jt4, jt5, jt6, jt7, jt8] at fr5
            try dsimp only [Sum.elim_inl, Sum.elim_inr, jt2, jt3, jt4, jt5, jt6, jt7, jt8]
            try dsimp only [Sum.elim_inl, Sum.elim_inr, jt2, jt3, jt4, jt5, jt6, jt7, jt8]
            refine ⟨?_, ?_, ?_, ?_, ?_, ?_⟩
            · (first | assumption | omega | ((try dsimp only [jt2, jt3, jt4]); first | omega | (simp (disch := omega) only [jst_eq, jst_ne, jst_ni, jst_o, jI_i, jcpy_out, w32_id, jdiv_nn, jshr_k, jand_255] <;> first | done | omega | assumption)) | (intros; simp (disch := omega) only [jst_eq, jst_ne, jst_ni, jst_o, jI_i, jcpy_out, w32_id, jdiv_nn, *] <;> first | done | omega) | (intros; simp (disch := omega) only [jst_eq, jst_ne, jst_ni, jst_o, jI_i, jcpy_out, w32_id, jdiv_nn] at * <;> first | done | omega | assumption) | (intros; first | rfl | (exfalso; omega) | ((repeat' apply And.intro) <;> first | assumption | rfl | omega | trivial))) -- o34 e4.1
            · (intro _ z; exact absurd iw z) -- o35 e4.2
            · (intro _ _ k k0 k1 k2 k3; exact absurd k2 (hn2.2.1 k k0 k1)) -- o36 e4.3
            · (intro _ _ _ z; exfalso; unfold rmX at z; rcases z with z | z; { omega }; { exact z (by omega) }) -- o37 e4.4
            · (intro _ _ _ _ _; refine ⟨by omega, by omega, ?_, ?_, by omega, by omega, ?_, ?_, ?_, ?_, ?_⟩; { rw [← K0, ← K440]; exact w5.1 }; { rw [← K0]; exact w5.2 }; { rw [fr5 _ _ (by omega) (by omega) (by omega) (by omega)]; omega }; { rw [fr5 _ _ (by omega) (by omega) (by omega) (by omega)]; omega }; { rw [fr5 _ _ (by omega) (by omega) (by omega) (by omega)]; omega }; { rw [← K5]; omega }; { intro k k0 k1; rw [← K5, ← K440]; exact r15 k k0 k1 }) -- o38 e4.5
            · (intro a s z z1 z2 z3 z4; rw [fr5 _ _ (by omega) (by omega) (by omega) (by omega)]; exact G _ _ z (by omega) (by omega)) -- o39 e4.6
    · skip
      try simp (disch := omega) only [jst_eq, jst_ne, jst_ni, jI_i, jcmp_lt, jcmp_gt, w32_id, jcpy_out, Sum.elim_inl, Sum.elim_inr, jt2, jt3, jt4, jt5, jt6, jt7, jt8] at c2
      refine OK_some ?_
      try dsimp only [Sum.elim_inl, Sum.elim_inr, jt2, jt3, jt4, jt5, jt6, jt7, jt8]
      try dsimp only [Sum.elim_inl, Sum.elim_inr, jt2, jt3, jt4, jt5, jt6, jt7, jt8]
      refine ⟨?_, ?_, ?_, ?_, ?_, ?_⟩
      · (first | assumption | omega | ((try dsimp only [jt2, jt3, jt4]); first | omega | (simp (disch := omega) only [jst_eq, jst_ne, jst_ni, jst_o, jI_i, jcpy_out, w32_id, jdiv_nn, jshr_k, jand_255] <;> first | done | omega | assumption)) | (intros; simp (disch := omega) only [jst_eq, jst_ne, jst_ni, jst_o, jI_i, jcpy_out, w32_id, jdiv_nn, *] <;> first | done | omega) | (intros; simp (disch := omega) only [jst_eq, jst_ne, jst_ni, jst_o, jI_i, jcpy_out, w32_id, jdiv_nn] at * <;> first | done | omega | assumption) | (intros; first | rfl | (exfalso; omega) | ((repeat' apply And.intro) <;> first | assumption | rfl | omega | trivial))) -- o40 e5.1
      · (intro _ z; exact ⟨bad2 z, rfl⟩) -- o41 e5.2
      · (intro _ iw k k0 k1 k2 k3; have q := hit2 iw k k0 k1 k2 k3; by_cases z : h 426 k = a1; { rw [if_pos z] at q; omega }; { rw [if_neg z] at q ⊢; exact ⟨q, rfl⟩ }) -- o42 e5.3
      · (intro _ iw nf z; have q := miss2 iw nf; by_cases z2 : h 424 0 = 20; { rw [if_pos z2] at q; exact ⟨q, rfl⟩ }; { rw [if_neg z2] at q; omega }) -- o43 e5.4
      · (intro _ iw nf z _; have q := miss2 iw nf; rw [if_neg (by omega)] at q; omega) -- o44 e5.5
      · (intro a s z _ _ _ _; exact jst_o z) -- o45 e5.6
  · skip
    try simp (disch := omega) only [jst_eq, jst_ne, jst_ni, jI_i, jcmp_lt, jcmp_gt, w32_id, jcpy_out, Sum.elim_inl, Sum.elim_inr, jt2, jt3, jt4, jt5, jt6, jt7, jt8] at c1
    refine OK_some ?_
    try dsimp only [Sum.elim_inl, Sum.elim_inr, jt2, jt3, jt4, jt5, jt6, jt7, jt8]
    try dsimp only [Sum.elim_inl, Sum.elim_inr, jt2, jt3, jt4, jt5, jt6, jt7, jt8]
    refine ⟨?_, ?_, ?_, ?_, ?_, ?_⟩
    · (first | assumption | omega | ((try dsimp only [jt2, jt3, jt4]); first | omega | (simp (disch := omega) only [jst_eq, jst_ne, jst_ni, jst_o, jI_i, jcpy_out, w32_id, jdiv_nn, jshr_k, jand_255] <;> first | done | omega | assumption)) | (intros; simp (disch := omega) only [jst_eq, jst_ne, jst_ni, jst_o, jI_i, jcpy_out, w32_id, jdiv_nn, *] <;> first | done | omega) | (intros; simp (disch := omega) only [jst_eq, jst_ne, jst_ni, jst_o, jI_i, jcpy_out, w32_id, jdiv_nn] at * <;> first | done | omega | assumption) | (intros; first | rfl | (exfalso; omega) | ((repeat' apply And.intro) <;> first | assumption | rfl | omega | trivial))) -- o46 e6.1
    · (first | assumption | omega | ((try dsimp only [jt2, jt3, jt4]); first | omega | (simp (disch := omega) only [jst_eq, jst_ne, jst_ni, jst_o, jI_i, jcpy_out, w32_id, jdiv_nn, jshr_k, jand_255] <;> first | done | omega | assumption)) | (intros; simp (disch := omega) only [jst_eq, jst_ne, jst_ni, jst_o, jI_i, jcpy_out, w32_id, jdiv_nn, *] <;> first | done | omega) | (intros; simp (disch := omega) only [jst_eq, jst_ne, jst_ni, jst_o, jI_i, jcpy_out, w32_id, jdiv_nn] at * <;> first | done | omega | assumption) | (intros; first | rfl | (exfalso; omega) | ((repeat' apply And.intro) <;> first | assumption | rfl | omega | trivial))) -- o47 e6.2
    · (first | assumption | omega | ((try dsimp only [jt2, jt3, jt4]); first | omega | (simp (disch := omega) only [jst_eq, jst_ne, jst_ni, jst_o, jI_i, jcpy_out, w32_id, jdiv_nn, jshr_k, jand_255] <;> first | done | omega | assumption)) | (intros; simp (disch := omega) only [jst_eq, jst_ne, jst_ni, jst_o, jI_i, jcpy_out, w32_id, jdiv_nn, *] <;> first | done | omega) | (intros; simp (disch := omega) only [jst_eq, jst_ne, jst_ni, jst_o, jI_i, jcpy_out, w32_id, jdiv_nn] at * <;> first | done | omega | assumption) | (intros; first | rfl | (exfalso; omega) | ((repeat' apply And.intro) <;> first | assumption | rfl | omega | trivial))) -- o48 e6.3
    · (first | assumption | omega | ((try dsimp only [jt2, jt3, jt4]); first | omega | (simp (disch := omega) only [jst_eq, jst_ne, jst_ni, jst_o, jI_i, jcpy_out, w32_id, jdiv_nn, jshr_k, jand_255] <;> first | done | omega | assumption)) | (intros; simp (disch := omega) only [jst_eq, jst_ne, jst_ni, jst_o, jI_i, jcpy_out, w32_id, jdiv_nn, *] <;> first | done | omega) | (intros; simp (disch := omega) only [jst_eq, jst_ne, jst_ni, jst_o, jI_i, jcpy_out, w32_id, jdiv_nn] at * <;> first | done | omega | assumption) | (intros; first | rfl | (exfalso; omega) | ((repeat' apply And.intro) <;> first | assumption | rfl | omega | trivial))) -- o49 e6.4
    · (first | assumption | omega | ((try dsimp only [jt2, jt3, jt4]); first | omega | (simp (disch := omega) only [jst_eq, jst_ne, jst_ni, jst_o, jI_i, jcpy_out, w32_id, jdiv_nn, jshr_k, jand_255] <;> first | done | omega | assumption)) | (intros; simp (disch := omega) only [jst_eq, jst_ne, jst_ni, jst_o, jI_i, jcpy_out, w32_id, jdiv_nn, *] <;> first | done | omega) | (intros; simp (disch := omega) only [jst_eq, jst_ne, jst_ni, jst_o, jI_i, jcpy_out, w32_id, jdiv_nn] at * <;> first | done | omega | assumption) | (intros; first | rfl | (exfalso; omega) | ((repeat' apply And.intro) <;> first | assumption | rfl | omega | trivial))) -- o50 e6.5
    · (first | assumption | omega | ((try dsimp only [jt2, jt3, jt4]); first | omega | (simp (disch := omega) only [jst_eq, jst_ne, jst_ni, jst_o, jI_i, jcpy_out, w32_id, jdiv_nn, jshr_k, jand_255] <;> first | done | omega | assumption)) | (intros; simp (disch := omega) only [jst_eq, jst_ne, jst_ni, jst_o, jI_i, jcpy_out, w32_id, jdiv_nn, *] <;> first | done | omega) | (intros; simp (disch := omega) only [jst_eq, jst_ne, jst_ni, jst_o, jI_i, jcpy_out, w32_id, jdiv_nn] at * <;> first | done | omega | assumption) | (intros; first | rfl | (exfalso; omega) | ((repeat' apply And.intro) <;> first | assumption | rfl | omega | trivial))) -- o51 e6.6

