/-! m: an ask is read: its points, and whole -/
theorem vX14_readAsk_j262_210 (a1 : Int) (a3 : Int) (a4 : Int) (t0 : Int) (t1 : Int) (t2 : Int) {h : AH} (ar : h t0 (-2) = 101 ∧ 200 ≤ t0 ∧ 0 ≤ t1 ∧ t1 < h t0 (-1)) (b : 0 ≤ a4 ∧ a4 < 100) : OK (gX14_readAsk_j262_210 a1 a3 a4 t0 t1 t2 h) (Sum.elim (fun r => jt2 r fun y h' => y = a4 + 1 ∧ h' = jst h t0 t1 t2) (fun h' => (0 : Int) = 1)) := by
  unfold gX14_readAsk_j262_210
  refine OK_jg (by (first | assumption | omega | ((try dsimp only [jt2, jt3, jt4]); first | omega | (simp (disch := omega) only [jst_eq, jst_ne, jst_ni, jst_o, jI_i, jcpy_out, w32_id, jdiv_nn, jshr_k, jand_255] <;> first | done | omega | assumption)) | (intros; simp (disch := omega) only [jst_eq, jst_ne, jst_ni, jst_o, jI_i, jcpy_out, w32_id, jdiv_nn, *] <;> first | done | omega) | (intros; simp (disch := omega) only [jst_eq, jst_ne, jst_ni, jst_o, jI_i, jcpy_out, w32_id, jdiv_nn] at * <;> first | done | omega | assumption) | (intros; first | rfl | (exfalso; omega) | ((repeat' apply And.intro) <;> first | assumption | rfl | omega | trivial)))) ?_ -- o1
  refine OK_jl ?_
  refine OK_jlx (fun x84 ex84 => ?_)
  try simp (disch := omega) only [jst_eq, jst_ne, jst_ni, jI_i, jcmp_lt, jcmp_gt, w32_id, jcpy_out, Sum.elim_inl, Sum.elim_inr, jt2, jt3, jt4, jt5, jt6, jt7, jt8] at ex84
  refine OK_some ?_
  try dsimp only [Sum.elim_inl, Sum.elim_inr, jt2, jt3, jt4, jt5, jt6, jt7, jt8]
  (first | assumption | omega | ((try dsimp only [jt2, jt3, jt4]); first | omega | (simp (disch := omega) only [jst_eq, jst_ne, jst_ni, jst_o, jI_i, jcpy_out, w32_id, jdiv_nn, jshr_k, jand_255] <;> first | done | omega | assumption)) | (intros; simp (disch := omega) only [jst_eq, jst_ne, jst_ni, jst_o, jI_i, jcpy_out, w32_id, jdiv_nn, *] <;> first | done | omega) | (intros; simp (disch := omega) only [jst_eq, jst_ne, jst_ni, jst_o, jI_i, jcpy_out, w32_id, jdiv_nn] at * <;> first | done | omega | assumption) | (intros; first | rfl | (exfalso; omega) | ((repeat' apply And.intro) <;> first | assumption | rfl | omega | trivial))) -- o2 e1
/-- a value of a point at m -/
def pnM (h : AH) (a : Int) (ks : List Int) (p k : Int) : Int := if h a 17 = 0 then h (a + 5) (3 * p + k) else vaT (kL ks) (ks.length : Int) p k
theorem vX14_readAsk_l210 (i1 : Int) (i3 : Int) (a40 : Int) {h0 : AH} {ks : List Int} {g : Int → Int} (lo : isX16 i1 ∧ 0 ≤ i3 ∧ i3 < 256 ∧ a40 = 0) (kd : (h0 (i1 + 1) (-2) = 101 ∧ h0 (i1 + 1) (-1) = 3) ∧ (h0 (i1 + 11) (-2) = 101 ∧ h0 (i1 + 11) (-1) = 768) ∧ h0 i1 3 = (ks.length : Int) ∧ ks.length ≤ 3 ∧ kC h0 (i1 + 1) ks) (vv : ∀ q, 0 ≤ q → q < 3 → pnM h0 i1 ks i3 q = g q) (rm : h0 i1 17 = 0 → i3 < 12) : OK (gX14_readAsk_l210 i1 i3 a40 h0) (fun h' => (∀ q, 0 ≤ q → q < 3 → h' (i1 + 11) (3 * i3 + q) = g q) ∧ (∀ b s, ¬ (b = i1 + 11 ∧ 3 * i3 ≤ s ∧ s < 3 * i3 + 3) → h' b s = h0 b s)) := by
  have LA : i1 = 476 ∨ i1 = 615 := lo.1
  unfold gX14_readAsk_l210
  refine OK_jit (I := (fun (s : Int × AH) => jt2 s fun a4 h => (0 ≤ a4 ∧ a4 ≤ 3) ∧ (∀ q, 0 ≤ q → q < a4 → h (i1 + 11) (3 * i3 + q) = g q) ∧ (∀ b s, ¬ (b = i1 + 11 ∧ 3 * i3 ≤ s ∧ s < 3 * i3 + 3) → h b s = h0 b s))) (m := (fun (s : Int × AH) => jt2 s fun a4 h => (3 - a4).toNat)) ?_ ?_
  · intro s hs
    obtain ⟨a4, h⟩ := s
    dsimp only [Sum.elim_inl, Sum.elim_inr, jt2, jt3, jt4, jt5, jt6, jt7, jt8] at hs
    obtain ⟨q0, q1, fr⟩ := hs
    unfold gX14_readAsk_b210
    refine OK_jt2 ?_
    have E17 : h i1 17 = h0 i1 17 := fr _ _ (by omega)
    have E3 : h i1 3 = (ks.length : Int) := (fr _ _ (by omega)).trans kd.2.2.1
    have A11 : h (i1 + 11) (-2) = 101 ∧ h (i1 + 11) (-1) = 768 := by { rw [fr _ _ (by omega), fr _ _ (by omega)]; exact kd.2.1 }
    have A1 : h (i1 + 1) (-2) = 101 ∧ h (i1 + 1) (-1) = 3 := by { rw [fr _ _ (by omega), fr _ _ (by omega)]; exact kd.1 }
    have W1 : w32 (w32 (3 * i3) + a4) = 3 * i3 + a4 := by { rw [w32_id (x := 3 * i3) (by omega) (by omega)]; exact w32_id (by omega) (by omega) }
    have ST : ∀ (v : Int) (y : Int) (h' : AH), a4 < 3 → v = g a4 → (y = a4 + 1 ∧ h' = jst h (i1 + 11) (3 * i3 + a4) v) → (0 ≤ y ∧ y ≤ 3) ∧ (∀ q, 0 ≤ q → q < y → h' (i1 + 11) (3 * i3 + q) = g q) ∧ (∀ b s, ¬ (b = i1 + 11 ∧ 3 * i3 ≤ s ∧ s < 3 * i3 + 3) → h' b s = h0 b s) := fun v y h' a3 ve z => by { obtain ⟨z1, z2⟩ := z; refine ⟨by omega, fun q q00 q01 => ?_, fun b s w => ?_⟩; { rw [z2]; by_cases c : q = a4; { rw [c, jst_eq]; exact ve }; { rw [jst_o (by omega)]; exact q1 q q00 (by omega) } }; { rw [z2, jst_o (by omega)]; exact fr b s w } }
    refine OK_if (fun c1 => ?_) (fun c1 => ?_)
    · skip
      try simp (disch := omega) only [jst_eq, jst_ne, jst_ni, jI_i, jcmp_lt, jcmp_gt, w32_id, jcpy_out, Sum.elim_inl, Sum.elim_inr, jt2, jt3, jt4, jt5, jt6, jt7, jt8] at c1
      refine OK_ir ?_
      try dsimp only [Sum.elim_inl, Sum.elim_inr, jt2, jt3, jt4, jt5, jt6, jt7, jt8]
      refine ⟨?_, ?_⟩
      · exact fun q z0 z1 => q1 q z0 (by omega) -- o1 e1.1
      · (first | assumption | omega | ((try dsimp only [jt2, jt3, jt4]); first | omega | (simp (disch := omega) only [jst_eq, jst_ne, jst_ni, jst_o, jI_i, jcpy_out, w32_id, jdiv_nn, jshr_k, jand_255] <;> first | done | omega | assumption)) | (intros; simp (disch := omega) only [jst_eq, jst_ne, jst_ni, jst_o, jI_i, jcpy_out, w32_id, jdiv_nn, *] <;> first | done | omega) | (intros; simp (disch := omega) only [jst_eq, jst_ne, jst_ni, jst_o, jI_i, jcpy_out, w32_id, jdiv_nn] at * <;> first | done | omega | assumption) | (intros; first | rfl | (exfalso; omega) | ((repeat' apply And.intro) <;> first | assumption | rfl | omega | trivial))) -- o2 e1.2
    · skip
      try simp (disch := omega) only [jst_eq, jst_ne, jst_ni, jI_i, jcmp_lt, jcmp_gt, w32_id, jcpy_out, Sum.elim_inl, Sum.elim_inr, jt2, jt3, jt4, jt5, jt6, jt7, jt8] at c1
      rw [W1]
      refine OK_if (fun c2 => ?_) (fun c2 => ?_)
      · skip
        try simp (disch := omega) only [jst_eq, jst_ne, jst_ni, jI_i, jcmp_lt, jcmp_gt, w32_id, jcpy_out, Sum.elim_inl, Sum.elim_inr, jt2, jt3, jt4, jt5, jt6, jt7, jt8] at c2
        have VE : h (i1 + 5) (3 * i3 + a4) = g a4 := by { rw [fr _ _ (by omega), ← vv a4 q0.1 (by omega)]; unfold pnM; rw [if_pos (E17.symm.trans c2)] }
        have i12 := rm (E17.symm.trans c2)
        refine OK_jg (by (first | assumption | omega | ((try dsimp only [jt2, jt3, jt4]); first | omega | (simp (disch := omega) only [jst_eq, jst_ne, jst_ni, jst_o, jI_i, jcpy_out, w32_id, jdiv_nn, jshr_k, jand_255] <;> first | done | omega | assumption)) | (intros; simp (disch := omega) only [jst_eq, jst_ne, jst_ni, jst_o, jI_i, jcpy_out, w32_id, jdiv_nn, *] <;> first | done | omega) | (intros; simp (disch := omega) only [jst_eq, jst_ne, jst_ni, jst_o, jI_i, jcpy_out, w32_id, jdiv_nn] at * <;> first | done | omega | assumption) | (intros; first | rfl | (exfalso; omega) | ((repeat' apply And.intro) <;> first | assumption | rfl | omega | trivial)))) ?_ -- o3
        refine OK_mono (vX14_readAsk_j262_210 _ _ _ _ _ _ (by exact ⟨A11.1, by omega, by omega, by rw [A11.2]; omega⟩) (by omega)) (fun r r1 => ?_)
        rcases r with r | r
        · skip
          have r2 := r1; clear r1; dsimp only [Sum.elim_inl, Sum.elim_inr] at r2
          obtain ⟨y1, y2⟩ := r
          try dsimp only [Sum.elim_inl, Sum.elim_inr, jt2, jt3, jt4, jt5, jt6, jt7, jt8] at r2
          have cc1 := r2
          clear r2
          try simp (disch := omega) only [jst_eq, jst_ne, jst_ni, jI_i, jcmp_lt, jcmp_gt, w32_id, jcpy_out, Sum.elim_inl, Sum.elim_inr, jt2, jt3, jt4, jt5, jt6, jt7, jt8] at cc1
          try dsimp only [Sum.elim_inl, Sum.elim_inr, jt2, jt3, jt4, jt5, jt6, jt7, jt8]
          refine ⟨?_, ?_⟩
          · try dsimp only [Sum.elim_inl, Sum.elim_inr, jt2, jt3, jt4, jt5, jt6, jt7, jt8]
            refine ⟨?_, ?_, ?_⟩
            · exact (ST _ _ _ (by omega) VE cc1).1 -- o6 e2i.1
            · exact (ST _ _ _ (by omega) VE cc1).2.1 -- o7 e2i.2
            · exact (ST _ _ _ (by omega) VE cc1).2.2 -- o8 e2i.3
          · (have := cc1.1; omega) -- o9 e2m
        · skip
          have r3 := r1; clear r1; dsimp only [Sum.elim_inl, Sum.elim_inr] at r3
          try dsimp only [Sum.elim_inl, Sum.elim_inr, jt2, jt3, jt4, jt5, jt6, jt7, jt8] at r3
          have no2 := r3
          clear r3
          try simp (disch := omega) only [jst_eq, jst_ne, jst_ni, jI_i, jcmp_lt, jcmp_gt, w32_id, jcpy_out, Sum.elim_inl, Sum.elim_inr, jt2, jt3, jt4, jt5, jt6, jt7, jt8] at no2
          try dsimp only [Sum.elim_inl, Sum.elim_inr, jt2, jt3, jt4, jt5, jt6, jt7, jt8]
          exact absurd no2 (by decide) -- e3
      · skip
        try simp (disch := omega) only [jst_eq, jst_ne, jst_ni, jI_i, jcmp_lt, jcmp_gt, w32_id, jcpy_out, Sum.elim_inl, Sum.elim_inr, jt2, jt3, jt4, jt5, jt6, jt7, jt8] at c2
        refine OK_jb (vX14_valueAt (n := (ks.length : Int)) (kf := kL ks) _ _ _ _ _ (by exact ⟨A1.1, by decide, by decide, by rw [A1.2]; omega, E3, by omega, by omega⟩) (by (intro k k0 k1; rw [Int.zero_add, fr _ _ (by omega)]; exact kd.2.2.2.2 k k0 k1)) (by omega)) (fun v82 r4 => ?_)
        try dsimp only [Sum.elim_inl, Sum.elim_inr, jt2, jt3, jt4, jt5, jt6, jt7, jt8] at r4
        have vv3 := r4
        clear r4
        try simp (disch := omega) only [jst_eq, jst_ne, jst_ni, jI_i, jcmp_lt, jcmp_gt, w32_id, jcpy_out, Sum.elim_inl, Sum.elim_inr, jt2, jt3, jt4, jt5, jt6, jt7, jt8] at vv3
        have VE : v82 = g a4 := by { rw [vv3, ← vv a4 q0.1 (by omega)]; unfold pnM; rw [if_neg (fun z => c2 (E17.trans z))] }
        refine OK_mono (vX14_readAsk_j262_210 _ _ _ _ _ _ (by exact ⟨A11.1, by omega, by omega, by rw [A11.2]; omega⟩) (by omega)) (fun r r5 => ?_)
        rcases r with r | r
        · skip
          have r6 := r5; clear r5; dsimp only [Sum.elim_inl, Sum.elim_inr] at r6
          obtain ⟨y3, y4⟩ := r
          try dsimp only [Sum.elim_inl, Sum.elim_inr, jt2, jt3, jt4, jt5, jt6, jt7, jt8] at r6
          have cc4 := r6
          clear r6
          try simp (disch := omega) only [jst_eq, jst_ne, jst_ni, jI_i, jcmp_lt, jcmp_gt, w32_id, jcpy_out, Sum.elim_inl, Sum.elim_inr, jt2, jt3, jt4, jt5, jt6, jt7, jt8] at cc4
          try dsimp only [Sum.elim_inl, Sum.elim_inr, jt2, jt3, jt4, jt5, jt6, jt7, jt8]
          refine ⟨?_, ?_⟩
          · try dsimp only [Sum.elim_inl, Sum.elim_inr, jt2, jt3, jt4, jt5, jt6, jt7, jt8]
            refine ⟨?_, ?_, ?_⟩
            · exact (ST _ _ _ (by omega) VE cc4).1 -- o15 e4i.1
            · exact (ST _ _ _ (by omega) VE cc4).2.1 -- o16 e4i.2
            · exact (ST _ _ _ (by omega) VE cc4).2.2 -- o17 e4i.3
          · (have := cc4.1; omega) -- o18 e4m
        · skip
          have r7 := r5; clear r5; dsimp only [Sum.elim_inl, Sum.elim_inr] at r7
          try dsimp only [Sum.elim_inl, Sum.elim_inr, jt2, jt3, jt4, jt5, jt6, jt7, jt8] at r7
          have no5 := r7
          clear r7
          try simp (disch := omega) only [jst_eq, jst_ne, jst_ni, jI_i, jcmp_lt, jcmp_gt, w32_id, jcpy_out, Sum.elim_inl, Sum.elim_inr, jt2, jt3, jt4, jt5, jt6, jt7, jt8] at no5
          try dsimp only [Sum.elim_inl, Sum.elim_inr, jt2, jt3, jt4, jt5, jt6, jt7, jt8]
          exact absurd no5 (by decide) -- e5
  · try dsimp only [Sum.elim_inl, Sum.elim_inr, jt2, jt3, jt4, jt5, jt6, jt7, jt8]
    refine ⟨?_, ?_, ?_⟩
    · omega -- o19 init.1
    · (intro q z0 z1; omega) -- o20 init.2
    · exact fun _ _ _ => rfl -- o21 init.3
theorem vX14_readAsk_l199 (i1 : Int) (a30 : Int) {h0 : AH} {ks : List Int} {P : Int} (lo : isX16 i1 ∧ h0 i1 18 = P ∧ 0 ≤ P ∧ P ≤ 256 ∧ a30 = 0) (kd : (h0 (i1 + 1) (-2) = 101 ∧ h0 (i1 + 1) (-1) = 3) ∧ (h0 (i1 + 11) (-2) = 101 ∧ h0 (i1 + 11) (-1) = 768) ∧ h0 i1 3 = (ks.length : Int) ∧ ks.length ≤ 3 ∧ kC h0 (i1 + 1) ks) (rm : h0 i1 17 = 0 → P ≤ 12) : OK (gX14_readAsk_l199 i1 a30 h0) (fun h' => (∀ p q, 0 ≤ p → p < P → 0 ≤ q → q < 3 → h' (i1 + 11) (3 * p + q) = pnM h0 i1 ks p q) ∧ (∀ b s, ¬ (b = i1 + 11 ∧ 0 ≤ s) → h' b s = h0 b s)) := by
  have LA : i1 = 476 ∨ i1 = 615 := lo.1
  unfold gX14_readAsk_l199
  refine OK_jit (I := (fun (s : Int × AH) => jt2 s fun a3 h => (0 ≤ a3 ∧ a3 ≤ P) ∧ (∀ p q, 0 ≤ p → p < a3 → 0 ≤ q → q < 3 → h (i1 + 11) (3 * p + q) = pnM h0 i1 ks p q) ∧ (∀ b s, ¬ (b = i1 + 11 ∧ 0 ≤ s) → h b s = h0 b s))) (m := (fun (s : Int × AH) => jt2 s fun a3 h => (P - a3).toNat)) ?_ ?_
  · intro s hs
    obtain ⟨a3, h⟩ := s
    dsimp only [Sum.elim_inl, Sum.elim_inr, jt2, jt3, jt4, jt5, jt6, jt7, jt8] at hs
    obtain ⟨q0, q1, fr⟩ := hs
    unfold gX14_readAsk_b199
    refine OK_jt2 ?_
    have E18 : h i1 18 = P := (fr _ _ (by omega)).trans lo.2.1
    refine OK_if (fun c1 => ?_) (fun c1 => ?_)
    · skip
      try simp (disch := omega) only [jst_eq, jst_ne, jst_ni, jI_i, jcmp_lt, jcmp_gt, w32_id, jcpy_out, Sum.elim_inl, Sum.elim_inr, jt2, jt3, jt4, jt5, jt6, jt7, jt8] at c1
      refine OK_ir ?_
      try dsimp only [Sum.elim_inl, Sum.elim_inr, jt2, jt3, jt4, jt5, jt6, jt7, jt8]
      refine ⟨?_, ?_⟩
      · exact fun p q z0 z1 => q1 p q z0 (by omega) -- o1 e1.1
      · (first | assumption | omega | ((try dsimp only [jt2, jt3, jt4]); first | omega | (simp (disch := omega) only [jst_eq, jst_ne, jst_ni, jst_o, jI_i, jcpy_out, w32_id, jdiv_nn, jshr_k, jand_255] <;> first | done | omega | assumption)) | (intros; simp (disch := omega) only [jst_eq, jst_ne, jst_ni, jst_o, jI_i, jcpy_out, w32_id, jdiv_nn, *] <;> first | done | omega) | (intros; simp (disch := omega) only [jst_eq, jst_ne, jst_ni, jst_o, jI_i, jcpy_out, w32_id, jdiv_nn] at * <;> first | done | omega | assumption) | (intros; first | rfl | (exfalso; omega) | ((repeat' apply And.intro) <;> first | assumption | rfl | omega | trivial))) -- o2 e1.2
    · skip
      try simp (disch := omega) only [jst_eq, jst_ne, jst_ni, jI_i, jcmp_lt, jcmp_gt, w32_id, jcpy_out, Sum.elim_inl, Sum.elim_inr, jt2, jt3, jt4, jt5, jt6, jt7, jt8] at c1
      refine OK_jb (vX14_readAsk_l210 (ks := ks) (g := pnM h0 i1 ks a3) _ _ _ (by exact ⟨lo.1, q0.1, by omega, rfl⟩) (by (rw [fr _ _ (by omega), fr _ _ (by omega), fr _ _ (by omega), fr _ _ (by omega), fr _ _ (by omega)]; exact ⟨kd.1, kd.2.1, kd.2.2.1, kd.2.2.2.1, fun k k0 k1 => by rw [fr _ _ (by omega)]; exact kd.2.2.2.2 k k0 k1⟩)) (by (intro q z0 z1; unfold pnM; rw [fr _ _ (by omega), fr _ _ (by omega)])) (by (rw [fr _ _ (by omega)]; intro z; have := rm z; omega))) (fun o76 r1 => ?_)
      try dsimp only [Sum.elim_inl, Sum.elim_inr, jt2, jt3, jt4, jt5, jt6, jt7, jt8] at r1
      obtain ⟨v1, fr1⟩ := r1
      try simp (disch := omega) only [jst_eq, jst_ne, jst_ni, jI_i, jcmp_lt, jcmp_gt, w32_id, jcpy_out, Sum.elim_inl, Sum.elim_inr, jt2, jt3, jt4, jt5, jt6, jt7, jt8] at v1
      try simp (disch := omega) only [jst_eq, jst_ne, jst_ni, jI_i, jcmp_lt, jcmp_gt, w32_id, jcpy_out, Sum.elim_inl, Sum.elim_inr, jt2, jt3, jt4, jt5, jt6, jt7, jt8] at fr1
      refine OK_jlx (fun x78 ex78 => ?_)
      try simp (disch := omega) only [jst_eq, jst_ne, jst_ni, jI_i, jcmp_lt, jcmp_gt, w32_id, jcpy_out, Sum.elim_inl, Sum.elim_inr, jt2, jt3, jt4, jt5, jt6, jt7, jt8] at ex78
      refine OK_il ?_ ?_
      · try dsimp only [Sum.elim_inl, Sum.elim_inr, jt2, jt3, jt4, jt5, jt6, jt7, jt8]
        refine ⟨?_, ?_, ?_⟩
        · omega -- o7 e2i.1
        · (intro p q z0 z1 z2 z3; by_cases c : p = a3; { rw [c]; exact v1 q z2 z3 }; { rw [fr1 _ _ (by omega)]; exact q1 p q z0 (by omega) z2 z3 }) -- o8 e2i.2
        · exact fun b s y => (fr1 b s (by omega)).trans (fr b s y) -- o9 e2i.3
      · (dsimp only [jt2]; omega) -- o10 e2m
  · try dsimp only [Sum.elim_inl, Sum.elim_inr, jt2, jt3, jt4, jt5, jt6, jt7, jt8]
    refine ⟨?_, ?_, ?_⟩
    · omega -- o11 init.1
    · (intro p q z0 z1; omega) -- o12 init.2
    · exact fun _ _ _ => rfl -- o13 init.3
/-- points at m -/
def ptM (h h' : AH) (a : Int) (ks : List Int) (al pts : Int) : Prop := h' a 17 = al ∧ h' a 18 = pts ∧ (∀ p q, 0 ≤ p → p < pts → 0 ≤ q → q < 3 → h' (a + 11) (3 * p + q) = if al = 0 then h (a + 5) (3 * p + q) else vaT (kL ks) (ks.length : Int) p q) ∧ h' a 20 = 0 ∧ h' a 26 = 0 ∧ h' a 27 = 100
def frPt (a : Int) (h h' : AH) : Prop := ∀ b s, ¬ (b = a ∧ (s = 17 ∨ s = 18 ∨ s = 20 ∨ s = 26 ∨ s = 27)) → ¬ (b = a + 11 ∧ 0 ≤ s) → h' b s = h b s
theorem vX14_readAsk_j194 (a1 : Int) (t0 : Int) (t1 : Int) {h : AH} {ks : List Int} (lo : isX16 a1 ∧ t0 = a1 ∧ 0 ≤ t1 ∧ t1 ≤ 256) (kd : (h (a1 + 1) (-2) = 101 ∧ h (a1 + 1) (-1) = 3) ∧ (h (a1 + 11) (-2) = 101 ∧ h (a1 + 11) (-1) = 768) ∧ h a1 3 = (ks.length : Int) ∧ ks.length ≤ 3 ∧ kC h (a1 + 1) ks) (rm : h a1 17 = 0 → t1 ≤ 12) : OK (gX14_readAsk_j194 a1 t0 t1 h) (fun r => jt2 r fun t h' => (t = 0) ∧ (ptM h h' a1 ks (h a1 17) t1) ∧ (frPt a1 h h')) := by
  have LA : a1 = 476 ∨ a1 = 615 := lo.1
  obtain ⟨lo1, lo2, lo3, lo4⟩ := lo
  subst lo2
  unfold gX14_readAsk_j194
  refine OK_jl ?_
  have F69 : ∀ b s, ¬ (b = t0 ∧ s = 18) → jst h t0 18 t1 b s = h b s := fun b s y => jst_o y
  have V69 : jst h t0 18 t1 t0 18 = t1 := jst_eq
  generalize jst h t0 18 t1 = g69 at *
  refine OK_jb (vX14_readAsk_l199 (ks := ks) (P := t1) _ _ (by exact ⟨lo1, V69, lo3, lo4, rfl⟩) (by (rw [F69 _ _ (by omega), F69 _ _ (by omega), F69 _ _ (by omega), F69 _ _ (by omega), F69 _ _ (by omega)]; exact ⟨kd.1, kd.2.1, kd.2.2.1, kd.2.2.2.1, fun k k0 k1 => by rw [F69 _ _ (by omega)]; exact kd.2.2.2.2 k k0 k1⟩)) (by (rw [F69 _ _ (by omega)]; exact rm))) (fun o70 r1 => ?_)
  try dsimp only [Sum.elim_inl, Sum.elim_inr, jt2, jt3, jt4, jt5, jt6, jt7, jt8] at r1
  obtain ⟨v1, fr1⟩ := r1
  try simp (disch := omega) only [jst_eq, jst_ne, jst_ni, jI_i, jcmp_lt, jcmp_gt, w32_id, jcpy_out, Sum.elim_inl, Sum.elim_inr, jt2, jt3, jt4, jt5, jt6, jt7, jt8] at v1
  try simp (disch := omega) only [jst_eq, jst_ne, jst_ni, jI_i, jcmp_lt, jcmp_gt, w32_id, jcpy_out, Sum.elim_inl, Sum.elim_inr, jt2, jt3, jt4, jt5, jt6, jt7, jt8] at fr1
  refine OK_jl ?_
  refine OK_jl ?_
  refine OK_jl ?_
  refine OK_some ?_
  try dsimp only [Sum.elim_inl, Sum.elim_inr, jt2, jt3, jt4, jt5, jt6, jt7, jt8]
  have F3 : ∀ b s, ¬ (b = t0 ∧ (s = 20 ∨ s = 26 ∨ s = 27)) → jst (jst (jst o70 t0 20 0) t0 26 0) t0 27 100 b s = o70 b s := fun b s y => by { rw [jst_o (by omega), jst_o (by omega), jst_o (by omega)] }
  try dsimp only [Sum.elim_inl, Sum.elim_inr, jt2, jt3, jt4, jt5, jt6, jt7, jt8]
  refine ⟨?_, ?_, ?_⟩
  · (first | assumption | omega | ((try dsimp only [jt2, jt3, jt4]); first | omega | (simp (disch := omega) only [jst_eq, jst_ne, jst_ni, jst_o, jI_i, jcpy_out, w32_id, jdiv_nn, jshr_k, jand_255] <;> first | done | omega | assumption)) | (intros; simp (disch := omega) only [jst_eq, jst_ne, jst_ni, jst_o, jI_i, jcpy_out, w32_id, jdiv_nn, *] <;> first | done | omega) | (intros; simp (disch := omega) only [jst_eq, jst_ne, jst_ni, jst_o, jI_i, jcpy_out, w32_id, jdiv_nn] at * <;> first | done | omega | assumption) | (intros; first | rfl | (exfalso; omega) | ((repeat' apply And.intro) <;> first | assumption | rfl | omega | trivial))) -- o4 e1.1
  · (refine ⟨?_, ?_, ?_, ?_, ?_, ?_⟩; { rw [F3 _ _ (by omega), fr1 _ _ (by omega), F69 _ _ (by omega)] }; { rw [F3 _ _ (by omega), fr1 _ _ (by omega)]; exact V69 }; { intro p q z0 z1 z2 z3; rw [F3 _ _ (by omega), v1 p q z0 z1 z2 z3]; unfold pnM; rw [F69 _ _ (by omega), F69 _ _ (by omega)] }; { rw [jst_o (by omega), jst_o (by omega)]; exact jst_eq }; { rw [jst_o (by omega)]; exact jst_eq }; { exact jst_eq }) -- o5 e1.2
  · exact fun b s y1 y2 => (F3 b s (by omega)).trans ((fr1 b s y2).trans (F69 b s (by omega))) -- o6 e1.3
theorem vX14_readAsk_j175 (a1 : Int) (a2 : Int) (t0 : Int) (t1 : Int) {h : AH} {ks : List Int} {m : Int} (lo : isX16 a1 ∧ t0 = a1 ∧ (t1 = 0 ∨ t1 = 1) ∧ h a1 9 = m ∧ 0 ≤ m ∧ m ≤ 12 ∧ 0 ≤ a2 ∧ (t1 = 1 → a2 ≤ 256)) (kd : (h (a1 + 1) (-2) = 101 ∧ h (a1 + 1) (-1) = 3) ∧ (h (a1 + 11) (-2) = 101 ∧ h (a1 + 11) (-1) = 768) ∧ h a1 3 = (ks.length : Int) ∧ ks.length ≤ 3 ∧ kC h (a1 + 1) ks) : OK (gX14_readAsk_j175 a1 a2 t0 t1 h) (fun r => jt2 r fun t h' => (t = 0) ∧ (ptM h h' a1 ks t1 (if t1 = 0 then m else a2)) ∧ (frPt a1 h h')) := by
  have LA : a1 = 476 ∨ a1 = 615 := lo.1
  obtain ⟨lo1, lo2, lo3, lo4, lo5, lo6, lo7, lo8⟩ := lo
  subst lo2
  unfold gX14_readAsk_j175
  refine OK_jg (by (unfold jZ; omega)) ?_ -- o1
  refine OK_jl ?_
  have F67 : ∀ b s, ¬ (b = t0 ∧ s = 17) → jst h t0 17 t1 b s = h b s := fun b s y => jst_o y
  have V67 : jst h t0 17 t1 t0 17 = t1 := jst_eq
  generalize jst h t0 17 t1 = g67 at *
  have KD : (g67 (t0 + 1) (-2) = 101 ∧ g67 (t0 + 1) (-1) = 3) ∧ (g67 (t0 + 11) (-2) = 101 ∧ g67 (t0 + 11) (-1) = 768) ∧ g67 t0 3 = (ks.length : Int) ∧ ks.length ≤ 3 ∧ kC g67 (t0 + 1) ks := by { rw [F67 _ _ (by omega), F67 _ _ (by omega), F67 _ _ (by omega), F67 _ _ (by omega), F67 _ _ (by omega)]; exact ⟨kd.1, kd.2.1, kd.2.2.1, kd.2.2.2.1, fun k k0 k1 => by rw [F67 _ _ (by omega)]; exact kd.2.2.2.2 k k0 k1⟩ }
  have E9 : g67 t0 9 = m := (F67 _ _ (by omega)).trans lo4
  refine OK_if (fun c1 => ?_) (fun c1 => ?_)
  · skip
    try simp (disch := omega) only [jst_eq, jst_ne, jst_ni, jI_i, jcmp_lt, jcmp_gt, w32_id, jcpy_out, Sum.elim_inl, Sum.elim_inr, jt2, jt3, jt4, jt5, jt6, jt7, jt8] at c1
    refine OK_mono (vX14_readAsk_j194 (ks := ks) _ _ _ (by exact ⟨lo1, rfl, by rw [E9]; exact lo5, by rw [E9]; omega⟩) (by exact KD) (by (intro _; rw [E9]; exact lo6))) (fun r r1 => ?_)
    obtain ⟨y1, y2⟩ := r
    try dsimp only [Sum.elim_inl, Sum.elim_inr, jt2, jt3, jt4, jt5, jt6, jt7, jt8] at r1
    obtain ⟨t01, pt1, fr1⟩ := r1
    try simp (disch := omega) only [jst_eq, jst_ne, jst_ni, jI_i, jcmp_lt, jcmp_gt, w32_id, jcpy_out, Sum.elim_inl, Sum.elim_inr, jt2, jt3, jt4, jt5, jt6, jt7, jt8] at t01
    try simp (disch := omega) only [jst_eq, jst_ne, jst_ni, jI_i, jcmp_lt, jcmp_gt, w32_id, jcpy_out, Sum.elim_inl, Sum.elim_inr, jt2, jt3, jt4, jt5, jt6, jt7, jt8] at pt1
    try simp (disch := omega) only [jst_eq, jst_ne, jst_ni, jI_i, jcmp_lt, jcmp_gt, w32_id, jcpy_out, Sum.elim_inl, Sum.elim_inr, jt2, jt3, jt4, jt5, jt6, jt7, jt8] at fr1
    try dsimp only [Sum.elim_inl, Sum.elim_inr, jt2, jt3, jt4, jt5, jt6, jt7, jt8]
    have Z : t1 = 0 := V67.symm.trans c1
    try dsimp only [Sum.elim_inl, Sum.elim_inr, jt2, jt3, jt4, jt5, jt6, jt7, jt8]
    refine ⟨?_, ?_, ?_⟩
    · (first | assumption | omega | ((try dsimp only [jt2, jt3, jt4]); first | omega | (simp (disch := omega) only [jst_eq, jst_ne, jst_ni, jst_o, jI_i, jcpy_out, w32_id, jdiv_nn, jshr_k, jand_255] <;> first | done | omega | assumption)) | (intros; simp (disch := omega) only [jst_eq, jst_ne, jst_ni, jst_o, jI_i, jcpy_out, w32_id, jdiv_nn, *] <;> first | done | omega) | (intros; simp (disch := omega) only [jst_eq, jst_ne, jst_ni, jst_o, jI_i, jcpy_out, w32_id, jdiv_nn] at * <;> first | done | omega | assumption) | (intros; first | rfl | (exfalso; omega) | ((repeat' apply And.intro) <;> first | assumption | rfl | omega | trivial))) -- o5 e1.1
    · (rw [V67, E9] at pt1; rw [if_pos Z]; obtain ⟨p1, p2, p3, p4⟩ := pt1; exact ⟨p1, p2, fun p q z0 z1 z2 z3 => by (rw [p3 p q z0 z1 z2 z3, F67 _ _ (by omega)]), p4⟩) -- o6 e1.2
    · exact fun b s y1 y2 => (fr1 b s y1 y2).trans (F67 b s (by omega)) -- o7 e1.3
  · skip
    try simp (disch := omega) only [jst_eq, jst_ne, jst_ni, jI_i, jcmp_lt, jcmp_gt, w32_id, jcpy_out, Sum.elim_inl, Sum.elim_inr, jt2, jt3, jt4, jt5, jt6, jt7, jt8] at c1
    refine OK_mono (vX14_readAsk_j194 (ks := ks) _ _ _ (by exact ⟨lo1, rfl, lo7, lo8 (by omega)⟩) (by exact KD) (by exact fun z => absurd z c1)) (fun r r2 => ?_)
    obtain ⟨y3, y4⟩ := r
    try dsimp only [Sum.elim_inl, Sum.elim_inr, jt2, jt3, jt4, jt5, jt6, jt7, jt8] at r2
    obtain ⟨t02, pt2, fr2⟩ := r2
    try simp (disch := omega) only [jst_eq, jst_ne, jst_ni, jI_i, jcmp_lt, jcmp_gt, w32_id, jcpy_out, Sum.elim_inl, Sum.elim_inr, jt2, jt3, jt4, jt5, jt6, jt7, jt8] at t02
    try simp (disch := omega) only [jst_eq, jst_ne, jst_ni, jI_i, jcmp_lt, jcmp_gt, w32_id, jcpy_out, Sum.elim_inl, Sum.elim_inr, jt2, jt3, jt4, jt5, jt6, jt7, jt8] at pt2
    try simp (disch := omega) only [jst_eq, jst_ne, jst_ni, jI_i, jcmp_lt, jcmp_gt, w32_id, jcpy_out, Sum.elim_inl, Sum.elim_inr, jt2, jt3, jt4, jt5, jt6, jt7, jt8] at fr2
    try dsimp only [Sum.elim_inl, Sum.elim_inr, jt2, jt3, jt4, jt5, jt6, jt7, jt8]
    have Z : ¬ t1 = 0 := fun z => c1 (V67.trans z)
    try dsimp only [Sum.elim_inl, Sum.elim_inr, jt2, jt3, jt4, jt5, jt6, jt7, jt8]
    refine ⟨?_, ?_, ?_⟩
    · (first | assumption | omega | ((try dsimp only [jt2, jt3, jt4]); first | omega | (simp (disch := omega) only [jst_eq, jst_ne, jst_ni, jst_o, jI_i, jcpy_out, w32_id, jdiv_nn, jshr_k, jand_255] <;> first | done | omega | assumption)) | (intros; simp (disch := omega) only [jst_eq, jst_ne, jst_ni, jst_o, jI_i, jcpy_out, w32_id, jdiv_nn, *] <;> first | done | omega) | (intros; simp (disch := omega) only [jst_eq, jst_ne, jst_ni, jst_o, jI_i, jcpy_out, w32_id, jdiv_nn] at * <;> first | done | omega | assumption) | (intros; first | rfl | (exfalso; omega) | ((repeat' apply And.intro) <;> first | assumption | rfl | omega | trivial))) -- o11 e2.1
    · (rw [V67] at pt2; rw [if_neg Z]; obtain ⟨p1, p2, p3, p4⟩ := pt2; exact ⟨p1, p2, fun p q z0 z1 z2 z3 => by (rw [p3 p q z0 z1 z2 z3, F67 _ _ (by omega)]), p4⟩) -- o12 e2.2
    · exact fun b s y1 y2 => (fr2 b s y1 y2).trans (F67 b s (by omega)) -- o13 e2.3

