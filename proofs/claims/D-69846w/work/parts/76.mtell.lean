/-! m: a term is told -/
/-- what is found: m -/
def fdM (h : AH) (cA : Int → Int) (R : TR) (pts kd n : Int) (kf vv : Int → Int) : Prop := h 454 56 = 7600 ∧ resQ h (rgN 7600 (sz R)) R 7600 0 ∧ (h 454 62 = ((txT cA (fun _ => 0) R).length : Nat) ∧ ∀ i : Nat, i < (txT cA (fun _ => 0) R).length → h 793 i = (txT cA (fun _ => 0) R).getD i 0) ∧ (h 454 60 = pts ∧ ∀ p, 0 ≤ p → p < pts → h 792 p = vv p) ∧ (inf R).2.2.1 = kd ∧ h 454 58 = n ∧ ∀ k, 0 ≤ k → k < n → h 791 k = kch (kf k)
def fV (h h' : AH) : Prop := ∀ a s, ¬ (a = 454 ∧ (s = 17 ∨ s = 19 ∨ s = 20 ∨ s = 21 ∨ s = 22 ∨ s = 56 ∨ s = 58 ∨ s = 60 ∨ s = 62)) → ¬ (460 ≤ a ∧ a ≤ 469 ∧ a ≠ 464 ∧ 7600 ≤ s ∧ s < 8200) → ¬ (a = 464 ∧ 22800 ≤ s ∧ s < 24600) → ¬ (a = 471 ∧ 0 ≤ s) → ¬ (a = 754 ∧ 0 ≤ s) → ¬ (791 ≤ a ∧ a ≤ 793 ∧ 0 ≤ s) → h' a s = h a s
theorem fV_A {h h' : AH} (f : fV h h') : agN h h' ∧ agT h h' := ⟨fun a s y => by unfold mA at y; exact f a s (by omega) (by omega) (by omega) (by omega) (by omega) (by omega), fun a s y => by unfold tA at y; exact f a s (by omega) (by omega) (by omega) (by omega) (by omega) (by omega)⟩
theorem vX14_tell_l31 (a20 : Int) {h0 : AH} {n : Int} {kf : Int → Int} (x : isX16 (h0 454 38) ∧ n ≤ 3 ∧ ∀ k, 0 ≤ k → k < n → h0 (h0 454 38 + 1) k = kch (kf k)) (z : a20 = 0) : OK (gX14_tell_l31 a20 h0) (fun h' => (∀ k, 0 ≤ k → k < n → h' 791 k = kch (kf k)) ∧ (∀ a s, ¬ (a = 791 ∧ 0 ≤ s) → h' a s = h0 a s)) := by
  unfold gX14_tell_l31
  refine OK_jit (I := (fun (s : Int × AH) => jt2 s fun a2 h => (0 ≤ a2 ∧ a2 ≤ 3) ∧ (∀ k, 0 ≤ k → k < a2 → k < n → h 791 k = kch (kf k)) ∧ (∀ a s, ¬ (a = 791 ∧ 0 ≤ s) → h a s = h0 a s))) (m := (fun (s : Int × AH) => jt2 s fun a2 h => (3 - a2).toNat)) ?_ ?_
  · intro s hs
    obtain ⟨a2, h⟩ := s
    dsimp only [Sum.elim_inl, Sum.elim_inr, jt2, jt3, jt4, jt5, jt6, jt7, jt8] at hs
    obtain ⟨q0, q1, fr⟩ := hs
    unfold gX14_tell_b31
    refine OK_jt2 ?_
    have xx : h0 454 38 = 476 ∨ h0 454 38 = 615 := x.1
    have e38 : h 454 38 = h0 454 38 := fr _ _ (by omega)
    have x16 : isX16 (h 454 38) := by { rw [e38]; exact x.1 }
    have ck : a2 < n → h (h 454 38 + 1) a2 = kch (kf a2) := fun y => by { rw [e38, fr _ _ (by omega)]; exact x.2.2 a2 q0.1 y }
    refine OK_if (fun c1 => ?_) (fun c1 => ?_)
    · skip
      try simp (disch := omega) only [jst_eq, jst_ne, jst_ni, jI_i, jcmp_lt, jcmp_gt, w32_id, jcpy_out, Sum.elim_inl, Sum.elim_inr, jt2, jt3, jt4, jt5, jt6, jt7, jt8] at c1
      refine OK_ir ?_
      try dsimp only [Sum.elim_inl, Sum.elim_inr, jt2, jt3, jt4, jt5, jt6, jt7, jt8]
      refine ⟨?_, ?_⟩
      · (intro k k0 k1; exact q1 k k0 (by omega) k1) -- o1 e1.1
      · exact fr -- o2 e1.2
    · skip
      try simp (disch := omega) only [jst_eq, jst_ne, jst_ni, jI_i, jcmp_lt, jcmp_gt, w32_id, jcpy_out, Sum.elim_inl, Sum.elim_inr, jt2, jt3, jt4, jt5, jt6, jt7, jt8] at c1
      refine OK_jg (by (first | assumption | omega | ((try dsimp only [jt2, jt3, jt4]); first | omega | (simp (disch := omega) only [jst_eq, jst_ne, jst_ni, jst_o, jI_i, jcpy_out, w32_id, jdiv_nn, jshr_k, jand_255] <;> first | done | omega | assumption)) | (intros; simp (disch := omega) only [jst_eq, jst_ne, jst_ni, jst_o, jI_i, jcpy_out, w32_id, jdiv_nn, *] <;> first | done | omega) | (intros; simp (disch := omega) only [jst_eq, jst_ne, jst_ni, jst_o, jI_i, jcpy_out, w32_id, jdiv_nn] at * <;> first | done | omega | assumption) | (intros; first | rfl | (exfalso; omega) | ((repeat' apply And.intro) <;> first | assumption | rfl | omega | trivial)))) ?_ -- o3
      refine OK_jg (by (first | assumption | omega | ((try dsimp only [jt2, jt3, jt4]); first | omega | (simp (disch := omega) only [jst_eq, jst_ne, jst_ni, jst_o, jI_i, jcpy_out, w32_id, jdiv_nn, jshr_k, jand_255] <;> first | done | omega | assumption)) | (intros; simp (disch := omega) only [jst_eq, jst_ne, jst_ni, jst_o, jI_i, jcpy_out, w32_id, jdiv_nn, *] <;> first | done | omega) | (intros; simp (disch := omega) only [jst_eq, jst_ne, jst_ni, jst_o, jI_i, jcpy_out, w32_id, jdiv_nn] at * <;> first | done | omega | assumption) | (intros; first | rfl | (exfalso; omega) | ((repeat' apply And.intro) <;> first | assumption | rfl | omega | trivial)))) ?_ -- o4
      refine OK_jl ?_
      refine OK_jlx (fun x22 ex22 => ?_)
      try simp (disch := omega) only [jst_eq, jst_ne, jst_ni, jI_i, jcmp_lt, jcmp_gt, w32_id, jcpy_out, Sum.elim_inl, Sum.elim_inr, jt2, jt3, jt4, jt5, jt6, jt7, jt8] at ex22
      refine OK_il ?_ ?_
      · try dsimp only [Sum.elim_inl, Sum.elim_inr, jt2, jt3, jt4, jt5, jt6, jt7, jt8]
        refine ⟨?_, ?_, ?_⟩
        · (first | assumption | omega | ((try dsimp only [jt2, jt3, jt4]); first | omega | (simp (disch := omega) only [jst_eq, jst_ne, jst_ni, jst_o, jI_i, jcpy_out, w32_id, jdiv_nn, jshr_k, jand_255] <;> first | done | omega | assumption)) | (intros; simp (disch := omega) only [jst_eq, jst_ne, jst_ni, jst_o, jI_i, jcpy_out, w32_id, jdiv_nn, *] <;> first | done | omega) | (intros; simp (disch := omega) only [jst_eq, jst_ne, jst_ni, jst_o, jI_i, jcpy_out, w32_id, jdiv_nn] at * <;> first | done | omega | assumption) | (intros; first | rfl | (exfalso; omega) | ((repeat' apply And.intro) <;> first | assumption | rfl | omega | trivial))) -- o5 e2i.1
        · (intro k k0 k1 k2; by_cases y : k = a2; { rw [y, jst_eq]; exact ck (by omega) }; { rw [jst_o (by omega)]; exact q1 k k0 (by omega) k2 }) -- o6 e2i.2
        · (intro a s y; rw [jst_o (by omega)]; exact fr a s y) -- o7 e2i.3
      · (first | assumption | omega | ((try dsimp only [jt2, jt3, jt4]); first | omega | (simp (disch := omega) only [jst_eq, jst_ne, jst_ni, jst_o, jI_i, jcpy_out, w32_id, jdiv_nn, jshr_k, jand_255] <;> first | done | omega | assumption)) | (intros; simp (disch := omega) only [jst_eq, jst_ne, jst_ni, jst_o, jI_i, jcpy_out, w32_id, jdiv_nn, *] <;> first | done | omega) | (intros; simp (disch := omega) only [jst_eq, jst_ne, jst_ni, jst_o, jI_i, jcpy_out, w32_id, jdiv_nn] at * <;> first | done | omega | assumption) | (intros; first | rfl | (exfalso; omega) | ((repeat' apply And.intro) <;> first | assumption | rfl | omega | trivial))) -- o8 e2m
  · try dsimp only [Sum.elim_inl, Sum.elim_inr, jt2, jt3, jt4, jt5, jt6, jt7, jt8]
    refine ⟨?_, ?_, ?_⟩
    · (first | assumption | omega | ((try dsimp only [jt2, jt3, jt4]); first | omega | (simp (disch := omega) only [jst_eq, jst_ne, jst_ni, jst_o, jI_i, jcpy_out, w32_id, jdiv_nn, jshr_k, jand_255] <;> first | done | omega | assumption)) | (intros; simp (disch := omega) only [jst_eq, jst_ne, jst_ni, jst_o, jI_i, jcpy_out, w32_id, jdiv_nn, *] <;> first | done | omega) | (intros; simp (disch := omega) only [jst_eq, jst_ne, jst_ni, jst_o, jI_i, jcpy_out, w32_id, jdiv_nn] at * <;> first | done | omega | assumption) | (intros; first | rfl | (exfalso; omega) | ((repeat' apply And.intro) <;> first | assumption | rfl | omega | trivial))) -- o9 init.1
    · (intro k k0 k1; omega) -- o10 init.2
    · exact fun _ _ _ => rfl -- o11 init.3
theorem vX14_tell_l80 (a20 : Int) {h0 : AH} {n : Int} {vv : Int → Int} (x : h0 454 60 = n ∧ 0 ≤ n ∧ n ≤ 256 ∧ ∀ k, 0 ≤ k → k < n → h0 754 k = vv k) (z : a20 = 0) : OK (gX14_tell_l80 a20 h0) (fun h' => (∀ k, 0 ≤ k → k < n → h' 792 k = vv k) ∧ (∀ a s, ¬ (a = 792 ∧ 0 ≤ s) → h' a s = h0 a s)) := by
  unfold gX14_tell_l80
  refine OK_jit (I := (fun (s : Int × AH) => jt2 s fun a2 h => (0 ≤ a2 ∧ a2 ≤ n) ∧ (∀ k, 0 ≤ k → k < a2 → h 792 k = vv k) ∧ (∀ a s, ¬ (a = 792 ∧ 0 ≤ s) → h a s = h0 a s))) (m := (fun (s : Int × AH) => jt2 s fun a2 h => (n - a2).toNat)) ?_ ?_
  · intro s hs
    obtain ⟨a2, h⟩ := s
    dsimp only [Sum.elim_inl, Sum.elim_inr, jt2, jt3, jt4, jt5, jt6, jt7, jt8] at hs
    obtain ⟨q0, q1, fr⟩ := hs
    unfold gX14_tell_b80
    refine OK_jt2 ?_
    have nn : h 454 60 = n := by { rw [fr _ _ (by omega)]; exact x.1 }
    have ck : a2 < n → h 754 a2 = vv a2 := fun y => by { rw [fr _ _ (by omega)]; exact x.2.2.2 a2 q0.1 y }
    refine OK_if (fun c1 => ?_) (fun c1 => ?_)
    · skip
      try simp (disch := omega) only [jst_eq, jst_ne, jst_ni, jI_i, jcmp_lt, jcmp_gt, w32_id, jcpy_out, Sum.elim_inl, Sum.elim_inr, jt2, jt3, jt4, jt5, jt6, jt7, jt8] at c1
      refine OK_ir ?_
      try dsimp only [Sum.elim_inl, Sum.elim_inr, jt2, jt3, jt4, jt5, jt6, jt7, jt8]
      refine ⟨?_, ?_⟩
      · (intro k k0 k1; exact q1 k k0 (by omega)) -- o1 e1.1
      · exact fr -- o2 e1.2
    · skip
      try simp (disch := omega) only [jst_eq, jst_ne, jst_ni, jI_i, jcmp_lt, jcmp_gt, w32_id, jcpy_out, Sum.elim_inl, Sum.elim_inr, jt2, jt3, jt4, jt5, jt6, jt7, jt8] at c1
      refine OK_jg (by (first | assumption | omega | ((try dsimp only [jt2, jt3, jt4]); first | omega | (simp (disch := omega) only [jst_eq, jst_ne, jst_ni, jst_o, jI_i, jcpy_out, w32_id, jdiv_nn, jshr_k, jand_255] <;> first | done | omega | assumption)) | (intros; simp (disch := omega) only [jst_eq, jst_ne, jst_ni, jst_o, jI_i, jcpy_out, w32_id, jdiv_nn, *] <;> first | done | omega) | (intros; simp (disch := omega) only [jst_eq, jst_ne, jst_ni, jst_o, jI_i, jcpy_out, w32_id, jdiv_nn] at * <;> first | done | omega | assumption) | (intros; first | rfl | (exfalso; omega) | ((repeat' apply And.intro) <;> first | assumption | rfl | omega | trivial)))) ?_ -- o3
      refine OK_jl ?_
      refine OK_jlx (fun x25 ex25 => ?_)
      try simp (disch := omega) only [jst_eq, jst_ne, jst_ni, jI_i, jcmp_lt, jcmp_gt, w32_id, jcpy_out, Sum.elim_inl, Sum.elim_inr, jt2, jt3, jt4, jt5, jt6, jt7, jt8] at ex25
      refine OK_il ?_ ?_
      · try dsimp only [Sum.elim_inl, Sum.elim_inr, jt2, jt3, jt4, jt5, jt6, jt7, jt8]
        refine ⟨?_, ?_, ?_⟩
        · (first | assumption | omega | ((try dsimp only [jt2, jt3, jt4]); first | omega | (simp (disch := omega) only [jst_eq, jst_ne, jst_ni, jst_o, jI_i, jcpy_out, w32_id, jdiv_nn, jshr_k, jand_255] <;> first | done | omega | assumption)) | (intros; simp (disch := omega) only [jst_eq, jst_ne, jst_ni, jst_o, jI_i, jcpy_out, w32_id, jdiv_nn, *] <;> first | done | omega) | (intros; simp (disch := omega) only [jst_eq, jst_ne, jst_ni, jst_o, jI_i, jcpy_out, w32_id, jdiv_nn] at * <;> first | done | omega | assumption) | (intros; first | rfl | (exfalso; omega) | ((repeat' apply And.intro) <;> first | assumption | rfl | omega | trivial))) -- o4 e2i.1
        · (intro k k0 k1; by_cases y : k = a2; { rw [y, jst_eq]; exact ck (by omega) }; { rw [jst_o (by omega)]; exact q1 k k0 (by omega) }) -- o5 e2i.2
        · (intro a s y; rw [jst_o (by omega)]; exact fr a s y) -- o6 e2i.3
      · (first | assumption | omega | ((try dsimp only [jt2, jt3, jt4]); first | omega | (simp (disch := omega) only [jst_eq, jst_ne, jst_ni, jst_o, jI_i, jcpy_out, w32_id, jdiv_nn, jshr_k, jand_255] <;> first | done | omega | assumption)) | (intros; simp (disch := omega) only [jst_eq, jst_ne, jst_ni, jst_o, jI_i, jcpy_out, w32_id, jdiv_nn, *] <;> first | done | omega) | (intros; simp (disch := omega) only [jst_eq, jst_ne, jst_ni, jst_o, jI_i, jcpy_out, w32_id, jdiv_nn] at * <;> first | done | omega | assumption) | (intros; first | rfl | (exfalso; omega) | ((repeat' apply And.intro) <;> first | assumption | rfl | omega | trivial))) -- o7 e2m
  · try dsimp only [Sum.elim_inl, Sum.elim_inr, jt2, jt3, jt4, jt5, jt6, jt7, jt8]
    refine ⟨?_, ?_, ?_⟩
    · (first | assumption | omega | ((try dsimp only [jt2, jt3, jt4]); first | omega | (simp (disch := omega) only [jst_eq, jst_ne, jst_ni, jst_o, jI_i, jcpy_out, w32_id, jdiv_nn, jshr_k, jand_255] <;> first | done | omega | assumption)) | (intros; simp (disch := omega) only [jst_eq, jst_ne, jst_ni, jst_o, jI_i, jcpy_out, w32_id, jdiv_nn, *] <;> first | done | omega) | (intros; simp (disch := omega) only [jst_eq, jst_ne, jst_ni, jst_o, jI_i, jcpy_out, w32_id, jdiv_nn] at * <;> first | done | omega | assumption) | (intros; first | rfl | (exfalso; omega) | ((repeat' apply And.intro) <;> first | assumption | rfl | omega | trivial))) -- o8 init.1
    · (intro k k0 k1; omega) -- o9 init.2
    · exact fun _ _ _ => rfl -- o10 init.3
theorem vX14_tell_l120 (a20 : Int) {h0 : AH} {n : Int} {vv : Int → Int} (x : h0 454 62 = n ∧ 0 ≤ n ∧ n ≤ 4000 ∧ ∀ k, 0 ≤ k → k < n → h0 471 k = vv k) (z : a20 = 0) : OK (gX14_tell_l120 a20 h0) (fun h' => (∀ k, 0 ≤ k → k < n → h' 793 k = vv k) ∧ (∀ a s, ¬ (a = 793 ∧ 0 ≤ s) → h' a s = h0 a s)) := by
  unfold gX14_tell_l120
  refine OK_jit (I := (fun (s : Int × AH) => jt2 s fun a2 h => (0 ≤ a2 ∧ a2 ≤ n) ∧ (∀ k, 0 ≤ k → k < a2 → h 793 k = vv k) ∧ (∀ a s, ¬ (a = 793 ∧ 0 ≤ s) → h a s = h0 a s))) (m := (fun (s : Int × AH) => jt2 s fun a2 h => (n - a2).toNat)) ?_ ?_
  · intro s hs
    obtain ⟨a2, h⟩ := s
    dsimp only [Sum.elim_inl, Sum.elim_inr, jt2, jt3, jt4, jt5, jt6, jt7, jt8] at hs
    obtain ⟨q0, q1, fr⟩ := hs
    unfold gX14_tell_b120
    refine OK_jt2 ?_
    have nn : h 454 62 = n := by { rw [fr _ _ (by omega)]; exact x.1 }
    have ck : a2 < n → h 471 a2 = vv a2 := fun y => by { rw [fr _ _ (by omega)]; exact x.2.2.2 a2 q0.1 y }
    refine OK_if (fun c1 => ?_) (fun c1 => ?_)
    · skip
      try simp (disch := omega) only [jst_eq, jst_ne, jst_ni, jI_i, jcmp_lt, jcmp_gt, w32_id, jcpy_out, Sum.elim_inl, Sum.elim_inr, jt2, jt3, jt4, jt5, jt6, jt7, jt8] at c1
      refine OK_ir ?_
      try dsimp only [Sum.elim_inl, Sum.elim_inr, jt2, jt3, jt4, jt5, jt6, jt7, jt8]
      refine ⟨?_, ?_⟩
      · (intro k k0 k1; exact q1 k k0 (by omega)) -- o1 e1.1
      · exact fr -- o2 e1.2
    · skip
      try simp (disch := omega) only [jst_eq, jst_ne, jst_ni, jI_i, jcmp_lt, jcmp_gt, w32_id, jcpy_out, Sum.elim_inl, Sum.elim_inr, jt2, jt3, jt4, jt5, jt6, jt7, jt8] at c1
      refine OK_jg (by (first | assumption | omega | ((try dsimp only [jt2, jt3, jt4]); first | omega | (simp (disch := omega) only [jst_eq, jst_ne, jst_ni, jst_o, jI_i, jcpy_out, w32_id, jdiv_nn, jshr_k, jand_255] <;> first | done | omega | assumption)) | (intros; simp (disch := omega) only [jst_eq, jst_ne, jst_ni, jst_o, jI_i, jcpy_out, w32_id, jdiv_nn, *] <;> first | done | omega) | (intros; simp (disch := omega) only [jst_eq, jst_ne, jst_ni, jst_o, jI_i, jcpy_out, w32_id, jdiv_nn] at * <;> first | done | omega | assumption) | (intros; first | rfl | (exfalso; omega) | ((repeat' apply And.intro) <;> first | assumption | rfl | omega | trivial)))) ?_ -- o3
      refine OK_jl ?_
      refine OK_jlx (fun x28 ex28 => ?_)
      try simp (disch := omega) only [jst_eq, jst_ne, jst_ni, jI_i, jcmp_lt, jcmp_gt, w32_id, jcpy_out, Sum.elim_inl, Sum.elim_inr, jt2, jt3, jt4, jt5, jt6, jt7, jt8] at ex28
      refine OK_il ?_ ?_
      · try dsimp only [Sum.elim_inl, Sum.elim_inr, jt2, jt3, jt4, jt5, jt6, jt7, jt8]
        refine ⟨?_, ?_, ?_⟩
        · (first | assumption | omega | ((try dsimp only [jt2, jt3, jt4]); first | omega | (simp (disch := omega) only [jst_eq, jst_ne, jst_ni, jst_o, jI_i, jcpy_out, w32_id, jdiv_nn, jshr_k, jand_255] <;> first | done | omega | assumption)) | (intros; simp (disch := omega) only [jst_eq, jst_ne, jst_ni, jst_o, jI_i, jcpy_out, w32_id, jdiv_nn, *] <;> first | done | omega) | (intros; simp (disch := omega) only [jst_eq, jst_ne, jst_ni, jst_o, jI_i, jcpy_out, w32_id, jdiv_nn] at * <;> first | done | omega | assumption) | (intros; first | rfl | (exfalso; omega) | ((repeat' apply And.intro) <;> first | assumption | rfl | omega | trivial))) -- o4 e2i.1
        · (intro k k0 k1; by_cases y : k = a2; { rw [y, jst_eq]; exact ck (by omega) }; { rw [jst_o (by omega)]; exact q1 k k0 (by omega) }) -- o5 e2i.2
        · (intro a s y; rw [jst_o (by omega)]; exact fr a s y) -- o6 e2i.3
      · (first | assumption | omega | ((try dsimp only [jt2, jt3, jt4]); first | omega | (simp (disch := omega) only [jst_eq, jst_ne, jst_ni, jst_o, jI_i, jcpy_out, w32_id, jdiv_nn, jshr_k, jand_255] <;> first | done | omega | assumption)) | (intros; simp (disch := omega) only [jst_eq, jst_ne, jst_ni, jst_o, jI_i, jcpy_out, w32_id, jdiv_nn, *] <;> first | done | omega) | (intros; simp (disch := omega) only [jst_eq, jst_ne, jst_ni, jst_o, jI_i, jcpy_out, w32_id, jdiv_nn] at * <;> first | done | omega | assumption) | (intros; first | rfl | (exfalso; omega) | ((repeat' apply And.intro) <;> first | assumption | rfl | omega | trivial))) -- o7 e2m
  · try dsimp only [Sum.elim_inl, Sum.elim_inr, jt2, jt3, jt4, jt5, jt6, jt7, jt8]
    refine ⟨?_, ?_, ?_⟩
    · (first | assumption | omega | ((try dsimp only [jt2, jt3, jt4]); first | omega | (simp (disch := omega) only [jst_eq, jst_ne, jst_ni, jst_o, jI_i, jcpy_out, w32_id, jdiv_nn, jshr_k, jand_255] <;> first | done | omega | assumption)) | (intros; simp (disch := omega) only [jst_eq, jst_ne, jst_ni, jst_o, jI_i, jcpy_out, w32_id, jdiv_nn, *] <;> first | done | omega) | (intros; simp (disch := omega) only [jst_eq, jst_ne, jst_ni, jst_o, jI_i, jcpy_out, w32_id, jdiv_nn] at * <;> first | done | omega | assumption) | (intros; first | rfl | (exfalso; omega) | ((repeat' apply And.intro) <;> first | assumption | rfl | omega | trivial))) -- o8 init.1
    · (intro k k0 k1; omega) -- o9 init.2
    · exact fun _ _ _ => rfl -- o10 init.3
theorem resQ_7 {h h' : AH} {R : TR} {n : Int} {d j : Int} (r : resQ h (rgN 7600 n) R d j) (f : ∀ a s, 460 ≤ a → a ≤ 466 → h' a s = h a s) : resQ h' (rgN 7600 n) R d j := resQ_fr (fun a s a0 a1 _ _ => f a s a0 a1) (fun s j _ _ _ => f 464 _ (by decide) (by decide)) r
theorem vX14_tell (a1 : Int) {h : AH} {E : EV} {Rf : Int → TR} {W : Int → Int → Int → VW} {K : AK} {tp k : Int} {Q : Int → Prop} {R : TR} (ak : akM h E Rf W K tp) (cA : ∀ a, 0 ≤ a → a < E.1.1 → 0 ≤ E.1.2.1 a ∧ E.1.2.1 a < 282429536481) (rt : rwM h Q (-1) (-1) R a1 0) (qn : ∀ x, Q x → ¬ (7600 ≤ x ∧ x < 7600 + sz R)) (ok : okR E (kA K) k R) (sk : 12 * sz R ≤ 4000 ∧ dpT R ≤ 38 ∧ dpE E.1.2.2.2.1 R ≤ 99) : OK (gX14_tell a1 h) (fun h' => (fdM h' E.1.2.1 R (kP K) k (kA K).1 (kA K).2.1 (fun p => (evT W (fun _ _ _ => 0) ((kA K).2.2.1 p) (fun _ => 0) R).1)) ∧ (fV h h') ∧ (akM h' E Rf W K tp)) := by
  have sp := sz_pos R
  have ck := akM_0 ak
  have x0 : h 454 38 = 476 ∨ h 454 38 = 615 := ck.1.1
  have pk := ck.2.1.1
  have dS := dpT_sz R
  have TXN := txT_nh (cA := E.1.2.1) (hl := fun _ => 0) (hl' := fun _ => 0) ok.2.2.1
  unfold gX14_tell
  refine OK_jl ?_
  have F1 : ∀ a s, ¬ (a = 454 ∧ s = 17) → jst h 454 17 7600 a s = h a s := fun a s y => jst_o y
  have K1 : jst h 454 17 7600 454 17 = 7600 := jst_eq
  generalize e1 : jst h 454 17 7600 = g1 at *
  refine OK_jb2 (vX14_copy (Q := Q) (R := R) _ _ _ (by exact rwM_fr (fun a s a0 a1 a2 _ => F1 _ _ (by omega)) (fun s j _ _ _ => F1 _ _ (by omega)) rt) (by (rw [K1]; exact qn)) (by omega) (by exact sk.2.1)) (fun v3 h4 r1 => ?_)
  try dsimp only [Sum.elim_inl, Sum.elim_inr, jt2, jt3, jt4, jt5, jt6, jt7, jt8] at r1
  have po1 := r1
  clear r1
  try simp (disch := omega) only [jst_eq, jst_ne, jst_ni, jI_i, jcmp_lt, jcmp_gt, w32_id, jcpy_out, Sum.elim_inl, Sum.elim_inr, jt2, jt3, jt4, jt5, jt6, jt7, jt8] at po1
  obtain ⟨q1, q2, q3, q4⟩ := (by assumption : poD R g1 v3 h4)
  rw [K1] at q1 q2 q3 q4
  rw [q1] at q3
  have F4 : fV h h4 := fun a s y1 y2 y3 y4 y5 y6 => by { rw [q4 a s (by omega) (by omega) (by omega)]; exact F1 a s (by omega) }
  rw [q1]
  refine OK_jl ?_
  have F5 : ∀ a s, ¬ (a = 454 ∧ s = 56) → jst h4 454 56 7600 a s = h4 a s := fun a s y => jst_o y
  have K5 : jst h4 454 56 7600 454 56 = 7600 := jst_eq
  generalize e5 : jst h4 454 56 7600 = g5 at *
  have r38 : g5 454 38 = h 454 38 := by { rw [F5 _ _ (by omega)]; exact F4 _ _ (by omega) (by omega) (by omega) (by omega) (by omega) (by omega) }
  have r3 : g5 (g5 454 38) 3 = (kA K).1 := by { rw [r38, F5 _ _ (by omega), F4 _ _ (by omega) (by omega) (by omega) (by omega) (by omega) (by omega)]; exact pk.2.1 }
  rw [r3]
  refine OK_jg (by (first | ((unfold isX16; omega)) | (first | assumption | omega | ((try dsimp only [jt2, jt3, jt4]); first | omega | (simp (disch := omega) only [jst_eq, jst_ne, jst_ni, jst_o, jI_i, jcpy_out, w32_id, jdiv_nn, jshr_k, jand_255] <;> first | done | omega | assumption)) | (intros; simp (disch := omega) only [jst_eq, jst_ne, jst_ni, jst_o, jI_i, jcpy_out, w32_id, jdiv_nn, *] <;> first | done | omega) | (intros; simp (disch := omega) only [jst_eq, jst_ne, jst_ni, jst_o, jI_i, jcpy_out, w32_id, jdiv_nn] at * <;> first | done | omega | assumption) | (intros; first | rfl | (exfalso; omega) | ((repeat' apply And.intro) <;> first | assumption | rfl | omega | trivial))))) ?_ -- o5
  refine OK_jl ?_
  have F6 : ∀ a s, ¬ (a = 454 ∧ s = 58) → jst g5 454 58 (kA K).1 a s = g5 a s := fun a s y => jst_o y
  have K6 : jst g5 454 58 (kA K).1 454 58 = (kA K).1 := jst_eq
  generalize e6 : jst g5 454 58 (kA K).1 = g6 at *
  have F6V : fV h g6 := fun a s y1 y2 y3 y4 y5 y6 => by { rw [F6 _ _ (by omega), F5 _ _ (by omega)]; exact F4 a s y1 y2 y3 y4 y5 y6 }
  have A6 := akM_n ak (fV_A F6V).1 ⟨by rw [F6 _ _ (by omega), F5 _ _ (by omega), q4 _ _ (by omega) (by omega) (by omega), F1 _ _ (by omega)]; exact ak.2.1, by unfold b20; rw [F6 _ _ (by omega), F5 _ _ (by omega), q4 _ _ (by omega) (by omega) (by omega), F1 _ _ (by omega)]; exact ak.2.2⟩
  refine OK_jb (vX14_tell_l31 (n := (kA K).1) (kf := (kA K).2.1) _ (by exact ⟨(akM_0 A6).1.1, pk.2.2.2.1, (akM_0 A6).2.1.2.1⟩) (by rfl)) (fun o7 r2 => ?_)
  try dsimp only [Sum.elim_inl, Sum.elim_inr, jt2, jt3, jt4, jt5, jt6, jt7, jt8] at r2
  obtain ⟨kn2, fr2⟩ := r2
  try simp (disch := omega) only [jst_eq, jst_ne, jst_ni, jI_i, jcmp_lt, jcmp_gt, w32_id, jcpy_out, Sum.elim_inl, Sum.elim_inr, jt2, jt3, jt4, jt5, jt6, jt7, jt8] at kn2
  try simp (disch := omega) only [jst_eq, jst_ne, jst_ni, jI_i, jcmp_lt, jcmp_gt, w32_id, jcpy_out, Sum.elim_inl, Sum.elim_inr, jt2, jt3, jt4, jt5, jt6, jt7, jt8] at fr2
  have C7 : ∀ a s, ¬ (a = 791 ∧ 0 ≤ s) → o7 a s = g6 a s := fr2
  have A7 := akM_n A6 (fun a s y => C7 a s (by unfold mA at y; omega)) ⟨by rw [C7 _ _ (by omega)]; exact A6.2.1, by unfold b20; rw [C7 _ _ (by omega)]; exact A6.2.2⟩
  have R7 : resQ o7 (rgN 7600 (sz R)) R 7600 0 := resQ_7 q3 (fun a s a0 a1 => by rw [C7 _ _ (by omega), F6 _ _ (by omega), F5 _ _ (by omega)])
  have K7 : o7 454 56 = 7600 := by { rw [C7 _ _ (by omega), F6 _ _ (by omega)]; exact K5 }
  rw [K7]
  refine OK_jb (vX14_function (E := E) (Rf := Rf) (W := W) (f := fun _ _ _ => 0) (n := (kA K).1) (pts := kP K) (kf := (kA K).2.1) (hl := fun _ => 0) (rw := fun _ => 0) (pv := (kA K).2.2.1) (Rk := fun _ => R) _ _ _ (by exact (akM_0 A7).2.1.1) (by exact seM_en (akM_s A7) _) (by exact fun _ _ => rfl) (by exact fun z => absurd rfl z) (by exact fun k k0 k1 => ⟨resM_vw (resQ_M R7) ok.2.2.1 (Int.le_refl 0), ok.1.1, ok.2.2.2.1, sk.2.2⟩) (by exact fun c c0 c1 => by decide) (by exact A7.2.2)) (fun h10 r3 => ?_)
  try dsimp only [Sum.elim_inl, Sum.elim_inr, jt2, jt3, jt4, jt5, jt6, jt7, jt8] at r3
  obtain ⟨an3, fs3, zs3⟩ := r3
  try simp (disch := omega) only [jst_eq, jst_ne, jst_ni, jI_i, jcmp_lt, jcmp_gt, w32_id, jcpy_out, Sum.elim_inl, Sum.elim_inr, jt2, jt3, jt4, jt5, jt6, jt7, jt8] at an3
  try simp (disch := omega) only [jst_eq, jst_ne, jst_ni, jI_i, jcmp_lt, jcmp_gt, w32_id, jcpy_out, Sum.elim_inl, Sum.elim_inr, jt2, jt3, jt4, jt5, jt6, jt7, jt8] at fs3
  try simp (disch := omega) only [jst_eq, jst_ne, jst_ni, jI_i, jcmp_lt, jcmp_gt, w32_id, jcpy_out, Sum.elim_inl, Sum.elim_inr, jt2, jt3, jt4, jt5, jt6, jt7, jt8] at zs3
  have A10 := akM_n A7 (fun a s y => fs3 a s (by unfold mA at y; omega) (by unfold mA at y; omega)) ⟨zs3.1, zs3.2⟩
  have s38 : h10 454 38 = h 454 38 := by { rw [fs3 _ _ (by omega) (by omega), C7 _ _ (by omega), F6 _ _ (by omega)]; exact r38 }
  have s18 : h10 (h10 454 38) 18 = kP K := (akM_0 A10).2.1.1.2.2.2.2.1
  rw [s18]
  refine OK_jg (by (first | ((unfold isX16; omega)) | (first | assumption | omega | ((try dsimp only [jt2, jt3, jt4]); first | omega | (simp (disch := omega) only [jst_eq, jst_ne, jst_ni, jst_o, jI_i, jcpy_out, w32_id, jdiv_nn, jshr_k, jand_255] <;> first | done | omega | assumption)) | (intros; simp (disch := omega) only [jst_eq, jst_ne, jst_ni, jst_o, jI_i, jcpy_out, w32_id, jdiv_nn, *] <;> first | done | omega) | (intros; simp (disch := omega) only [jst_eq, jst_ne, jst_ni, jst_o, jI_i, jcpy_out, w32_id, jdiv_nn] at * <;> first | done | omega | assumption) | (intros; first | rfl | (exfalso; omega) | ((repeat' apply And.intro) <;> first | assumption | rfl | omega | trivial))))) ?_ -- o15
  refine OK_jl ?_
  have F11 : ∀ a s, ¬ (a = 454 ∧ s = 60) → jst h10 454 60 (kP K) a s = h10 a s := fun a s y => jst_o y
  have K11 : jst h10 454 60 (kP K) 454 60 = kP K := jst_eq
  generalize e11 : jst h10 454 60 (kP K) = g11 at *
  refine OK_jb (vX14_tell_l80 (n := kP K) (vv := fun p => (evT W (fun _ _ _ => 0) ((kA K).2.2.1 p) (fun _ => 0) R).1) _ (by exact ⟨K11, pk.2.2.2.2.2.1, pk.2.2.2.2.2.2.1, fun k k0 k1 => by rw [F11 _ _ (by omega)]; exact an3 k k0 k1⟩) (by rfl)) (fun o12 r4 => ?_)
  try dsimp only [Sum.elim_inl, Sum.elim_inr, jt2, jt3, jt4, jt5, jt6, jt7, jt8] at r4
  obtain ⟨kn4, fr4⟩ := r4
  try simp (disch := omega) only [jst_eq, jst_ne, jst_ni, jI_i, jcmp_lt, jcmp_gt, w32_id, jcpy_out, Sum.elim_inl, Sum.elim_inr, jt2, jt3, jt4, jt5, jt6, jt7, jt8] at kn4
  try simp (disch := omega) only [jst_eq, jst_ne, jst_ni, jI_i, jcmp_lt, jcmp_gt, w32_id, jcpy_out, Sum.elim_inl, Sum.elim_inr, jt2, jt3, jt4, jt5, jt6, jt7, jt8] at fr4
  have C12 : ∀ a s, ¬ (a = 454 ∧ (s = 20 ∨ s = 21 ∨ s = 22 ∨ s = 60)) → ¬ (a = 754 ∧ 0 ≤ s) → ¬ (a = 792 ∧ 0 ≤ s) → o12 a s = o7 a s := fun a s y1 y2 y3 => by { rw [fr4 a s y3, F11 a s (by omega)]; exact fs3 a s (by omega) (by omega) }
  have K12 : o12 454 56 = 7600 := by { rw [C12 _ _ (by omega) (by omega) (by omega)]; exact K7 }
  have R12 : resQ o12 (rgN 7600 (sz R)) R 7600 0 := resQ_7 R7 (fun a s a0 a1 => C12 _ _ (by omega) (by omega) (by omega))
  have A12 := akM_n A7 (fun a s y => C12 a s (by unfold mA at y; omega) (by unfold mA at y; omega) (by unfold mA at y; omega)) ⟨by rw [fr4 _ _ (by omega), F11 _ _ (by omega)]; exact zs3.1, by unfold b20; rw [fr4 _ _ (by omega), F11 _ _ (by omega)]; exact zs3.2⟩
  rw [K12]
  refine OK_jb2 (vX14_textOf (E := E) (hl := fun _ => 0) (R := R) _ (by exact ⟨(akM_0 A12).1.2.1.1, cA⟩) (by exact resQ_M R12) (by exact ok.2.1) (by exact ok.2.2.1) (by omega) (by exact sk.1)) (fun v15 h16 r5 => ?_)
  try dsimp only [Sum.elim_inl, Sum.elim_inr, jt2, jt3, jt4, jt5, jt6, jt7, jt8] at r5
  obtain ⟨vl5, bs5, fr5⟩ := r5
  try simp (disch := omega) only [jst_eq, jst_ne, jst_ni, jI_i, jcmp_lt, jcmp_gt, w32_id, jcpy_out, Sum.elim_inl, Sum.elim_inr, jt2, jt3, jt4, jt5, jt6, jt7, jt8] at vl5
  try simp (disch := omega) only [jst_eq, jst_ne, jst_ni, jI_i, jcmp_lt, jcmp_gt, w32_id, jcpy_out, Sum.elim_inl, Sum.elim_inr, jt2, jt3, jt4, jt5, jt6, jt7, jt8] at bs5
  try simp (disch := omega) only [jst_eq, jst_ne, jst_ni, jI_i, jcmp_lt, jcmp_gt, w32_id, jcpy_out, Sum.elim_inl, Sum.elim_inr, jt2, jt3, jt4, jt5, jt6, jt7, jt8] at fr5
  have TL := tx_len (N := E.1.1) (cA := E.1.2.1) (hl := fun _ => 0) (fun a a0 a1 => (cA a a0 a1).2) 40 (R := R) (by omega) ok.2.1 (resM_n3 (resQ_M R12) (by decide))
  refine OK_jl ?_
  have F17 : ∀ a s, ¬ (a = 454 ∧ s = 62) → jst h16 454 62 v15 a s = h16 a s := fun a s y => jst_o y
  have K17 : jst h16 454 62 v15 454 62 = v15 := jst_eq
  generalize e17 : jst h16 454 62 v15 = g17 at *
  refine OK_jb (vX14_tell_l120 (n := v15) (vv := fun k => h16 471 k) _ (by exact ⟨K17, by omega, by omega, fun k k0 k1 => F17 _ _ (by omega)⟩) (by rfl)) (fun o18 r6 => ?_)
  try dsimp only [Sum.elim_inl, Sum.elim_inr, jt2, jt3, jt4, jt5, jt6, jt7, jt8] at r6
  obtain ⟨kn6, fr6⟩ := r6
  try simp (disch := omega) only [jst_eq, jst_ne, jst_ni, jI_i, jcmp_lt, jcmp_gt, w32_id, jcpy_out, Sum.elim_inl, Sum.elim_inr, jt2, jt3, jt4, jt5, jt6, jt7, jt8] at kn6
  try simp (disch := omega) only [jst_eq, jst_ne, jst_ni, jI_i, jcmp_lt, jcmp_gt, w32_id, jcpy_out, Sum.elim_inl, Sum.elim_inr, jt2, jt3, jt4, jt5, jt6, jt7, jt8] at fr6
  have C18 : ∀ a s, ¬ (a = 454 ∧ (s = 19 ∨ s = 62)) → ¬ (a = 471 ∧ 0 ≤ s) → ¬ (a = 793 ∧ 0 ≤ s) → o18 a s = o12 a s := fun a s y1 y2 y3 => by { rw [fr6 a s y3, F17 a s (by omega)]; exact fr5.2 a s (by omega) y2 }
  have FV : fV h o18 := fun a s y1 y2 y3 y4 y5 y6 => by { rw [C18 a s (by omega) y4 (by omega), C12 a s (by omega) y5 (by omega), C7 a s (by omega)]; exact F6V a s y1 y2 y3 y4 y5 y6 }
  refine OK_some ?_
  try dsimp only [Sum.elim_inl, Sum.elim_inr, jt2, jt3, jt4, jt5, jt6, jt7, jt8]
  try dsimp only [Sum.elim_inl, Sum.elim_inr, jt2, jt3, jt4, jt5, jt6, jt7, jt8]
  refine ⟨?_, ?_, ?_⟩
  · (refine ⟨?_, ?_, ⟨?_, fun i il => ?_⟩, ⟨?_, fun p p0 p1 => ?_⟩, ok.1.2, ?_, fun k k0 k1 => ?_⟩; { rw [C18 _ _ (by omega) (by omega) (by omega)]; exact K12 }; { exact resQ_7 R12 (fun a s a0 a1 => C18 _ _ (by omega) (by omega) (by omega)) }; { rw [fr6 _ _ (by omega), K17]; exact vl5 }; { rw [kn6 i (by omega) (by omega)]; exact bs5 i il }; { rw [C18 _ _ (by omega) (by omega) (by omega), fr4 _ _ (by omega)]; exact K11 }; { rw [C18 _ _ (by omega) (by omega) (by omega)]; exact kn4 p p0 p1 }; { rw [C18 _ _ (by omega) (by omega) (by omega), C12 _ _ (by omega) (by omega) (by omega), C7 _ _ (by omega)]; exact K6 }; { rw [C18 _ _ (by omega) (by omega) (by omega), C12 _ _ (by omega) (by omega) (by omega)]; exact kn2 k k0 k1 }) -- o26 e1.1
  · exact FV -- o27 e1.2
  · exact akM_n A12 (fun a s y => C18 a s (by unfold mA at y; omega) (by unfold mA at y; omega) (by unfold mA at y; omega)) ⟨by rw [C18 _ _ (by omega) (by omega) (by omega)]; exact A12.2.1, by unfold b20; rw [C18 _ _ (by omega) (by omega) (by omega)]; exact A12.2.2⟩ -- o28 e1.3

