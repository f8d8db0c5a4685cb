/-! reading begins -/
def beg (B : Int → Int) (n : Int) : Int ⊕ Int := if tO B n 0 = 5 then .inl (tS B n 0) else .inr 0
theorem vX13_begin (a1 : Int) (a2 : Int) (a3 : Int) {h : AH} {B : Int → Int} (hB : ∀ i, 0 ≤ i → i < a2 → 0 ≤ B i ∧ B i < 256) (tb : 0 ≤ a2 ∧ a2 ≤ 2000 ∧ 439 ≤ a1 ∧ a1 ≤ 440 ∧ h a1 (-2) = 103 ∧ a2 ≤ h a1 (-1) ∧ ∀ i, 0 ≤ i → i < a2 → h a1 i % 256 = B i ∧ -128 ≤ h a1 i ∧ h a1 i ≤ 127) : OK (gX13_begin a1 a2 a3 h) (fun h' => (Sx B a2 (beg B a2) h') ∧ (TX B a2 a1 h') ∧ (h' 441 8 = 0 ∧ h' 441 13 = 0 ∧ h' 441 14 = 0 ∧ h' 441 15 = 0 ∧ h' 441 16 = 0 ∧ h' 441 17 = a3) ∧ (∀ a s, ¬ (a = 441 ∧ (0 ≤ s ∧ s ≤ 8 ∨ 13 ≤ s ∧ s ≤ 17)) → h' a s = h a s)) := by
  unfold gX13_begin
  refine OK_jl ?_
  refine OK_jl ?_
  refine OK_jl ?_
  refine OK_jl ?_
  refine OK_jl ?_
  refine OK_jl ?_
  refine OK_jl ?_
  refine OK_jl ?_
  refine OK_jl ?_
  refine OK_jl ?_
  have W : ∀ a s, a ≠ 441 → jst (jst (jst (jst (jst (jst (jst (jst (jst (jst h 441 0 a1) 441 1 a2) 441 4 0) 441 6 0) 441 8 0) 441 13 0) 441 14 0) 441 15 0) 441 16 0) 441 17 a3 a s = h a s := fun a s y => by { rw [jst_o (by omega), jst_o (by omega), jst_o (by omega), jst_o (by omega), jst_o (by omega), jst_o (by omega), jst_o (by omega), jst_o (by omega), jst_o (by omega), jst_o (by omega)] }
  have W2 : ∀ a s, ¬ (a = 441 ∧ (0 ≤ s ∧ s ≤ 8 ∨ 13 ≤ s ∧ s ≤ 17)) → jst (jst (jst (jst (jst (jst (jst (jst (jst (jst h 441 0 a1) 441 1 a2) 441 4 0) 441 6 0) 441 8 0) 441 13 0) 441 14 0) 441 15 0) 441 16 0) 441 17 a3 a s = h a s := fun a s y => by { rw [jst_o (by omega), jst_o (by omega), jst_o (by omega), jst_o (by omega), jst_o (by omega), jst_o (by omega), jst_o (by omega), jst_o (by omega), jst_o (by omega), jst_o (by omega)] }
  have C : jst (jst (jst (jst (jst (jst (jst (jst (jst (jst h 441 0 a1) 441 1 a2) 441 4 0) 441 6 0) 441 8 0) 441 13 0) 441 14 0) 441 15 0) 441 16 0) 441 17 a3 441 0 = a1 ∧ jst (jst (jst (jst (jst (jst (jst (jst (jst (jst h 441 0 a1) 441 1 a2) 441 4 0) 441 6 0) 441 8 0) 441 13 0) 441 14 0) 441 15 0) 441 16 0) 441 17 a3 441 1 = a2 ∧ jst (jst (jst (jst (jst (jst (jst (jst (jst (jst h 441 0 a1) 441 1 a2) 441 4 0) 441 6 0) 441 8 0) 441 13 0) 441 14 0) 441 15 0) 441 16 0) 441 17 a3 441 4 = 0 ∧ jst (jst (jst (jst (jst (jst (jst (jst (jst (jst h 441 0 a1) 441 1 a2) 441 4 0) 441 6 0) 441 8 0) 441 13 0) 441 14 0) 441 15 0) 441 16 0) 441 17 a3 441 6 = 0 ∧ jst (jst (jst (jst (jst (jst (jst (jst (jst (jst h 441 0 a1) 441 1 a2) 441 4 0) 441 6 0) 441 8 0) 441 13 0) 441 14 0) 441 15 0) 441 16 0) 441 17 a3 441 8 = 0 := by { (try simp (disch := omega) only [jst_eq, jst_ne, jst_ni, jI_i, jcmp_lt, jcmp_gt, w32_id, jcpy_out, Sum.elim_inl, Sum.elim_inr, jt2, jt3, jt4, jt5, jt6, jt7, jt8]); trivial }
  have C2 : jst (jst (jst (jst (jst (jst (jst (jst (jst (jst h 441 0 a1) 441 1 a2) 441 4 0) 441 6 0) 441 8 0) 441 13 0) 441 14 0) 441 15 0) 441 16 0) 441 17 a3 441 13 = 0 ∧ jst (jst (jst (jst (jst (jst (jst (jst (jst (jst h 441 0 a1) 441 1 a2) 441 4 0) 441 6 0) 441 8 0) 441 13 0) 441 14 0) 441 15 0) 441 16 0) 441 17 a3 441 14 = 0 ∧ jst (jst (jst (jst (jst (jst (jst (jst (jst (jst h 441 0 a1) 441 1 a2) 441 4 0) 441 6 0) 441 8 0) 441 13 0) 441 14 0) 441 15 0) 441 16 0) 441 17 a3 441 15 = 0 ∧ jst (jst (jst (jst (jst (jst (jst (jst (jst (jst h 441 0 a1) 441 1 a2) 441 4 0) 441 6 0) 441 8 0) 441 13 0) 441 14 0) 441 15 0) 441 16 0) 441 17 a3 441 16 = 0 ∧ jst (jst (jst (jst (jst (jst (jst (jst (jst (jst h 441 0 a1) 441 1 a2) 441 4 0) 441 6 0) 441 8 0) 441 13 0) 441 14 0) 441 15 0) 441 16 0) 441 17 a3 441 17 = a3 := by { (try simp (disch := omega) only [jst_eq, jst_ne, jst_ni, jI_i, jcmp_lt, jcmp_gt, w32_id, jcpy_out, Sum.elim_inl, Sum.elim_inr, jt2, jt3, jt4, jt5, jt6, jt7, jt8]); trivial }
  generalize eh : jst (jst (jst (jst (jst (jst (jst (jst (jst (jst h 441 0 a1) 441 1 a2) 441 4 0) 441 6 0) 441 8 0) 441 13 0) 441 14 0) 441 15 0) 441 16 0) 441 17 a3 = hh at *
  have T0 : TX B a2 a1 hh := ⟨C.1, C.2.1, tb.1, tb.2.1, tb.2.2.1, tb.2.2.2.1, by { rw [W _ _ (by omega)]; exact tb.2.2.2.2.1 }, by { rw [W _ _ (by omega)]; exact tb.2.2.2.2.2.1 }, fun i i0 i1 => by { rw [W _ _ (by omega)]; exact tb.2.2.2.2.2.2 i i0 i1 }⟩
  refine OK_jb (vX13_next (B := B) (n := a2) (A := a1) (q := 0) (by exact T0) (by (first | assumption | omega | ((try dsimp only [jt2, jt3, jt4]); first | omega | (simp (disch := omega) only [jst_eq, jst_ne, jst_ni, jst_o, jI_i, jcpy_out, w32_id, jdiv_nn, jshr_k, jand_255] <;> first | done | omega | assumption)) | (intros; simp (disch := omega) only [jst_eq, jst_ne, jst_ni, jst_o, jI_i, jcpy_out, w32_id, jdiv_nn, *] <;> first | done | omega) | (intros; simp (disch := omega) only [jst_eq, jst_ne, jst_ni, jst_o, jI_i, jcpy_out, w32_id, jdiv_nn] at * <;> first | done | omega | assumption) | (intros; first | rfl | (exfalso; omega) | ((repeat' apply And.intro) <;> first | assumption | rfl | omega | trivial)))) (by (first | assumption | omega | ((try dsimp only [jt2, jt3, jt4]); first | omega | (simp (disch := omega) only [jst_eq, jst_ne, jst_ni, jst_o, jI_i, jcpy_out, w32_id, jdiv_nn, jshr_k, jand_255] <;> first | done | omega | assumption)) | (intros; simp (disch := omega) only [jst_eq, jst_ne, jst_ni, jst_o, jI_i, jcpy_out, w32_id, jdiv_nn, *] <;> first | done | omega) | (intros; simp (disch := omega) only [jst_eq, jst_ne, jst_ni, jst_o, jI_i, jcpy_out, w32_id, jdiv_nn] at * <;> first | done | omega | assumption) | (intros; first | rfl | (exfalso; omega) | ((repeat' apply And.intro) <;> first | assumption | rfl | omega | trivial))))) (fun h12 r1 => ?_)
  try dsimp only [Sum.elim_inl, Sum.elim_inr, jt2, jt3, jt4, jt5, jt6, jt7, jt8] at r1
  obtain ⟨tk1, fr1⟩ := r1
  try simp (disch := omega) only [jst_eq, jst_ne, jst_ni, jI_i, jcmp_lt, jcmp_gt, w32_id, jcpy_out, Sum.elim_inl, Sum.elim_inr, jt2, jt3, jt4, jt5, jt6, jt7, jt8] at tk1
  try simp (disch := omega) only [jst_eq, jst_ne, jst_ni, jI_i, jcmp_lt, jcmp_gt, w32_id, jcpy_out, Sum.elim_inl, Sum.elim_inr, jt2, jt3, jt4, jt5, jt6, jt7, jt8] at fr1
  refine OK_some ?_
  try dsimp only [Sum.elim_inl, Sum.elim_inr, jt2, jt3, jt4, jt5, jt6, jt7, jt8]
  try dsimp only [Sum.elim_inl, Sum.elim_inr, jt2, jt3, jt4, jt5, jt6, jt7, jt8]
  refine ⟨?_, ?_, ?_, ?_⟩
  · (have nb : NB B a2 0 h12 := ⟨by rw [fr1 _ _ (by omega)]; exact C.2.2.2.1, tk1, Int.le_refl _, tb.1⟩; unfold beg; by_cases c : tO B a2 0 = 5; { rw [if_pos c]; exact Or.inr ⟨_, nb, Or.inl ⟨rfl, c⟩⟩ }; { rw [if_neg c]; exact Sx_r nb c }) -- o4 e1.1
  · exact TX_fr T0 (fr1 _ _ (by omega)) (fr1 _ _ (by omega)) (fun s => fr1 _ _ (by omega)) -- o5 e1.2
  · exact ⟨by rw [fr1 _ _ (by omega)]; exact C.2.2.2.2, by rw [fr1 _ _ (by omega)]; exact C2.1, by rw [fr1 _ _ (by omega)]; exact C2.2.1, by rw [fr1 _ _ (by omega)]; exact C2.2.2.1, by rw [fr1 _ _ (by omega)]; exact C2.2.2.2.1, by rw [fr1 _ _ (by omega)]; exact C2.2.2.2.2⟩ -- o6 e1.3
  · (intro a s y; rw [fr1 a s (by omega)]; exact W2 a s y) -- o7 e1.4
theorem begM {B : Int → Int} {n t : Int} {h : AH} (tn : 0 ≤ n) (x : nxM B n 0 t h) : rM B n (beg B n) t h := by
  unfold beg
  rcases x with ⟨x1, x2, x3⟩ | ⟨x1, x2, x3, x4⟩
  · rw [if_neg x1]; exact ⟨x2, x3, x1, Int.le_refl _, tn⟩
  · rw [if_pos x1]; exact ⟨x2, x3, x4⟩
theorem vX14_begin {h : AH} {B : Int → Int} {n : Int} (hB : ∀ i, 0 ≤ i → i < n → 0 ≤ B i ∧ B i < 256) (t : TM B n h) : OK (gX14_begin h) (fun r => jt2 r fun t h' => (rM B n (beg B n) t h') ∧ (h' 454 30 = 0 ∧ h' 454 31 = 2147483647) ∧ (∀ a s, ¬ (a = 454 ∧ 26 ≤ s ∧ s ≤ 31) → ¬ (a = 472 ∧ (s = 6 ∨ s = 7)) → h' a s = h a s)) := by
  have tn := t.2.1
  unfold gX14_begin
  refine OK_jl ?_
  refine OK_jl ?_
  refine OK_jl ?_
  have W2 : ∀ a s, ¬ (a = 454 ∧ 26 ≤ s ∧ s ≤ 31) → jst (jst (jst h 454 26 0) 454 30 0) 454 31 2147483647 a s = h a s := fun a s y => by { rw [jst_o (by omega), jst_o (by omega), jst_o (by omega)] }
  have C : jst (jst (jst h 454 26 0) 454 30 0) 454 31 2147483647 454 26 = 0 ∧ jst (jst (jst h 454 26 0) 454 30 0) 454 31 2147483647 454 30 = 0 ∧ jst (jst (jst h 454 26 0) 454 30 0) 454 31 2147483647 454 31 = 2147483647 := by { (try simp (disch := omega) only [jst_eq, jst_ne, jst_ni, jI_i, jcmp_lt, jcmp_gt, w32_id, jcpy_out, Sum.elim_inl, Sum.elim_inr, jt2, jt3, jt4, jt5, jt6, jt7, jt8]); trivial }
  generalize eh : jst (jst (jst h 454 26 0) 454 30 0) 454 31 2147483647 = hh at *
  have T0 : TM B n hh := TM_fr t (W2 _ _ (by omega)) (fun s => W2 _ _ (by omega))
  refine OK_jb2 (vX14_next (B := B) (n := n) (q := 0) (by (first | assumption | omega | ((try dsimp only [jt2, jt3, jt4]); first | omega | (simp (disch := omega) only [jst_eq, jst_ne, jst_ni, jst_o, jI_i, jcpy_out, w32_id, jdiv_nn, jshr_k, jand_255] <;> first | done | omega | assumption)) | (intros; simp (disch := omega) only [jst_eq, jst_ne, jst_ni, jst_o, jI_i, jcpy_out, w32_id, jdiv_nn, *] <;> first | done | omega) | (intros; simp (disch := omega) only [jst_eq, jst_ne, jst_ni, jst_o, jI_i, jcpy_out, w32_id, jdiv_nn] at * <;> first | done | omega | assumption) | (intros; first | rfl | (exfalso; omega) | ((repeat' apply And.intro) <;> first | assumption | rfl | omega | trivial)))) (by (first | assumption | omega | ((try dsimp only [jt2, jt3, jt4]); first | omega | (simp (disch := omega) only [jst_eq, jst_ne, jst_ni, jst_o, jI_i, jcpy_out, w32_id, jdiv_nn, jshr_k, jand_255] <;> first | done | omega | assumption)) | (intros; simp (disch := omega) only [jst_eq, jst_ne, jst_ni, jst_o, jI_i, jcpy_out, w32_id, jdiv_nn, *] <;> first | done | omega) | (intros; simp (disch := omega) only [jst_eq, jst_ne, jst_ni, jst_o, jI_i, jcpy_out, w32_id, jdiv_nn] at * <;> first | done | omega | assumption) | (intros; first | rfl | (exfalso; omega) | ((repeat' apply And.intro) <;> first | assumption | rfl | omega | trivial)))) (by (first | assumption | omega | ((try dsimp only [jt2, jt3, jt4]); first | omega | (simp (disch := omega) only [jst_eq, jst_ne, jst_ni, jst_o, jI_i, jcpy_out, w32_id, jdiv_nn, jshr_k, jand_255] <;> first | done | omega | assumption)) | (intros; simp (disch := omega) only [jst_eq, jst_ne, jst_ni, jst_o, jI_i, jcpy_out, w32_id, jdiv_nn, *] <;> first | done | omega) | (intros; simp (disch := omega) only [jst_eq, jst_ne, jst_ni, jst_o, jI_i, jcpy_out, w32_id, jdiv_nn] at * <;> first | done | omega | assumption) | (intros; first | rfl | (exfalso; omega) | ((repeat' apply And.intro) <;> first | assumption | rfl | omega | trivial))))) (fun t5 h7 r1 => ?_)
  try dsimp only [Sum.elim_inl, Sum.elim_inr, jt2, jt3, jt4, jt5, jt6, jt7, jt8] at r1
  obtain ⟨nx1, fr1⟩ := r1
  try simp (disch := omega) only [jst_eq, jst_ne, jst_ni, jI_i, jcmp_lt, jcmp_gt, w32_id, jcpy_out, Sum.elim_inl, Sum.elim_inr, jt2, jt3, jt4, jt5, jt6, jt7, jt8] at nx1
  try simp (disch := omega) only [jst_eq, jst_ne, jst_ni, jI_i, jcmp_lt, jcmp_gt, w32_id, jcpy_out, Sum.elim_inl, Sum.elim_inr, jt2, jt3, jt4, jt5, jt6, jt7, jt8] at fr1
  refine OK_jq (fun c1 => ?_) (fun c1 => ?_)
  · skip
    refine OK_some ?_
    try dsimp only [Sum.elim_inl, Sum.elim_inr, jt2, jt3, jt4, jt5, jt6, jt7, jt8]
    try dsimp only [Sum.elim_inl, Sum.elim_inr, jt2, jt3, jt4, jt5, jt6, jt7, jt8]
    refine ⟨?_, ?_, ?_⟩
    · exact begM tn nx1 -- o4 e1.1
    · exact ⟨by rw [fr1 _ _ (by omega) (by omega)]; exact C.2.1, by rw [fr1 _ _ (by omega) (by omega)]; exact C.2.2⟩ -- o5 e1.2
    · (intro a s y z; rw [fr1 a s (by omega) z]; exact W2 a s y) -- o6 e1.3
  · skip
    refine OK_some ?_
    try dsimp only [Sum.elim_inl, Sum.elim_inr, jt2, jt3, jt4, jt5, jt6, jt7, jt8]
    try dsimp only [Sum.elim_inl, Sum.elim_inr, jt2, jt3, jt4, jt5, jt6, jt7, jt8]
    refine ⟨?_, ?_, ?_⟩
    · (have y := begM tn nx1; rw [c1] at y; exact y) -- o7 e2.1
    · exact ⟨by rw [fr1 _ _ (by omega) (by omega)]; exact C.2.1, by rw [fr1 _ _ (by omega) (by omega)]; exact C.2.2⟩ -- o8 e2.2
    · (intro a s y z; rw [fr1 a s (by omega) z]; exact W2 a s y) -- o9 e2.3

