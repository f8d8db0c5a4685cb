/-! x: a row is read -/
/-- what a reader of rows and laws has -/
def rdK (B : Int → Int) (n A a : Int) (ks : List Int) (la m : Int) (h : AH) : Prop := TX B n A h ∧ Od h ∧ (isAk a ∧ h 441 20 = a) ∧ (h a 1 = (ks.length : Int) ∧ 1 ≤ ks.length ∧ ks.length ≤ 3 ∧ ∀ k, 0 ≤ k → k < (ks.length : Int) → h (a + 1) k = kL ks k ∧ 0 ≤ kL ks k ∧ kL ks k ≤ 2) ∧ (h a 2 = la ∧ 0 ≤ la ∧ la ≤ 2) ∧ (h a 8 = m ∧ 0 ≤ m ∧ m ≤ 12) ∧ ((h (a + 6) (-2) = 101 ∧ h (a + 6) (-1) = 36) ∧ h (a + 7) (-2) = 101 ∧ h (a + 7) (-1) = 12) ∧ f8X h
theorem rdK_f {B : Int → Int} {n A a la m m' : Int} {ks : List Int} {h h' : AH} (x : rdK B n A a ks la m h) (f : ∀ b s, ¬ (b = 441 ∧ ((2 ≤ s ∧ s ≤ 9) ∨ s = 18)) → ¬ ((b = a + 6 ∨ b = a + 7) ∧ 0 ≤ s) → ¬ (b = a ∧ s = 8) → h' b s = h b s) (m8 : h' a 8 = m' ∧ 0 ≤ m' ∧ m' ≤ 12) (g : f8X h') : rdK B n A a ks la m' h' := by
  obtain ⟨x1, x2, ⟨x3, x4⟩, ⟨x5, x6, x7, x8⟩, x9, x10, x11, x12⟩ := x
  have LA : a = 271 ∨ a = 289 := x3
  have ta := x1.2.2.2.2
  refine ⟨TX_fr x1 (f _ _ (by omega) (by omega) (by omega)) (f _ _ (by omega) (by omega) (by omega)) (fun s => f _ _ (by omega) (by omega) (by omega)), Od_fr x2 (fun b i b0 b1 => f _ _ (by omega) (by omega) (by omega)), ⟨x3, by rw [f _ _ (by omega) (by omega) (by omega)]; exact x4⟩, ⟨by rw [f _ _ (by omega) (by omega) (by omega)]; exact x5, x6, x7, fun k k0 k1 => by rw [f _ _ (by omega) (by omega) (by omega)]; exact x8 k k0 k1⟩, by rw [f _ _ (by omega) (by omega) (by omega)]; exact x9, m8, ?_, g⟩
  rw [f _ _ (by omega) (by omega) (by omega), f _ _ (by omega) (by omega) (by omega), f _ _ (by omega) (by omega) (by omega), f _ _ (by omega) (by omega) (by omega)]
  exact x11
theorem rdK_g {B : Int → Int} {n A a la m : Int} {ks : List Int} {h h' : AH} (x : rdK B n A a ks la m h) (f : ∀ b s, ¬ (b = 441 ∧ ((2 ≤ s ∧ s ≤ 9) ∨ s = 18)) → ¬ ((b = a + 6 ∨ b = a + 7) ∧ 0 ≤ s) → h' b s = h b s) (g : f8X h') : rdK B n A a ks la m h' := by
  have LA : a = 271 ∨ a = 289 := x.2.2.1.1
  exact rdK_f x (fun b s y1 y2 _ => f b s y1 y2) (by rw [f _ _ (by omega) (by omega)]; exact x.2.2.2.2.2.1) g
/-- values of the row at hand that were read -/
def vsX (B : Int → Int) (n a m : Int) (ks vs : List Int) (room : Int) (h : AH) : Prop := room = 1 → ∀ j : Nat, j < ks.length → ∀ q, vs[j]? = some q → h (a + 6) (3 * m + j) = vlV B n q
theorem pVs_l {B : Int → Int} {n q z : Int} {k : Nat} {l : List Int} (g : isVl B n q) (e : nx B n q = .inl z) : pVs B n (k + 1) l q = .inl z := by
  have w : pVs B n (k + 1) l q = (match nx B n q with | .inl z => (.inl z : Int ⊕ (List Int × Int)) | .inr q1 => if isVl B n q1 then pVs B n k (l ++ [q]) q1 else .inr (l ++ [q], q1)) := if_pos g
  rw [w, e]
theorem pVs_n {B : Int → Int} {n q : Int} {k : Nat} {l : List Int} (g : ¬ isVl B n q) : pVs B n (k + 1) l q = .inl (tS B n q) := if_neg g
theorem pVs_r {B : Int → Int} {n q q1 : Int} {k : Nat} {l : List Int} (g : isVl B n q) (e : nx B n q = .inr q1) : (isVl B n q1 → pVs B n (k + 1) l q = pVs B n k (l ++ [q]) q1) ∧ (¬ isVl B n q1 → pVs B n (k + 1) l q = .inr (l ++ [q], q1)) := by
  have w : pVs B n (k + 1) l q = (match nx B n q with | .inl z => (.inl z : Int ⊕ (List Int × Int)) | .inr q1 => if isVl B n q1 then pVs B n k (l ++ [q]) q1 else .inr (l ++ [q], q1)) := if_pos g
  rw [e] at w
  refine ⟨fun c => ?_, fun c => ?_⟩
  · rw [w]; exact if_pos c
  · rw [w]; exact if_neg c
theorem vkL_app {B : Int → Int} {n : Int} {ks : List Int} {q : Int} : ∀ (j : Int) (l : List Int), vkL B n ks j (l ++ [q]) = min (vkL B n ks j l) (if j + (l.length : Int) < (ks.length : Int) ∧ vlK B n q ≠ kL ks (j + (l.length : Int)) then tS B n q * 8 + 3 else 1000000)
  | j, [] => by
    show min (if j < (ks.length : Int) ∧ vlK B n q ≠ kL ks j then tS B n q * 8 + 3 else 1000000) 1000000 = min 1000000 (if j + 0 < (ks.length : Int) ∧ vlK B n q ≠ kL ks (j + 0) then tS B n q * 8 + 3 else 1000000)
    rw [Int.add_zero]; omega
  | j, u :: l => by
    show min (if j < (ks.length : Int) ∧ vlK B n u ≠ kL ks j then tS B n u * 8 + 3 else 1000000) (vkL B n ks (j + 1) (l ++ [q])) = min (min (if j < (ks.length : Int) ∧ vlK B n u ≠ kL ks j then tS B n u * 8 + 3 else 1000000) (vkL B n ks (j + 1) l)) (if j + ((l.length + 1 : Nat) : Int) < (ks.length : Int) ∧ vlK B n q ≠ kL ks (j + ((l.length + 1 : Nat) : Int)) then tS B n q * 8 + 3 else 1000000)
    rw [vkL_app (j + 1) l, show j + ((l.length + 1 : Nat) : Int) = j + 1 + (l.length : Int) by omega]
    omega
theorem vX13_valueB {h : AH} {B : Int → Int} {n A : Int} {R : Int ⊕ Int} (t : TX B n A h) (hB : ∀ i, 0 ≤ i → i < n → 0 ≤ B i ∧ B i < 256) (s : Sx B n R h) (o : Od h) : OK (gX13_value h) (fun r => jt2 r fun v h' => (Sx B n (bnd R (pVl B n)) h') ∧ (∀ q, R = .inr q → isVl B n q → v = vlV B n q ∧ h' 441 18 = vlK B n q) ∧ (∀ q, R = .inr q → isVl B n q → 0 ≤ h' 441 18 ∧ h' 441 18 ≤ 2) ∧ (∀ a s, ¬ (a = 441 ∧ ((2 ≤ s ∧ s ≤ 7) ∨ s = 18)) → h' a s = h a s) ∧ (h' 441 6 = 0 → ∃ q, R = .inr q ∧ isVl B n q)) := by
  have n1 := nm_true o
  unfold gX13_value
  refine OK_if (fun c1 => ?_) (fun c1 => ?_)
  · skip
    try simp (disch := omega) only [jst_eq, jst_ne, jst_ni, jI_i, jcmp_lt, jcmp_gt, w32_id, jcpy_out, Sum.elim_inl, Sum.elim_inr, jt2, jt3, jt4, jt5, jt6, jt7, jt8] at c1
    obtain ⟨q, nb, k⟩ := Sx_nb s c1
    have O := chX_1 (tok_o B n q)
    rw [← nb.2.1.2.1] at O
    refine OK_jb (vX13_isValue (B := B) (n := n) (A := A) (q := q) (by (first | assumption | omega | ((try dsimp only [jt2, jt3, jt4]); first | omega | (simp (disch := omega) only [jst_eq, jst_ne, jst_ni, jst_o, jI_i, jcpy_out, w32_id, jdiv_nn, jshr_k, jand_255] <;> first | done | omega | assumption)) | (intros; simp (disch := omega) only [jst_eq, jst_ne, jst_ni, jst_o, jI_i, jcpy_out, w32_id, jdiv_nn, *] <;> first | done | omega) | (intros; simp (disch := omega) only [jst_eq, jst_ne, jst_ni, jst_o, jI_i, jcpy_out, w32_id, jdiv_nn] at * <;> first | done | omega | assumption) | (intros; first | rfl | (exfalso; omega) | ((repeat' apply And.intro) <;> first | assumption | rfl | omega | trivial)))) (by (first | assumption | omega | ((try dsimp only [jt2, jt3, jt4]); first | omega | (simp (disch := omega) only [jst_eq, jst_ne, jst_ni, jst_o, jI_i, jcpy_out, w32_id, jdiv_nn, jshr_k, jand_255] <;> first | done | omega | assumption)) | (intros; simp (disch := omega) only [jst_eq, jst_ne, jst_ni, jst_o, jI_i, jcpy_out, w32_id, jdiv_nn, *] <;> first | done | omega) | (intros; simp (disch := omega) only [jst_eq, jst_ne, jst_ni, jst_o, jI_i, jcpy_out, w32_id, jdiv_nn] at * <;> first | done | omega | assumption) | (intros; first | rfl | (exfalso; omega) | ((repeat' apply And.intro) <;> first | assumption | rfl | omega | trivial)))) (by (first | assumption | omega | ((try dsimp only [jt2, jt3, jt4]); first | omega | (simp (disch := omega) only [jst_eq, jst_ne, jst_ni, jst_o, jI_i, jcpy_out, w32_id, jdiv_nn, jshr_k, jand_255] <;> first | done | omega | assumption)) | (intros; simp (disch := omega) only [jst_eq, jst_ne, jst_ni, jst_o, jI_i, jcpy_out, w32_id, jdiv_nn, *] <;> first | done | omega) | (intros; simp (disch := omega) only [jst_eq, jst_ne, jst_ni, jst_o, jI_i, jcpy_out, w32_id, jdiv_nn] at * <;> first | done | omega | assumption) | (intros; first | rfl | (exfalso; omega) | ((repeat' apply And.intro) <;> first | assumption | rfl | omega | trivial))))) (fun v3 r1 => ?_)
    try dsimp only [Sum.elim_inl, Sum.elim_inr, jt2, jt3, jt4, jt5, jt6, jt7, jt8] at r1
    have v1 := r1
    clear r1
    try simp (disch := omega) only [jst_eq, jst_ne, jst_ni, jI_i, jcmp_lt, jcmp_gt, w32_id, jcpy_out, Sum.elim_inl, Sum.elim_inr, jt2, jt3, jt4, jt5, jt6, jt7, jt8] at v1
    refine OK_if (fun c2 => ?_) (fun c2 => ?_)
    · skip
      try simp (disch := omega) only [jst_eq, jst_ne, jst_ni, jI_i, jcmp_lt, jcmp_gt, w32_id, jcpy_out, Sum.elim_inl, Sum.elim_inr, jt2, jt3, jt4, jt5, jt6, jt7, jt8] at c2
      have g : ¬ isVl B n q := fun z => by { rw [if_pos z] at v1; omega }
      refine OK_jb (vX13_no (B := B) (n := n) (r := R) (by (first | assumption | omega | ((try dsimp only [jt2, jt3, jt4]); first | omega | (simp (disch := omega) only [jst_eq, jst_ne, jst_ni, jst_o, jI_i, jcpy_out, w32_id, jdiv_nn, jshr_k, jand_255] <;> first | done | omega | assumption)) | (intros; simp (disch := omega) only [jst_eq, jst_ne, jst_ni, jst_o, jI_i, jcpy_out, w32_id, jdiv_nn, *] <;> first | done | omega) | (intros; simp (disch := omega) only [jst_eq, jst_ne, jst_ni, jst_o, jI_i, jcpy_out, w32_id, jdiv_nn] at * <;> first | done | omega | assumption) | (intros; first | rfl | (exfalso; omega) | ((repeat' apply And.intro) <;> first | assumption | rfl | omega | trivial))))) (fun h6 r2 => ?_)
      try dsimp only [Sum.elim_inl, Sum.elim_inr, jt2, jt3, jt4, jt5, jt6, jt7, jt8] at r2
      obtain ⟨nb2, fr2⟩ := r2
      try simp (disch := omega) only [jst_eq, jst_ne, jst_ni, jI_i, jcmp_lt, jcmp_gt, w32_id, jcpy_out, Sum.elim_inl, Sum.elim_inr, jt2, jt3, jt4, jt5, jt6, jt7, jt8] at nb2
      try simp (disch := omega) only [jst_eq, jst_ne, jst_ni, jI_i, jcmp_lt, jcmp_gt, w32_id, jcpy_out, Sum.elim_inl, Sum.elim_inr, jt2, jt3, jt4, jt5, jt6, jt7, jt8] at fr2
      refine OK_some ?_
      try dsimp only [Sum.elim_inl, Sum.elim_inr, jt2, jt3, jt4, jt5, jt6, jt7, jt8]
      try dsimp only [Sum.elim_inl, Sum.elim_inr, jt2, jt3, jt4, jt5, jt6, jt7, jt8]
      refine ⟨?_, ?_, ?_, ?_, ?_⟩
      · (rcases k with k | k <;> rw [k.1] at nb2 ⊢; { exact Sx_l nb2.1 nb2.2 }; { show Sx B n (pVl B n q) _; unfold pVl; rw [if_neg g]; exact Sx_l nb2.1 nb2.2 }) -- o5 e1.1
      · (intro q' e z; rcases k with k | k; { rw [k.1] at e; cases e }; { rw [k.1] at e; cases e; exact absurd z g }) -- o6 e1.2
      · (intro q' e z; rcases k with k | k; { rw [k.1] at e; cases e }; { rw [k.1] at e; cases e; exact absurd z g }) -- o7 e1.3
      · (first | assumption | omega | ((try dsimp only [jt2, jt3, jt4]); first | omega | (simp (disch := omega) only [jst_eq, jst_ne, jst_ni, jst_o, jI_i, jcpy_out, w32_id, jdiv_nn, jshr_k, jand_255] <;> first | done | omega | assumption)) | (intros; simp (disch := omega) only [jst_eq, jst_ne, jst_ni, jst_o, jI_i, jcpy_out, w32_id, jdiv_nn, *] <;> first | done | omega) | (intros; simp (disch := omega) only [jst_eq, jst_ne, jst_ni, jst_o, jI_i, jcpy_out, w32_id, jdiv_nn] at * <;> first | done | omega | assumption) | (intros; first | rfl | (exfalso; omega) | ((repeat' apply And.intro) <;> first | assumption | rfl | omega | trivial))) -- o8 e1.4
      · (intro z; have := nb2.1; omega) -- o9 e1.5
    · skip
      try simp (disch := omega) only [jst_eq, jst_ne, jst_ni, jI_i, jcmp_lt, jcmp_gt, w32_id, jcpy_out, Sum.elim_inl, Sum.elim_inr, jt2, jt3, jt4, jt5, jt6, jt7, jt8] at c2
      have g : isVl B n q := Classical.byContradiction fun z => c2 (by rw [v1, if_neg z])
      have k2 := k.resolve_left (fun z => by { rcases g with y | y | y | y; { omega }; { omega }; { have := y.1; omega }; { have := y.1; omega } })
      refine OK_if (fun c3 => ?_) (fun c3 => ?_)
      · skip
        try simp (disch := omega) only [jst_eq, jst_ne, jst_ni, jI_i, jcmp_lt, jcmp_gt, w32_id, jcpy_out, Sum.elim_inl, Sum.elim_inr, jt2, jt3, jt4, jt5, jt6, jt7, jt8] at c3
        refine OK_mono (vX13_value_j50 (B := B) (n := n) (A := A) (q := q) _ (by (first | assumption | omega | ((try dsimp only [jt2, jt3, jt4]); first | omega | (simp (disch := omega) only [jst_eq, jst_ne, jst_ni, jst_o, jI_i, jcpy_out, w32_id, jdiv_nn, jshr_k, jand_255] <;> first | done | omega | assumption)) | (intros; simp (disch := omega) only [jst_eq, jst_ne, jst_ni, jst_o, jI_i, jcpy_out, w32_id, jdiv_nn, *] <;> first | done | omega) | (intros; simp (disch := omega) only [jst_eq, jst_ne, jst_ni, jst_o, jI_i, jcpy_out, w32_id, jdiv_nn] at * <;> first | done | omega | assumption) | (intros; first | rfl | (exfalso; omega) | ((repeat' apply And.intro) <;> first | assumption | rfl | omega | trivial)))) (by (first | assumption | omega | ((try dsimp only [jt2, jt3, jt4]); first | omega | (simp (disch := omega) only [jst_eq, jst_ne, jst_ni, jst_o, jI_i, jcpy_out, w32_id, jdiv_nn, jshr_k, jand_255] <;> first | done | omega | assumption)) | (intros; simp (disch := omega) only [jst_eq, jst_ne, jst_ni, jst_o, jI_i, jcpy_out, w32_id, jdiv_nn, *] <;> first | done | omega) | (intros; simp (disch := omega) only [jst_eq, jst_ne, jst_ni, jst_o, jI_i, jcpy_out, w32_id, jdiv_nn] at * <;> first | done | omega | assumption) | (intros; first | rfl | (exfalso; omega) | ((repeat' apply And.intro) <;> first | assumption | rfl | omega | trivial)))) (by (first | assumption | omega | ((try dsimp only [jt2, jt3, jt4]); first | omega | (simp (disch := omega) only [jst_eq, jst_ne, jst_ni, jst_o, jI_i, jcpy_out, w32_id, jdiv_nn, jshr_k, jand_255] <;> first | done | omega | assumption)) | (intros; simp (disch := omega) only [jst_eq, jst_ne, jst_ni, jst_o, jI_i, jcpy_out, w32_id, jdiv_nn, *] <;> first | done | omega) | (intros; simp (disch := omega) only [jst_eq, jst_ne, jst_ni, jst_o, jI_i, jcpy_out, w32_id, jdiv_nn] at * <;> first | done | omega | assumption) | (intros; first | rfl | (exfalso; omega) | ((repeat' apply And.intro) <;> first | assumption | rfl | omega | trivial)))) (by (first | assumption | omega | ((try dsimp only [jt2, jt3, jt4]); first | omega | (simp (disch := omega) only [jst_eq, jst_ne, jst_ni, jst_o, jI_i, jcpy_out, w32_id, jdiv_nn, jshr_k, jand_255] <;> first | done | omega | assumption)) | (intros; simp (disch := omega) only [jst_eq, jst_ne, jst_ni, jst_o, jI_i, jcpy_out, w32_id, jdiv_nn, *] <;> first | done | omega) | (intros; simp (disch := omega) only [jst_eq, jst_ne, jst_ni, jst_o, jI_i, jcpy_out, w32_id, jdiv_nn] at * <;> first | done | omega | assumption) | (intros; first | rfl | (exfalso; omega) | ((repeat' apply And.intro) <;> first | assumption | rfl | omega | trivial)))) (by (first | assumption | omega | ((try dsimp only [jt2, jt3, jt4]); first | omega | (simp (disch := omega) only [jst_eq, jst_ne, jst_ni, jst_o, jI_i, jcpy_out, w32_id, jdiv_nn, jshr_k, jand_255] <;> first | done | omega | assumption)) | (intros; simp (disch := omega) only [jst_eq, jst_ne, jst_ni, jst_o, jI_i, jcpy_out, w32_id, jdiv_nn, *] <;> first | done | omega) | (intros; simp (disch := omega) only [jst_eq, jst_ne, jst_ni, jst_o, jI_i, jcpy_out, w32_id, jdiv_nn] at * <;> first | done | omega | assumption) | (intros; first | rfl | (exfalso; omega) | ((repeat' apply And.intro) <;> first | assumption | rfl | omega | trivial)))) (by (unfold vlK; rw [if_pos (O.2.1.mpr c3)]))) (fun r r3 => ?_)
        obtain ⟨y1, y2⟩ := r
        try dsimp only [Sum.elim_inl, Sum.elim_inr, jt2, jt3, jt4, jt5, jt6, jt7, jt8] at r3
        obtain ⟨sx3, vv3, kk3, fr3⟩ := r3
        try simp (disch := omega) only [jst_eq, jst_ne, jst_ni, jI_i, jcmp_lt, jcmp_gt, w32_id, jcpy_out, Sum.elim_inl, Sum.elim_inr, jt2, jt3, jt4, jt5, jt6, jt7, jt8] at sx3
        try simp (disch := omega) only [jst_eq, jst_ne, jst_ni, jI_i, jcmp_lt, jcmp_gt, w32_id, jcpy_out, Sum.elim_inl, Sum.elim_inr, jt2, jt3, jt4, jt5, jt6, jt7, jt8] at vv3
        try simp (disch := omega) only [jst_eq, jst_ne, jst_ni, jI_i, jcmp_lt, jcmp_gt, w32_id, jcpy_out, Sum.elim_inl, Sum.elim_inr, jt2, jt3, jt4, jt5, jt6, jt7, jt8] at kk3
        try simp (disch := omega) only [jst_eq, jst_ne, jst_ni, jI_i, jcmp_lt, jcmp_gt, w32_id, jcpy_out, Sum.elim_inl, Sum.elim_inr, jt2, jt3, jt4, jt5, jt6, jt7, jt8] at fr3
        try dsimp only [Sum.elim_inl, Sum.elim_inr, jt2, jt3, jt4, jt5, jt6, jt7, jt8]
        try dsimp only [Sum.elim_inl, Sum.elim_inr, jt2, jt3, jt4, jt5, jt6, jt7, jt8]
        refine ⟨?_, ?_, ?_, ?_, ?_⟩
        · (rw [k2.1]; show Sx B n (pVl B n q) _; unfold pVl; rw [if_pos g]; exact sx3) -- o16 e2.1
        · (intro q' e z; rw [k2.1] at e; cases e; exact ⟨vv3, kk3⟩) -- o17 e2.2
        · (intro q' e z; rw [kk3]; unfold vlK; by_cases y : tO B n q = 2; { rw [if_pos y]; decide }; { rw [if_neg y]; by_cases y2 : tO B n q = 3; { rw [if_pos y2]; decide }; { rw [if_neg y2]; decide } }) -- o18 e2.3
        · (first | assumption | omega | ((try dsimp only [jt2, jt3, jt4]); first | omega | (simp (disch := omega) only [jst_eq, jst_ne, jst_ni, jst_o, jI_i, jcpy_out, w32_id, jdiv_nn, jshr_k, jand_255] <;> first | done | omega | assumption)) | (intros; simp (disch := omega) only [jst_eq, jst_ne, jst_ni, jst_o, jI_i, jcpy_out, w32_id, jdiv_nn, *] <;> first | done | omega) | (intros; simp (disch := omega) only [jst_eq, jst_ne, jst_ni, jst_o, jI_i, jcpy_out, w32_id, jdiv_nn] at * <;> first | done | omega | assumption) | (intros; first | rfl | (exfalso; omega) | ((repeat' apply And.intro) <;> first | assumption | rfl | omega | trivial))) -- o19 e2.4
        · exact fun _ => ⟨q, k2.1, g⟩ -- o20 e2.5
      · skip
        try simp (disch := omega) only [jst_eq, jst_ne, jst_ni, jI_i, jcmp_lt, jcmp_gt, w32_id, jcpy_out, Sum.elim_inl, Sum.elim_inr, jt2, jt3, jt4, jt5, jt6, jt7, jt8] at c3
        refine OK_if (fun c4 => ?_) (fun c4 => ?_)
        · skip
          try simp (disch := omega) only [jst_eq, jst_ne, jst_ni, jI_i, jcmp_lt, jcmp_gt, w32_id, jcpy_out, Sum.elim_inl, Sum.elim_inr, jt2, jt3, jt4, jt5, jt6, jt7, jt8] at c4
          refine OK_mono (vX13_value_j50 (B := B) (n := n) (A := A) (q := q) _ (by (first | assumption | omega | ((try dsimp only [jt2, jt3, jt4]); first | omega | (simp (disch := omega) only [jst_eq, jst_ne, jst_ni, jst_o, jI_i, jcpy_out, w32_id, jdiv_nn, jshr_k, jand_255] <;> first | done | omega | assumption)) | (intros; simp (disch := omega) only [jst_eq, jst_ne, jst_ni, jst_o, jI_i, jcpy_out, w32_id, jdiv_nn, *] <;> first | done | omega) | (intros; simp (disch := omega) only [jst_eq, jst_ne, jst_ni, jst_o, jI_i, jcpy_out, w32_id, jdiv_nn] at * <;> first | done | omega | assumption) | (intros; first | rfl | (exfalso; omega) | ((repeat' apply And.intro) <;> first | assumption | rfl | omega | trivial)))) (by (first | assumption | omega | ((try dsimp only [jt2, jt3, jt4]); first | omega | (simp (disch := omega) only [jst_eq, jst_ne, jst_ni, jst_o, jI_i, jcpy_out, w32_id, jdiv_nn, jshr_k, jand_255] <;> first | done | omega | assumption)) | (intros; simp (disch := omega) only [jst_eq, jst_ne, jst_ni, jst_o, jI_i, jcpy_out, w32_id, jdiv_nn, *] <;> first | done | omega) | (intros; simp (disch := omega) only [jst_eq, jst_ne, jst_ni, jst_o, jI_i, jcpy_out, w32_id, jdiv_nn] at * <;> first | done | omega | assumption) | (intros; first | rfl | (exfalso; omega) | ((repeat' apply And.intro) <;> first | assumption | rfl | omega | trivial)))) (by (first | assumption | omega | ((try dsimp only [jt2, jt3, jt4]); first | omega | (simp (disch := omega) only [jst_eq, jst_ne, jst_ni, jst_o, jI_i, jcpy_out, w32_id, jdiv_nn, jshr_k, jand_255] <;> first | done | omega | assumption)) | (intros; simp (disch := omega) only [jst_eq, jst_ne, jst_ni, jst_o, jI_i, jcpy_out, w32_id, jdiv_nn, *] <;> first | done | omega) | (intros; simp (disch := omega) only [jst_eq, jst_ne, jst_ni, jst_o, jI_i, jcpy_out, w32_id, jdiv_nn] at * <;> first | done | omega | assumption) | (intros; first | rfl | (exfalso; omega) | ((repeat' apply And.intro) <;> first | assumption | rfl | omega | trivial)))) (by (first | assumption | omega | ((try dsimp only [jt2, jt3, jt4]); first | omega | (simp (disch := omega) only [jst_eq, jst_ne, jst_ni, jst_o, jI_i, jcpy_out, w32_id, jdiv_nn, jshr_k, jand_255] <;> first | done | omega | assumption)) | (intros; simp (disch := omega) only [jst_eq, jst_ne, jst_ni, jst_o, jI_i, jcpy_out, w32_id, jdiv_nn, *] <;> first | done | omega) | (intros; simp (disch := omega) only [jst_eq, jst_ne, jst_ni, jst_o, jI_i, jcpy_out, w32_id, jdiv_nn] at * <;> first | done | omega | assumption) | (intros; first | rfl | (exfalso; omega) | ((repeat' apply And.intro) <;> first | assumption | rfl | omega | trivial)))) (by (first | assumption | omega | ((try dsimp only [jt2, jt3, jt4]); first | omega | (simp (disch := omega) only [jst_eq, jst_ne, jst_ni, jst_o, jI_i, jcpy_out, w32_id, jdiv_nn, jshr_k, jand_255] <;> first | done | omega | assumption)) | (intros; simp (disch := omega) only [jst_eq, jst_ne, jst_ni, jst_o, jI_i, jcpy_out, w32_id, jdiv_nn, *] <;> first | done | omega) | (intros; simp (disch := omega) only [jst_eq, jst_ne, jst_ni, jst_o, jI_i, jcpy_out, w32_id, jdiv_nn] at * <;> first | done | omega | assumption) | (intros; first | rfl | (exfalso; omega) | ((repeat' apply And.intro) <;> first | assumption | rfl | omega | trivial)))) (by (unfold vlK; rw [if_neg (fun z => c3 (O.2.1.mp z)), if_pos (O.2.2.1.mpr c4)]))) (fun r r4 => ?_)
          obtain ⟨y3, y4⟩ := r
          try dsimp only [Sum.elim_inl, Sum.elim_inr, jt2, jt3, jt4, jt5, jt6, jt7, jt8] at r4
          obtain ⟨sx4, vv4, kk4, fr4⟩ := r4
          try simp (disch := omega) only [jst_eq, jst_ne, jst_ni, jI_i, jcmp_lt, jcmp_gt, w32_id, jcpy_out, Sum.elim_inl, Sum.elim_inr, jt2, jt3, jt4, jt5, jt6, jt7, jt8] at sx4
          try simp (disch := omega) only [jst_eq, jst_ne, jst_ni, jI_i, jcmp_lt, jcmp_gt, w32_id, jcpy_out, Sum.elim_inl, Sum.elim_inr, jt2, jt3, jt4, jt5, jt6, jt7, jt8] at vv4
          try simp (disch := omega) only [jst_eq, jst_ne, jst_ni, jI_i, jcmp_lt, jcmp_gt, w32_id, jcpy_out, Sum.elim_inl, Sum.elim_inr, jt2, jt3, jt4, jt5, jt6, jt7, jt8] at kk4
          try simp (disch := omega) only [jst_eq, jst_ne, jst_ni, jI_i, jcmp_lt, jcmp_gt, w32_id, jcpy_out, Sum.elim_inl, Sum.elim_inr, jt2, jt3, jt4, jt5, jt6, jt7, jt8] at fr4
          try dsimp only [Sum.elim_inl, Sum.elim_inr, jt2, jt3, jt4, jt5, jt6, jt7, jt8]
          try dsimp only [Sum.elim_inl, Sum.elim_inr, jt2, jt3, jt4, jt5, jt6, jt7, jt8]
          refine ⟨?_, ?_, ?_, ?_, ?_⟩
          · (rw [k2.1]; show Sx B n (pVl B n q) _; unfold pVl; rw [if_pos g]; exact sx4) -- o27 e3.1
          · (intro q' e z; rw [k2.1] at e; cases e; exact ⟨vv4, kk4⟩) -- o28 e3.2
          · (intro q' e z; rw [kk4]; unfold vlK; by_cases y : tO B n q = 2; { rw [if_pos y]; decide }; { rw [if_neg y]; by_cases y2 : tO B n q = 3; { rw [if_pos y2]; decide }; { rw [if_neg y2]; decide } }) -- o29 e3.3
          · (first | assumption | omega | ((try dsimp only [jt2, jt3, jt4]); first | omega | (simp (disch := omega) only [jst_eq, jst_ne, jst_ni, jst_o, jI_i, jcpy_out, w32_id, jdiv_nn, jshr_k, jand_255] <;> first | done | omega | assumption)) | (intros; simp (disch := omega) only [jst_eq, jst_ne, jst_ni, jst_o, jI_i, jcpy_out, w32_id, jdiv_nn, *] <;> first | done | omega) | (intros; simp (disch := omega) only [jst_eq, jst_ne, jst_ni, jst_o, jI_i, jcpy_out, w32_id, jdiv_nn] at * <;> first | done | omega | assumption) | (intros; first | rfl | (exfalso; omega) | ((repeat' apply And.intro) <;> first | assumption | rfl | omega | trivial))) -- o30 e3.4
          · exact fun _ => ⟨q, k2.1, g⟩ -- o31 e3.5
        · skip
          try simp (disch := omega) only [jst_eq, jst_ne, jst_ni, jI_i, jcmp_lt, jcmp_gt, w32_id, jcpy_out, Sum.elim_inl, Sum.elim_inr, jt2, jt3, jt4, jt5, jt6, jt7, jt8] at c4
          refine OK_mono (vX13_value_j50 (B := B) (n := n) (A := A) (q := q) _ (by (first | assumption | omega | ((try dsimp only [jt2, jt3, jt4]); first | omega | (simp (disch := omega) only [jst_eq, jst_ne, jst_ni, jst_o, jI_i, jcpy_out, w32_id, jdiv_nn, jshr_k, jand_255] <;> first | done | omega | assumption)) | (intros; simp (disch := omega) only [jst_eq, jst_ne, jst_ni, jst_o, jI_i, jcpy_out, w32_id, jdiv_nn, *] <;> first | done | omega) | (intros; simp (disch := omega) only [jst_eq, jst_ne, jst_ni, jst_o, jI_i, jcpy_out, w32_id, jdiv_nn] at * <;> first | done | omega | assumption) | (intros; first | rfl | (exfalso; omega) | ((repeat' apply And.intro) <;> first | assumption | rfl | omega | trivial)))) (by (first | assumption | omega | ((try dsimp only [jt2, jt3, jt4]); first | omega | (simp (disch := omega) only [jst_eq, jst_ne, jst_ni, jst_o, jI_i, jcpy_out, w32_id, jdiv_nn, jshr_k, jand_255] <;> first | done | omega | assumption)) | (intros; simp (disch := omega) only [jst_eq, jst_ne, jst_ni, jst_o, jI_i, jcpy_out, w32_id, jdiv_nn, *] <;> first | done | omega) | (intros; simp (disch := omega) only [jst_eq, jst_ne, jst_ni, jst_o, jI_i, jcpy_out, w32_id, jdiv_nn] at * <;> first | done | omega | assumption) | (intros; first | rfl | (exfalso; omega) | ((repeat' apply And.intro) <;> first | assumption | rfl | omega | trivial)))) (by (first | assumption | omega | ((try dsimp only [jt2, jt3, jt4]); first | omega | (simp (disch := omega) only [jst_eq, jst_ne, jst_ni, jst_o, jI_i, jcpy_out, w32_id, jdiv_nn, jshr_k, jand_255] <;> first | done | omega | assumption)) | (intros; simp (disch := omega) only [jst_eq, jst_ne, jst_ni, jst_o, jI_i, jcpy_out, w32_id, jdiv_nn, *] <;> first | done | omega) | (intros; simp (disch := omega) only [jst_eq, jst_ne, jst_ni, jst_o, jI_i, jcpy_out, w32_id, jdiv_nn] at * <;> first | done | omega | assumption) | (intros; first | rfl | (exfalso; omega) | ((repeat' apply And.intro) <;> first | assumption | rfl | omega | trivial)))) (by (first | assumption | omega | ((try dsimp only [jt2, jt3, jt4]); first | omega | (simp (disch := omega) only [jst_eq, jst_ne, jst_ni, jst_o, jI_i, jcpy_out, w32_id, jdiv_nn, jshr_k, jand_255] <;> first | done | omega | assumption)) | (intros; simp (disch := omega) only [jst_eq, jst_ne, jst_ni, jst_o, jI_i, jcpy_out, w32_id, jdiv_nn, *] <;> first | done | omega) | (intros; simp (disch := omega) only [jst_eq, jst_ne, jst_ni, jst_o, jI_i, jcpy_out, w32_id, jdiv_nn] at * <;> first | done | omega | assumption) | (intros; first | rfl | (exfalso; omega) | ((repeat' apply And.intro) <;> first | assumption | rfl | omega | trivial)))) (by (first | assumption | omega | ((try dsimp only [jt2, jt3, jt4]); first | omega | (simp (disch := omega) only [jst_eq, jst_ne, jst_ni, jst_o, jI_i, jcpy_out, w32_id, jdiv_nn, jshr_k, jand_255] <;> first | done | omega | assumption)) | (intros; simp (disch := omega) only [jst_eq, jst_ne, jst_ni, jst_o, jI_i, jcpy_out, w32_id, jdiv_nn, *] <;> first | done | omega) | (intros; simp (disch := omega) only [jst_eq, jst_ne, jst_ni, jst_o, jI_i, jcpy_out, w32_id, jdiv_nn] at * <;> first | done | omega | assumption) | (intros; first | rfl | (exfalso; omega) | ((repeat' apply And.intro) <;> first | assumption | rfl | omega | trivial)))) (by (unfold vlK; rw [if_neg (fun z => c3 (O.2.1.mp z)), if_neg (fun z => c4 (O.2.2.1.mp z))]))) (fun r r5 => ?_)
          obtain ⟨y5, y6⟩ := r
          try dsimp only [Sum.elim_inl, Sum.elim_inr, jt2, jt3, jt4, jt5, jt6, jt7, jt8] at r5
          obtain ⟨sx5, vv5, kk5, fr5⟩ := r5
          try simp (disch := omega) only [jst_eq, jst_ne, jst_ni, jI_i, jcmp_lt, jcmp_gt, w32_id, jcpy_out, Sum.elim_inl, Sum.elim_inr, jt2, jt3, jt4, jt5, jt6, jt7, jt8] at sx5
          try simp (disch := omega) only [jst_eq, jst_ne, jst_ni, jI_i, jcmp_lt, jcmp_gt, w32_id, jcpy_out, Sum.elim_inl, Sum.elim_inr, jt2, jt3, jt4, jt5, jt6, jt7, jt8] at vv5
          try simp (disch := omega) only [jst_eq, jst_ne, jst_ni, jI_i, jcmp_lt, jcmp_gt, w32_id, jcpy_out, Sum.elim_inl, Sum.elim_inr, jt2, jt3, jt4, jt5, jt6, jt7, jt8] at kk5
          try simp (disch := omega) only [jst_eq, jst_ne, jst_ni, jI_i, jcmp_lt, jcmp_gt, w32_id, jcpy_out, Sum.elim_inl, Sum.elim_inr, jt2, jt3, jt4, jt5, jt6, jt7, jt8] at fr5
          try dsimp only [Sum.elim_inl, Sum.elim_inr, jt2, jt3, jt4, jt5, jt6, jt7, jt8]
          try dsimp only [Sum.elim_inl, Sum.elim_inr, jt2, jt3, jt4, jt5, jt6, jt7, jt8]
          refine ⟨?_, ?_, ?_, ?_, ?_⟩
          · (rw [k2.1]; show Sx B n (pVl B n q) _; unfold pVl; rw [if_pos g]; exact sx5) -- o38 e4.1
          · (intro q' e z; rw [k2.1] at e; cases e; exact ⟨vv5, kk5⟩) -- o39 e4.2
          · (intro q' e z; rw [kk5]; unfold vlK; by_cases y : tO B n q = 2; { rw [if_pos y]; decide }; { rw [if_neg y]; by_cases y2 : tO B n q = 3; { rw [if_pos y2]; decide }; { rw [if_neg y2]; decide } }) -- o40 e4.3
          · (first | assumption | omega | ((try dsimp only [jt2, jt3, jt4]); first | omega | (simp (disch := omega) only [jst_eq, jst_ne, jst_ni, jst_o, jI_i, jcpy_out, w32_id, jdiv_nn, jshr_k, jand_255] <;> first | done | omega | assumption)) | (intros; simp (disch := omega) only [jst_eq, jst_ne, jst_ni, jst_o, jI_i, jcpy_out, w32_id, jdiv_nn, *] <;> first | done | omega) | (intros; simp (disch := omega) only [jst_eq, jst_ne, jst_ni, jst_o, jI_i, jcpy_out, w32_id, jdiv_nn] at * <;> first | done | omega | assumption) | (intros; first | rfl | (exfalso; omega) | ((repeat' apply And.intro) <;> first | assumption | rfl | omega | trivial))) -- o41 e4.4
          · exact fun _ => ⟨q, k2.1, g⟩ -- o42 e4.5
  · skip
    try simp (disch := omega) only [jst_eq, jst_ne, jst_ni, jI_i, jcmp_lt, jcmp_gt, w32_id, jcpy_out, Sum.elim_inl, Sum.elim_inr, jt2, jt3, jt4, jt5, jt6, jt7, jt8] at c1
    refine OK_some ?_
    try dsimp only [Sum.elim_inl, Sum.elim_inr, jt2, jt3, jt4, jt5, jt6, jt7, jt8]
    try dsimp only [Sum.elim_inl, Sum.elim_inr, jt2, jt3, jt4, jt5, jt6, jt7, jt8]
    refine ⟨?_, ?_, ?_, ?_, ?_⟩
    · (obtain ⟨_, e⟩ := Sx_br s c1; rw [e] at s ⊢; exact s) -- o43 e5.1
    · (intro q' e z; obtain ⟨_, y⟩ := Sx_br s c1; rw [y] at e; cases e) -- o44 e5.2
    · (intro q' e z; obtain ⟨_, y⟩ := Sx_br s c1; rw [y] at e; cases e) -- o45 e5.3
    · (first | assumption | omega | ((try dsimp only [jt2, jt3, jt4]); first | omega | (simp (disch := omega) only [jst_eq, jst_ne, jst_ni, jst_o, jI_i, jcpy_out, w32_id, jdiv_nn, jshr_k, jand_255] <;> first | done | omega | assumption)) | (intros; simp (disch := omega) only [jst_eq, jst_ne, jst_ni, jst_o, jI_i, jcpy_out, w32_id, jdiv_nn, *] <;> first | done | omega) | (intros; simp (disch := omega) only [jst_eq, jst_ne, jst_ni, jst_o, jI_i, jcpy_out, w32_id, jdiv_nn] at * <;> first | done | omega | assumption) | (intros; first | rfl | (exfalso; omega) | ((repeat' apply And.intro) <;> first | assumption | rfl | omega | trivial))) -- o46 e5.4
    · exact fun z => absurd z c1 -- o47 e5.5
theorem vkL_le {B : Int → Int} {n : Int} {ks : List Int} : ∀ (j : Int) (l : List Int), vkL B n ks j l ≤ 1000000
  | j, [] => Int.le_refl _
  | j, u :: l => by
    have := vkL_le (B := B) (n := n) (ks := ks) (j + 1) l
    show min _ (vkL B n ks (j + 1) l) ≤ 1000000
    omega
/-- behind a value: is there one more -/
theorem vX13_row_j118_39 (a1 : Int) (a2 : Int) (a3 : Int) {h : AH} {B : Int → Int} {n A : Int} {R : Int ⊕ Int} (t : TX B n A h) (o : Od h) (sx : Sx B n R h ∧ h 441 6 = 0) (a0 : 0 ≤ a3 ∧ a3 ≤ 3000) : OK (gX13_row_j118_39 a1 a2 a3 h) (Sum.elim (fun r => jt2 r fun y h' => y = a3 + 1 ∧ h' = h ∧ ∃ q, R = .inr q ∧ isVl B n q) (Sum.elim (fun h' => (0 : Int) = 1) (fun r => jt2 r fun y h' => y = a3 + 1 ∧ h' = h ∧ ¬ ∃ q, R = .inr q ∧ isVl B n q))) := by
  unfold gX13_row_j118_39
  refine OK_jlx (fun x48 ex48 => ?_)
  try simp (disch := omega) only [jst_eq, jst_ne, jst_ni, jI_i, jcmp_lt, jcmp_gt, w32_id, jcpy_out, Sum.elim_inl, Sum.elim_inr, jt2, jt3, jt4, jt5, jt6, jt7, jt8] at ex48
  obtain ⟨qq, nb, k⟩ := Sx_nb sx.1 sx.2
  refine OK_jb (vX13_isValue (B := B) (n := n) (A := A) (q := qq) (by exact t) (by exact nb) (by exact o)) (fun v50 r1 => ?_)
  try dsimp only [Sum.elim_inl, Sum.elim_inr, jt2, jt3, jt4, jt5, jt6, jt7, jt8] at r1
  have v1 := r1
  clear r1
  try simp (disch := omega) only [jst_eq, jst_ne, jst_ni, jI_i, jcmp_lt, jcmp_gt, w32_id, jcpy_out, Sum.elim_inl, Sum.elim_inr, jt2, jt3, jt4, jt5, jt6, jt7, jt8] at v1
  have V50 : v50 = if isVl B n qq then 1 else 0 := by assumption
  have EX : x48 = a3 + 1 := by first | omega | (rw [ex48]; exact w32_id (by omega) (by omega))
  refine OK_if (fun c1 => ?_) (fun c1 => ?_)
  · skip
    try simp (disch := omega) only [jst_eq, jst_ne, jst_ni, jI_i, jcmp_lt, jcmp_gt, w32_id, jcpy_out, Sum.elim_inl, Sum.elim_inr, jt2, jt3, jt4, jt5, jt6, jt7, jt8] at c1
    have VN : ¬ isVl B n qq := fun z => by { rw [if_pos z] at V50; omega }
    refine OK_some ?_
    try dsimp only [Sum.elim_inl, Sum.elim_inr, jt2, jt3, jt4, jt5, jt6, jt7, jt8]
    exact ⟨EX, rfl, fun ⟨q', e, g⟩ => by (rcases k with y | y; { rw [y.1] at e; cases e }; { rw [y.1] at e; cases e; exact VN g })⟩ -- o4 e1
  · skip
    try simp (disch := omega) only [jst_eq, jst_ne, jst_ni, jI_i, jcmp_lt, jcmp_gt, w32_id, jcpy_out, Sum.elim_inl, Sum.elim_inr, jt2, jt3, jt4, jt5, jt6, jt7, jt8] at c1
    have VP : isVl B n qq := Classical.byContradiction fun z => by { rw [if_neg z] at V50; omega }
    refine OK_some ?_
    try dsimp only [Sum.elim_inl, Sum.elim_inr, jt2, jt3, jt4, jt5, jt6, jt7, jt8]
    exact ⟨EX, rfl, qq, (k.resolve_left (fun z => by rcases VP with w | w | w | w <;> (first | omega | (have := w.1; omega)))).1, VP⟩ -- o5 e2
theorem vX13_row_j93_39 (a1 : Int) (a2 : Int) (a3 : Int) (a5 : Int) {h : AH} {B : Int → Int} {n A a m la : Int} {ks vs : List Int} {u : Int} {R : Int ⊕ Int} (rk : rdK B n A a ks la m h) (sx : Sx B n R h ∧ h 441 6 = 0) (a0 : 0 ≤ a3 ∧ a3 < 3 ∧ (vs.length : Int) = a3 ∧ a5 = vlV B n u) (rm : (a2 = 0 ∨ a2 = 1) ∧ (a2 = 1 → m < 12)) (st : vsX B n a m ks vs a2 h) : OK (gX13_row_j93_39 a1 a2 a3 a5 h) (Sum.elim (fun r => jt2 r fun y h' => (y = a3 + 1 ∧ ∃ q, R = .inr q ∧ isVl B n q) ∧ (vsX B n a m ks (vs ++ [u]) a2 h') ∧ (∀ b s, ¬ (b = a + 6 ∧ 3 * m ≤ s ∧ s < 3 * m + 3) → h' b s = h b s)) (Sum.elim (fun h' => (0 : Int) = 1) (fun r => jt2 r fun y h' => (y = a3 + 1 ∧ ¬ ∃ q, R = .inr q ∧ isVl B n q) ∧ (vsX B n a m ks (vs ++ [u]) a2 h') ∧ (∀ b s, ¬ (b = a + 6 ∧ 3 * m ≤ s ∧ s < 3 * m + 3) → h' b s = h b s)))) := by
  obtain ⟨x1, x2, ⟨x3, x4⟩, x5, x9, x10, x11, x12⟩ := rk
  have LA : a = 271 ∨ a = 289 := x3
  unfold gX13_row_j93_39
  refine OK_if (fun c1 => ?_) (fun c1 => ?_)
  · skip
    try simp (disch := omega) only [jst_eq, jst_ne, jst_ni, jI_i, jcmp_lt, jcmp_gt, w32_id, jcpy_out, Sum.elim_inl, Sum.elim_inr, jt2, jt3, jt4, jt5, jt6, jt7, jt8] at c1
    refine OK_mono (vX13_row_j118_39 (B := B) (n := n) (A := A) (R := R) _ _ _ (by exact x1) (by exact x2) (by exact sx) (by omega)) (fun r r1 => ?_)
    rcases r with r | r
    · skip
      have r2 := r1; clear r1; dsimp only [Sum.elim_inl, Sum.elim_inr] at r2
      obtain ⟨y1, y2⟩ := r
      try dsimp only [Sum.elim_inl, Sum.elim_inr, jt2, jt3, jt4, jt5, jt6, jt7, jt8] at r2
      have cc1 := r2
      clear r2
      try simp (disch := omega) only [jst_eq, jst_ne, jst_ni, jI_i, jcmp_lt, jcmp_gt, w32_id, jcpy_out, Sum.elim_inl, Sum.elim_inr, jt2, jt3, jt4, jt5, jt6, jt7, jt8] at cc1
      try dsimp only [Sum.elim_inl, Sum.elim_inr, jt2, jt3, jt4, jt5, jt6, jt7, jt8]
      try dsimp only [Sum.elim_inl, Sum.elim_inr, jt2, jt3, jt4, jt5, jt6, jt7, jt8]
      refine ⟨?_, ?_, ?_⟩
      · exact ⟨cc1.1, cc1.2.2⟩ -- o5 e1.1
      · (intro z; omega) -- o6 e1.2
      · (rw [cc1.2.1]; exact fun _ _ _ => rfl) -- o7 e1.3
    · skip
      have r3 := r1; clear r1; dsimp only [Sum.elim_inl, Sum.elim_inr] at r3
      rcases r with r | r
      · skip
        have r4 := r3; clear r3; dsimp only [Sum.elim_inl, Sum.elim_inr] at r4
        try dsimp only [Sum.elim_inl, Sum.elim_inr, jt2, jt3, jt4, jt5, jt6, jt7, jt8] at r4
        have no2 := r4
        clear r4
        try simp (disch := omega) only [jst_eq, jst_ne, jst_ni, jI_i, jcmp_lt, jcmp_gt, w32_id, jcpy_out, Sum.elim_inl, Sum.elim_inr, jt2, jt3, jt4, jt5, jt6, jt7, jt8] at no2
        try dsimp only [Sum.elim_inl, Sum.elim_inr, jt2, jt3, jt4, jt5, jt6, jt7, jt8]
        exact absurd no2 (by decide) -- o8 e2
      · skip
        have r5 := r3; clear r3; dsimp only [Sum.elim_inl, Sum.elim_inr] at r5
        obtain ⟨y3, y4⟩ := r
        try dsimp only [Sum.elim_inl, Sum.elim_inr, jt2, jt3, jt4, jt5, jt6, jt7, jt8] at r5
        have cc3 := r5
        clear r5
        try simp (disch := omega) only [jst_eq, jst_ne, jst_ni, jI_i, jcmp_lt, jcmp_gt, w32_id, jcpy_out, Sum.elim_inl, Sum.elim_inr, jt2, jt3, jt4, jt5, jt6, jt7, jt8] at cc3
        try dsimp only [Sum.elim_inl, Sum.elim_inr, jt2, jt3, jt4, jt5, jt6, jt7, jt8]
        try dsimp only [Sum.elim_inl, Sum.elim_inr, jt2, jt3, jt4, jt5, jt6, jt7, jt8]
        refine ⟨?_, ?_, ?_⟩
        · exact ⟨cc3.1, cc3.2.2⟩ -- o9 e3.1
        · (intro z; omega) -- o10 e3.2
        · (rw [cc3.2.1]; exact fun _ _ _ => rfl) -- o11 e3.3
  · skip
    try simp (disch := omega) only [jst_eq, jst_ne, jst_ni, jI_i, jcmp_lt, jcmp_gt, w32_id, jcpy_out, Sum.elim_inl, Sum.elim_inr, jt2, jt3, jt4, jt5, jt6, jt7, jt8] at c1
    have W1 : w32 (w32 (3 * h (h 441 20) 8) + a3) = 3 * m + a3 := by { rw [x4, x10.1, w32_id (x := 3 * m) (by omega) (by omega)]; exact w32_id (by omega) (by omega) }
    rw [W1, x4]
    refine OK_jg (by (first | ((unfold isX4; omega)) | (first | assumption | omega | ((try dsimp only [jt2, jt3, jt4]); first | omega | (simp (disch := omega) only [jst_eq, jst_ne, jst_ni, jst_o, jI_i, jcpy_out, w32_id, jdiv_nn, jshr_k, jand_255] <;> first | done | omega | assumption)) | (intros; simp (disch := omega) only [jst_eq, jst_ne, jst_ni, jst_o, jI_i, jcpy_out, w32_id, jdiv_nn, *] <;> first | done | omega) | (intros; simp (disch := omega) only [jst_eq, jst_ne, jst_ni, jst_o, jI_i, jcpy_out, w32_id, jdiv_nn] at * <;> first | done | omega | assumption) | (intros; first | rfl | (exfalso; omega) | ((repeat' apply And.intro) <;> first | assumption | rfl | omega | trivial))))) ?_ -- o12
    refine OK_jg (by (first | ((unfold isX4; omega)) | (first | assumption | omega | ((try dsimp only [jt2, jt3, jt4]); first | omega | (simp (disch := omega) only [jst_eq, jst_ne, jst_ni, jst_o, jI_i, jcpy_out, w32_id, jdiv_nn, jshr_k, jand_255] <;> first | done | omega | assumption)) | (intros; simp (disch := omega) only [jst_eq, jst_ne, jst_ni, jst_o, jI_i, jcpy_out, w32_id, jdiv_nn, *] <;> first | done | omega) | (intros; simp (disch := omega) only [jst_eq, jst_ne, jst_ni, jst_o, jI_i, jcpy_out, w32_id, jdiv_nn] at * <;> first | done | omega | assumption) | (intros; first | rfl | (exfalso; omega) | ((repeat' apply And.intro) <;> first | assumption | rfl | omega | trivial))))) ?_ -- o13
    refine OK_jl ?_
    have F53 : ∀ b s, ¬ (b = a + 6 ∧ s = 3 * m + a3) → jst h (a + 6) (3 * m + a3) a5 b s = h b s := fun b s y => jst_o y
    have V53 : jst h (a + 6) (3 * m + a3) a5 (a + 6) (3 * m + a3) = a5 := jst_eq
    generalize jst h (a + 6) (3 * m + a3) a5 = g53 at *
    have ST : vsX B n a m ks (vs ++ [u]) a2 g53 := fun z j jk q eq => by { rcases app_ixg eq with ⟨y1, y2⟩ | ⟨y1, y2⟩; { rw [F53 _ _ (by omega)]; exact st z j jk q y2 }; { rw [y1, a0.2.2.1, V53, y2]; exact a0.2.2.2 } }
    refine OK_mono (vX13_row_j118_39 (B := B) (n := n) (A := A) (R := R) _ _ _ (by exact TX_fr x1 (F53 _ _ (by omega)) (F53 _ _ (by omega)) (fun s => F53 _ _ (by have := x1.2.2.2.2; omega))) (by exact Od_fr x2 (fun b i b0 b1 => F53 _ _ (by omega))) (by exact ⟨Sx_fr sx.1 (fun s s0 s1 => F53 _ _ (by omega)), by rw [F53 _ _ (by omega)]; exact sx.2⟩) (by omega)) (fun r r6 => ?_)
    rcases r with r | r
    · skip
      have r7 := r6; clear r6; dsimp only [Sum.elim_inl, Sum.elim_inr] at r7
      obtain ⟨y5, y6⟩ := r
      try dsimp only [Sum.elim_inl, Sum.elim_inr, jt2, jt3, jt4, jt5, jt6, jt7, jt8] at r7
      have cc4 := r7
      clear r7
      try simp (disch := omega) only [jst_eq, jst_ne, jst_ni, jI_i, jcmp_lt, jcmp_gt, w32_id, jcpy_out, Sum.elim_inl, Sum.elim_inr, jt2, jt3, jt4, jt5, jt6, jt7, jt8] at cc4
      try dsimp only [Sum.elim_inl, Sum.elim_inr, jt2, jt3, jt4, jt5, jt6, jt7, jt8]
      try dsimp only [Sum.elim_inl, Sum.elim_inr, jt2, jt3, jt4, jt5, jt6, jt7, jt8]
      refine ⟨?_, ?_, ?_⟩
      · exact ⟨cc4.1, cc4.2.2⟩ -- o18 e4.1
      · (rw [cc4.2.1]; exact ST) -- o19 e4.2
      · (rw [cc4.2.1]; exact fun b s y => F53 b s (by omega)) -- o20 e4.3
    · skip
      have r8 := r6; clear r6; dsimp only [Sum.elim_inl, Sum.elim_inr] at r8
      rcases r with r | r
      · skip
        have r9 := r8; clear r8; dsimp only [Sum.elim_inl, Sum.elim_inr] at r9
        try dsimp only [Sum.elim_inl, Sum.elim_inr, jt2, jt3, jt4, jt5, jt6, jt7, jt8] at r9
        have no5 := r9
        clear r9
        try simp (disch := omega) only [jst_eq, jst_ne, jst_ni, jI_i, jcmp_lt, jcmp_gt, w32_id, jcpy_out, Sum.elim_inl, Sum.elim_inr, jt2, jt3, jt4, jt5, jt6, jt7, jt8] at no5
        try dsimp only [Sum.elim_inl, Sum.elim_inr, jt2, jt3, jt4, jt5, jt6, jt7, jt8]
        exact absurd no5 (by decide) -- o21 e5
      · skip
        have r10 := r8; clear r8; dsimp only [Sum.elim_inl, Sum.elim_inr] at r10
        obtain ⟨y7, y8⟩ := r
        try dsimp only [Sum.elim_inl, Sum.elim_inr, jt2, jt3, jt4, jt5, jt6, jt7, jt8] at r10
        have cc6 := r10
        clear r10
        try simp (disch := omega) only [jst_eq, jst_ne, jst_ni, jI_i, jcmp_lt, jcmp_gt, w32_id, jcpy_out, Sum.elim_inl, Sum.elim_inr, jt2, jt3, jt4, jt5, jt6, jt7, jt8] at cc6
        try dsimp only [Sum.elim_inl, Sum.elim_inr, jt2, jt3, jt4, jt5, jt6, jt7, jt8]
        try dsimp only [Sum.elim_inl, Sum.elim_inr, jt2, jt3, jt4, jt5, jt6, jt7, jt8]
        refine ⟨?_, ?_, ?_⟩
        · exact ⟨cc6.1, cc6.2.2⟩ -- o22 e6.1
        · (rw [cc6.2.1]; exact ST) -- o23 e6.2
        · (rw [cc6.2.1]; exact fun b s y => F53 b s (by omega)) -- o24 e6.3
/-- behind a row's values -/
def okVr (B : Int → Int) (n A a la m : Int) (ks : List Int) (room K : Int) (W : Int ⊕ (List Int × Int)) (y : Int) (h : AH) : Prop := match W with
  | .inl z => Sx B n (.inl z) h ∧ f8X h
  | .inr (vs, q) => (vs.length : Int) = y ∧ rdK B n A a ks la m h ∧ Sx B n (.inr q) h ∧ FK h = min K (vkL B n ks 0 vs) ∧ vsX B n a m ks vs room h
theorem vr_st {B : Int → Int} {n a m i : Int} {ks vs : List Int} {h h' : AH} (x : vsX B n a m ks vs i h) (f : ∀ s, h' (a + 6) s = h (a + 6) s) : vsX B n a m ks vs i h' := fun z j jk q eq => by { rw [f]; exact x z j jk q eq }
theorem vr_co {B : Int → Int} {n A a la m i K2 : Int} {ks ws : List Int} {h0 h42 : AH} {R1 : Int ⊕ Int} (LA : a = 271 ∨ a = 289) (m0 : 0 ≤ m ∧ m ≤ 12) (RK42 : rdK B n A a ks la m h42) (sx1 : Sx B n R1 h42) (G42 : ∀ b s, ¬ (b = 441 ∧ ((2 ≤ s ∧ s ≤ 9) ∨ s = 18)) → ¬ (b = a + 6 ∧ 3 * m ≤ s ∧ s < 3 * m + 3) → h42 b s = h0 b s) : ∀ (h1 : AH) (K1 : Int), FK h1 = K1 → K1 = K2 → (∀ b s, ¬ (b = 441 ∧ (s = 8 ∨ s = 9)) → h1 b s = h42 b s) → f8X h1 → ∀ h' : AH, (∀ b s, ¬ (b = a + 6 ∧ 3 * m ≤ s ∧ s < 3 * m + 3) → h' b s = h1 b s) → vsX B n a m ks ws i h' → (Sx B n R1 h' ∧ FK h' = K2 ∧ rdK B n A a ks la m h' ∧ ∀ b s, ¬ (b = 441 ∧ ((2 ≤ s ∧ s ≤ 9) ∨ s = 18)) → ¬ (b = a + 6 ∧ 3 * m ≤ s ∧ s < 3 * m + 3) → h' b s = h0 b s) := by
  intro h1 K1 e1 e2 f1 g8 h' f st
  refine ⟨Sx_fr sx1 (fun s s0 s1 => ?_), ?_, rdK_g RK42 (fun b s y1 y2 => ?_) (f8X_f g8 (fun s y => f _ _ (by omega))), fun b s y1 y2 => ?_⟩
  · rw [f _ _ (by omega)]; exact f1 _ _ (by omega)
  · rw [FK_fr (f _ _ (by omega)) (f _ _ (by omega)), e1, e2]
  · rw [f b s (by omega)]; exact f1 b s (by omega)
  · rw [f b s y2, f1 b s (by omega)]; exact G42 b s y1 y2
theorem vr_n6 {a : Int} {P : Prop} (LA : a = 271 ∨ a = 289) : ¬ (a + 6 = 441 ∧ P) := fun z => by { have := z.1; omega }
theorem vr_x4 {a : Int} (LA : a = 271 ∨ a = 289) : isX4 a := by { unfold isX4; omega }
theorem vr_c2 {u v w : Int} {j l L : Nat} (c : u ≤ v) (A : u = (L : Int)) (ll : (l : Int) = v) (y : j = l) (jk : j < L) : False := by omega
theorem vr_lt {u v w : Int} (c : ¬ u ≤ v) (A : u = w) : v < w := by omega
theorem vr_m1 {K v : Int} (y : v ≤ 1000000) : min K v = min K (min v 1000000) := by omega
theorem vr_m3 {K v t : Int} : min (min K v) t = min K (min v t) := by omega
theorem vr_m4 {K v : Int} (y : v ≤ 1000000) : min K v ≤ 1000000 := by omega
theorem vX13_row_l39 (i1 : Int) (i2 : Int) (a30 : Int) {h0 : AH} {B : Int → Int} {n A a la m K : Int} {ks : List Int} {R0 : Int ⊕ Int} (hB : ∀ i, 0 ≤ i → i < n → 0 ≤ B i ∧ B i < 256) (rk : rdK B n A a ks la m h0) (sx : Sx B n R0 h0) (rm : (i2 = 0 ∨ i2 = 1) ∧ (i2 = 1 → m < 12)) (kk : FK h0 = min K 1000000) (h1 : a30 = 0) : OK (gX13_row_l39 i1 i2 a30 h0) (Sum.elim (fun h' => (∃ z, bS R0 (pVs B n 2002 []) = .inl z ∧ h' 441 6 = 1 ∧ h' 441 7 = z ∧ f8X h') ∧ (∀ b s, ¬ (b = 441 ∧ ((2 ≤ s ∧ s ≤ 9) ∨ s = 18)) → ¬ (b = a + 6 ∧ 3 * m ≤ s ∧ s < 3 * m + 3) → h' b s = h0 b s)) (fun r => jt2 r fun y h' => (okVr B n A a la m ks i2 K (bS R0 (pVs B n 2002 [])) y h') ∧ (0 ≤ y ∧ y ≤ 2200) ∧ (∀ b s, ¬ (b = 441 ∧ ((2 ≤ s ∧ s ≤ 9) ∨ s = 18)) → ¬ (b = a + 6 ∧ 3 * m ≤ s ∧ s < 3 * m + 3) → h' b s = h0 b s))) := by
  have LA : a = 271 ∨ a = 289 := rk.2.2.1.1
  have n2 := rk.1.2.2.2.1
  unfold gX13_row_l39
  refine OK_jit (I := (fun (s : Int × AH) => jt2 s fun a3 h => (0 ≤ a3 ∧ a3 ≤ 2100) ∧ (∃ (R : Int ⊕ Int) (vs : List Int) (k : Nat), bS R0 (pVs B n 2002 []) = bS R (pVs B n k vs) ∧ (∀ q, R = .inr q → 2002 ≤ (k : Int) + q ∧ a3 ≤ q) ∧ (vs.length : Int) = a3 ∧ Sx B n R h ∧ (a3 = 0 ∨ ∃ q, R = .inr q ∧ isVl B n q) ∧ FK h = min K (vkL B n ks 0 vs) ∧ vsX B n a m ks vs i2 h) ∧ (rdK B n A a ks la m h) ∧ (∀ b s, ¬ (b = 441 ∧ ((2 ≤ s ∧ s ≤ 9) ∨ s = 18)) → ¬ (b = a + 6 ∧ 3 * m ≤ s ∧ s < 3 * m + 3) → h b s = h0 b s))) (m := (fun (s : Int × AH) => jt2 s fun a3 h => (3000 - a3).toNat)) ?_ ?_
  · intro s hs
    obtain ⟨a3, h⟩ := s
    dsimp only [Sum.elim_inl, Sum.elim_inr, jt2, jt3, jt4, jt5, jt6, jt7, jt8] at hs
    obtain ⟨q0, q1, rk, fr⟩ := hs
    unfold gX13_row_b39
    refine OK_jt2 ?_
    obtain ⟨R, vs, k, w, fu, ll, S, VV, FKh, ST⟩ := q1
    obtain ⟨x1, x2, ⟨x3, x4⟩, x5, x9, x10, x11, x12⟩ := rk
    refine OK_jlx (fun x39 ex39 => ?_)
    try simp (disch := omega) only [jst_eq, jst_ne, jst_ni, jI_i, jcmp_lt, jcmp_gt, w32_id, jcpy_out, Sum.elim_inl, Sum.elim_inr, jt2, jt3, jt4, jt5, jt6, jt7, jt8] at ex39
    refine OK_jb2 (vX13_valueB (B := B) (n := n) (A := A) (R := R) (by exact x1) (by exact hB) (by exact S) (by exact x2)) (fun v41 h42 r1 => ?_)
    try dsimp only [Sum.elim_inl, Sum.elim_inr, jt2, jt3, jt4, jt5, jt6, jt7, jt8] at r1
    obtain ⟨sx1, v1, rg1, fr1, bb1⟩ := r1
    try simp (disch := omega) only [jst_eq, jst_ne, jst_ni, jI_i, jcmp_lt, jcmp_gt, w32_id, jcpy_out, Sum.elim_inl, Sum.elim_inr, jt2, jt3, jt4, jt5, jt6, jt7, jt8] at sx1
    try simp (disch := omega) only [jst_eq, jst_ne, jst_ni, jI_i, jcmp_lt, jcmp_gt, w32_id, jcpy_out, Sum.elim_inl, Sum.elim_inr, jt2, jt3, jt4, jt5, jt6, jt7, jt8] at v1
    try simp (disch := omega) only [jst_eq, jst_ne, jst_ni, jI_i, jcmp_lt, jcmp_gt, w32_id, jcpy_out, Sum.elim_inl, Sum.elim_inr, jt2, jt3, jt4, jt5, jt6, jt7, jt8] at rg1
    try simp (disch := omega) only [jst_eq, jst_ne, jst_ni, jI_i, jcmp_lt, jcmp_gt, w32_id, jcpy_out, Sum.elim_inl, Sum.elim_inr, jt2, jt3, jt4, jt5, jt6, jt7, jt8] at fr1
    try simp (disch := omega) only [jst_eq, jst_ne, jst_ni, jI_i, jcmp_lt, jcmp_gt, w32_id, jcpy_out, Sum.elim_inl, Sum.elim_inr, jt2, jt3, jt4, jt5, jt6, jt7, jt8] at bb1
    have F42 : f8X h42 := f8X_f x12 (fun s y => fr1 _ _ (by omega))
    have K42 : FK h42 = FK h := FK_fr (fr1 _ _ (by omega)) (fr1 _ _ (by omega))
    have RK42 : rdK B n A a ks la m h42 := rdK_g ⟨x1, x2, ⟨x3, x4⟩, x5, x9, x10, x11, x12⟩ (fun b s y _ => fr1 b s (by omega)) F42
    have E20 : h42 441 20 = a := RK42.2.2.1.2
    have ST42 : vsX B n a m ks vs i2 h42 := vr_st ST (fun s => fr1 _ _ (vr_n6 LA))
    have G42 : ∀ b s, ¬ (b = 441 ∧ ((2 ≤ s ∧ s ≤ 9) ∨ s = 18)) → ¬ (b = a + 6 ∧ 3 * m ≤ s ∧ s < 3 * m + 3) → h42 b s = h0 b s := fun b s y1 y2 => by { rw [fr1 b s (by omega)]; exact fr b s y1 y2 }
    refine OK_if (fun c1 => ?_) (fun c1 => ?_)
    · skip
      try simp (disch := omega) only [jst_eq, jst_ne, jst_ni, jI_i, jcmp_lt, jcmp_gt, w32_id, jcpy_out, Sum.elim_inl, Sum.elim_inr, jt2, jt3, jt4, jt5, jt6, jt7, jt8] at c1
      rw [E20]
      obtain ⟨q, eR, VQ⟩ := bb1 c1
      have S1 := S
      rw [eR] at S1 sx1
      have NB1 := Sx_inr S1
      have ev : bnd (.inr q) (pVl B n) = nx B n q := if_pos VQ
      rw [ev] at sx1
      have V4 := v1 q eR VQ
      have X3 : x39 = tS B n q := by { rw [ex39]; exact NB1.1.2.1.1 }
      have qn := NB1.1.2.2
      have SR := tS_r (B := B) qn.2
      obtain ⟨fu1, fu2⟩ := fu q eR
      have KP : 0 < k := by omega
      obtain ⟨k', rfl⟩ : ∃ k' : Nat, k = k' + 1 := ⟨k - 1, by omega⟩
      have LN : ((vs ++ [q]).length : Int) = a3 + 1 := by { rw [List.length_append]; show ((vs.length + 1 : Nat) : Int) = a3 + 1; omega }
      have A1 : h42 a 1 = (ks.length : Int) := RK42.2.2.2.1.1
      have n3 : ks.length ≤ 3 := x5.2.2.1
      have VA := vkL_app (B := B) (n := n) (ks := ks) (q := q) 0 vs
      rw [Int.zero_add, ll] at VA
      have w2 : bS R0 (pVs B n 2002 []) = pVs B n (k' + 1) vs q := by { rw [w, eR]; rfl }
      have CO := vr_co (i := i2) (ws := vs ++ [q]) (K2 := min K (vkL B n ks 0 (vs ++ [q]))) LA x10.2 RK42 sx1 G42
      refine OK_jg (by (first | ((exact vr_x4 LA)) | (first | assumption | omega | ((try dsimp only [jt2, jt3, jt4]); first | omega | (simp (disch := omega) only [jst_eq, jst_ne, jst_ni, jst_o, jI_i, jcpy_out, w32_id, jdiv_nn, jshr_k, jand_255] <;> first | done | omega | assumption)) | (intros; simp (disch := omega) only [jst_eq, jst_ne, jst_ni, jst_o, jI_i, jcpy_out, w32_id, jdiv_nn, *] <;> first | done | omega) | (intros; simp (disch := omega) only [jst_eq, jst_ne, jst_ni, jst_o, jI_i, jcpy_out, w32_id, jdiv_nn] at * <;> first | done | omega | assumption) | (intros; first | rfl | (exfalso; omega) | ((repeat' apply And.intro) <;> first | assumption | rfl | omega | trivial))))) ?_ -- o5
      refine OK_if (fun c2 => ?_) (fun c2 => ?_)
      · skip
        try simp (disch := omega) only [jst_eq, jst_ne, jst_ni, jI_i, jcmp_lt, jcmp_gt, w32_id, jcpy_out, Sum.elim_inl, Sum.elim_inr, jt2, jt3, jt4, jt5, jt6, jt7, jt8] at c2
        have K2 : FK h42 = min K (vkL B n ks 0 (vs ++ [q])) := by { rw [K42, FKh, VA, if_neg (fun z => absurd z.1 (Int.not_lt.mpr (by rw [← A1]; exact c2)))]; exact vr_m1 (vkL_le 0 vs) }
        have ST2 : ∀ h' : AH, (∀ j, h' (a + 6) j = h42 (a + 6) j) → vsX B n a m ks (vs ++ [q]) i2 h' := fun h' e z j jk q' eq => by { rcases app_ixg eq with ⟨y1, y2⟩ | ⟨y1, y2⟩; { rw [e]; exact ST42 z j jk q' y2 }; { exact (vr_c2 (w := 0) c2 A1 ll y1 jk).elim } }
        refine OK_mono (vX13_row_j118_39 (B := B) (n := n) (A := A) (R := nx B n q) _ _ _ (by exact RK42.1) (by exact RK42.2.1) (by exact ⟨sx1, c1⟩) (by exact ⟨q0.1, by omega⟩)) (fun r r2 => ?_)
        rcases r with r | r
        · skip
          have r3 := r2; clear r2; dsimp only [Sum.elim_inl, Sum.elim_inr] at r3
          obtain ⟨y1, y2⟩ := r
          try dsimp only [Sum.elim_inl, Sum.elim_inr, jt2, jt3, jt4, jt5, jt6, jt7, jt8] at r3
          have cc2 := r3
          clear r3
          try simp (disch := omega) only [jst_eq, jst_ne, jst_ni, jI_i, jcmp_lt, jcmp_gt, w32_id, jcpy_out, Sum.elim_inl, Sum.elim_inr, jt2, jt3, jt4, jt5, jt6, jt7, jt8] at cc2
          have CC := CO h42 _ rfl K2 (fun _ _ _ => rfl) F42 h42 (fun _ _ _ => rfl) (ST2 h42 (fun _ => rfl))
          try dsimp only [Sum.elim_inl, Sum.elim_inr, jt2, jt3, jt4, jt5, jt6, jt7, jt8]
          refine ⟨?_, ?_⟩
          · try dsimp only [Sum.elim_inl, Sum.elim_inr, jt2, jt3, jt4, jt5, jt6, jt7, jt8]
            refine ⟨?_, ?_, ?_, ?_⟩
            · (obtain ⟨z1, _, q', e, g⟩ := cc2; have nr := nx_r hB qn.1 qn.2 NB1.2 (by rcases VQ with y | y | y | y <;> (first | omega | (have := y.1; omega))) e; omega) -- o10 e1i.1
            · (obtain ⟨z1, z2, q', e, g⟩ := cc2; have nr := nx_r hB qn.1 qn.2 NB1.2 (by rcases VQ with y | y | y | y <;> (first | omega | (have := y.1; omega))) e; rw [z2, z1]; exact ⟨nx B n q, vs ++ [q], k', by rw [w2, e]; exact (pVs_r VQ e).1 g, fun q'' e'' => by (rw [e] at e''; cases e''; omega), by omega, CC.1, Or.inr ⟨q', e, g⟩, CC.2.1, ST2 h42 (fun _ => rfl)⟩) -- o11 e1i.2
            · (rw [cc2.2.1]; exact CC.2.2.1) -- o12 e1i.3
            · (rw [cc2.2.1]; exact CC.2.2.2) -- o13 e1i.4
          · (have := cc2.1; omega) -- o14 e1m
        · skip
          have r4 := r2; clear r2; dsimp only [Sum.elim_inl, Sum.elim_inr] at r4
          rcases r with r | r
          · skip
            have r5 := r4; clear r4; dsimp only [Sum.elim_inl, Sum.elim_inr] at r5
            try dsimp only [Sum.elim_inl, Sum.elim_inr, jt2, jt3, jt4, jt5, jt6, jt7, jt8] at r5
            have no3 := r5
            clear r5
            try simp (disch := omega) only [jst_eq, jst_ne, jst_ni, jI_i, jcmp_lt, jcmp_gt, w32_id, jcpy_out, Sum.elim_inl, Sum.elim_inr, jt2, jt3, jt4, jt5, jt6, jt7, jt8] at no3
            try dsimp only [Sum.elim_inl, Sum.elim_inr, jt2, jt3, jt4, jt5, jt6, jt7, jt8]
            exact absurd no3 (by decide) -- e2
          · skip
            have r6 := r4; clear r4; dsimp only [Sum.elim_inl, Sum.elim_inr] at r6
            obtain ⟨y3, y4⟩ := r
            try dsimp only [Sum.elim_inl, Sum.elim_inr, jt2, jt3, jt4, jt5, jt6, jt7, jt8] at r6
            have cc4 := r6
            clear r6
            try simp (disch := omega) only [jst_eq, jst_ne, jst_ni, jI_i, jcmp_lt, jcmp_gt, w32_id, jcpy_out, Sum.elim_inl, Sum.elim_inr, jt2, jt3, jt4, jt5, jt6, jt7, jt8] at cc4
            have CC := CO h42 _ rfl K2 (fun _ _ _ => rfl) F42 h42 (fun _ _ _ => rfl) (ST2 h42 (fun _ => rfl))
            try dsimp only [Sum.elim_inl, Sum.elim_inr, jt2, jt3, jt4, jt5, jt6, jt7, jt8]
            try dsimp only [Sum.elim_inl, Sum.elim_inr, jt2, jt3, jt4, jt5, jt6, jt7, jt8]
            refine ⟨?_, ?_, ?_⟩
            · (have w3 := w2; cases en : nx B n q with | inl z => (rw [pVs_l VQ en] at w3; rw [w3, cc4.2.1]; have s := CC.1; rw [en] at s; exact ⟨s, F42⟩) | inr q' => (rw [(pVs_r VQ en).2 (fun g => cc4.2.2 ⟨q', en, g⟩)] at w3; rw [w3, cc4.2.1]; have s := CC.1; rw [en] at s; exact ⟨by rw [LN]; exact cc4.1.symm, CC.2.2.1, s, CC.2.1, ST2 h42 (fun _ => rfl)⟩)) -- o15 e3.1
            · (have := cc4.1; omega) -- o16 e3.2
            · (rw [cc4.2.1]; exact G42) -- o17 e3.3
      · skip
        try simp (disch := omega) only [jst_eq, jst_ne, jst_ni, jI_i, jcmp_lt, jcmp_gt, w32_id, jcpy_out, Sum.elim_inl, Sum.elim_inr, jt2, jt3, jt4, jt5, jt6, jt7, jt8] at c2
        have LT : a3 < (ks.length : Int) := vr_lt c2 A1
        have KA : h42 (a + 1) a3 = kL ks a3 := (RK42.2.2.2.1.2.2.2 a3 q0.1 LT).1
        refine OK_jg (by (first | ((exact vr_x4 LA)) | (first | assumption | omega | ((try dsimp only [jt2, jt3, jt4]); first | omega | (simp (disch := omega) only [jst_eq, jst_ne, jst_ni, jst_o, jI_i, jcpy_out, w32_id, jdiv_nn, jshr_k, jand_255] <;> first | done | omega | assumption)) | (intros; simp (disch := omega) only [jst_eq, jst_ne, jst_ni, jst_o, jI_i, jcpy_out, w32_id, jdiv_nn, *] <;> first | done | omega) | (intros; simp (disch := omega) only [jst_eq, jst_ne, jst_ni, jst_o, jI_i, jcpy_out, w32_id, jdiv_nn] at * <;> first | done | omega | assumption) | (intros; first | rfl | (exfalso; omega) | ((repeat' apply And.intro) <;> first | assumption | rfl | omega | trivial))))) ?_ -- o18
        refine OK_if (fun c3 => ?_) (fun c3 => ?_)
        · skip
          try simp (disch := omega) only [jst_eq, jst_ne, jst_ni, jI_i, jcmp_lt, jcmp_gt, w32_id, jcpy_out, Sum.elim_inl, Sum.elim_inr, jt2, jt3, jt4, jt5, jt6, jt7, jt8] at c3
          have K3 : FK h42 = min K (vkL B n ks 0 (vs ++ [q])) := by { rw [K42, FKh, VA, if_neg (fun z => z.2 (by rw [← V4.2, c3]; exact KA))]; exact vr_m1 (vkL_le 0 vs) }
          refine OK_mono (vX13_row_j93_39 (B := B) (n := n) (A := A) (a := a) (m := m) (la := la) (ks := ks) (vs := vs) (u := q) (R := nx B n q) _ _ _ _ (by exact RK42) (by exact ⟨sx1, c1⟩) (by exact ⟨q0.1, by omega, ll, V4.1⟩) (by exact rm) (by exact ST42)) (fun r r7 => ?_)
          rcases r with r | r
          · skip
            have r8 := r7; clear r7; dsimp only [Sum.elim_inl, Sum.elim_inr] at r8
            obtain ⟨y5, y6⟩ := r
            try dsimp only [Sum.elim_inl, Sum.elim_inr, jt2, jt3, jt4, jt5, jt6, jt7, jt8] at r8
            obtain ⟨cc5, st5, fr5⟩ := r8
            try simp (disch := omega) only [jst_eq, jst_ne, jst_ni, jI_i, jcmp_lt, jcmp_gt, w32_id, jcpy_out, Sum.elim_inl, Sum.elim_inr, jt2, jt3, jt4, jt5, jt6, jt7, jt8] at cc5
            try simp (disch := omega) only [jst_eq, jst_ne, jst_ni, jI_i, jcmp_lt, jcmp_gt, w32_id, jcpy_out, Sum.elim_inl, Sum.elim_inr, jt2, jt3, jt4, jt5, jt6, jt7, jt8] at st5
            try simp (disch := omega) only [jst_eq, jst_ne, jst_ni, jI_i, jcmp_lt, jcmp_gt, w32_id, jcpy_out, Sum.elim_inl, Sum.elim_inr, jt2, jt3, jt4, jt5, jt6, jt7, jt8] at fr5
            have CC := CO h42 _ rfl K3 (fun _ _ _ => rfl) F42 _ fr5 st5
            try dsimp only [Sum.elim_inl, Sum.elim_inr, jt2, jt3, jt4, jt5, jt6, jt7, jt8]
            refine ⟨?_, ?_⟩
            · try dsimp only [Sum.elim_inl, Sum.elim_inr, jt2, jt3, jt4, jt5, jt6, jt7, jt8]
              refine ⟨?_, ?_, ?_, ?_⟩
              · (obtain ⟨z1, q', e, g⟩ := cc5; have nr := nx_r hB qn.1 qn.2 NB1.2 (by rcases VQ with y | y | y | y <;> (first | omega | (have := y.1; omega))) e; omega) -- o24 e4i.1
              · (obtain ⟨z1, q', e, g⟩ := cc5; have nr := nx_r hB qn.1 qn.2 NB1.2 (by rcases VQ with y | y | y | y <;> (first | omega | (have := y.1; omega))) e; rw [z1]; exact ⟨nx B n q, vs ++ [q], k', by rw [w2, e]; exact (pVs_r VQ e).1 g, fun q'' e'' => by (rw [e] at e''; cases e''; omega), by omega, CC.1, Or.inr ⟨q', e, g⟩, CC.2.1, st5⟩) -- o25 e4i.2
              · exact CC.2.2.1 -- o26 e4i.3
              · exact CC.2.2.2 -- o27 e4i.4
            · (have := cc5.1; omega) -- o28 e4m
          · skip
            have r9 := r7; clear r7; dsimp only [Sum.elim_inl, Sum.elim_inr] at r9
            rcases r with r | r
            · skip
              have r10 := r9; clear r9; dsimp only [Sum.elim_inl, Sum.elim_inr] at r10
              try dsimp only [Sum.elim_inl, Sum.elim_inr, jt2, jt3, jt4, jt5, jt6, jt7, jt8] at r10
              have no6 := r10
              clear r10
              try simp (disch := omega) only [jst_eq, jst_ne, jst_ni, jI_i, jcmp_lt, jcmp_gt, w32_id, jcpy_out, Sum.elim_inl, Sum.elim_inr, jt2, jt3, jt4, jt5, jt6, jt7, jt8] at no6
              try dsimp only [Sum.elim_inl, Sum.elim_inr, jt2, jt3, jt4, jt5, jt6, jt7, jt8]
              exact absurd no6 (by decide) -- e5
            · skip
              have r11 := r9; clear r9; dsimp only [Sum.elim_inl, Sum.elim_inr] at r11
              obtain ⟨y7, y8⟩ := r
              try dsimp only [Sum.elim_inl, Sum.elim_inr, jt2, jt3, jt4, jt5, jt6, jt7, jt8] at r11
              obtain ⟨cc7, st7, fr7⟩ := r11
              try simp (disch := omega) only [jst_eq, jst_ne, jst_ni, jI_i, jcmp_lt, jcmp_gt, w32_id, jcpy_out, Sum.elim_inl, Sum.elim_inr, jt2, jt3, jt4, jt5, jt6, jt7, jt8] at cc7
              try simp (disch := omega) only [jst_eq, jst_ne, jst_ni, jI_i, jcmp_lt, jcmp_gt, w32_id, jcpy_out, Sum.elim_inl, Sum.elim_inr, jt2, jt3, jt4, jt5, jt6, jt7, jt8] at st7
              try simp (disch := omega) only [jst_eq, jst_ne, jst_ni, jI_i, jcmp_lt, jcmp_gt, w32_id, jcpy_out, Sum.elim_inl, Sum.elim_inr, jt2, jt3, jt4, jt5, jt6, jt7, jt8] at fr7
              have CC := CO h42 _ rfl K3 (fun _ _ _ => rfl) F42 _ fr7 st7
              try dsimp only [Sum.elim_inl, Sum.elim_inr, jt2, jt3, jt4, jt5, jt6, jt7, jt8]
              try dsimp only [Sum.elim_inl, Sum.elim_inr, jt2, jt3, jt4, jt5, jt6, jt7, jt8]
              refine ⟨?_, ?_, ?_⟩
              · (have w3 := w2; cases en : nx B n q with | inl z => (rw [pVs_l VQ en] at w3; rw [w3]; have s := CC.1; rw [en] at s; exact ⟨s, CC.2.2.1.2.2.2.2.2.2.2⟩) | inr q' => (rw [(pVs_r VQ en).2 (fun g => cc7.2 ⟨q', en, g⟩)] at w3; rw [w3]; have s := CC.1; rw [en] at s; exact ⟨by rw [LN]; exact cc7.1.symm, CC.2.2.1, s, CC.2.1, st7⟩)) -- o29 e6.1
              · (have := cc7.1; omega) -- o30 e6.2
              · exact CC.2.2.2 -- o31 e6.3
        · skip
          try simp (disch := omega) only [jst_eq, jst_ne, jst_ni, jI_i, jcmp_lt, jcmp_gt, w32_id, jcpy_out, Sum.elim_inl, Sum.elim_inr, jt2, jt3, jt4, jt5, jt6, jt7, jt8] at c3
          refine OK_jb (vX13_err _ _ (by exact ⟨F42.1, F42.2.1⟩) (by omega)) (fun h47 r12 => ?_)
          try dsimp only [Sum.elim_inl, Sum.elim_inr, jt2, jt3, jt4, jt5, jt6, jt7, jt8] at r12
          obtain ⟨f8, k8, fr8⟩ := r12
          try simp (disch := omega) only [jst_eq, jst_ne, jst_ni, jI_i, jcmp_lt, jcmp_gt, w32_id, jcpy_out, Sum.elim_inl, Sum.elim_inr, jt2, jt3, jt4, jt5, jt6, jt7, jt8] at f8
          try simp (disch := omega) only [jst_eq, jst_ne, jst_ni, jI_i, jcmp_lt, jcmp_gt, w32_id, jcpy_out, Sum.elim_inl, Sum.elim_inr, jt2, jt3, jt4, jt5, jt6, jt7, jt8] at k8
          try simp (disch := omega) only [jst_eq, jst_ne, jst_ni, jI_i, jcmp_lt, jcmp_gt, w32_id, jcpy_out, Sum.elim_inl, Sum.elim_inr, jt2, jt3, jt4, jt5, jt6, jt7, jt8] at fr8
          have K4 : FK h47 = min K (vkL B n ks 0 (vs ++ [q])) := by { rw [k8, K42, FKh, VA, if_pos ⟨LT, fun z => c3 (by rw [V4.2, z]; exact KA.symm)⟩, X3]; exact vr_m3 }
          have F47 : f8X h47 := ⟨f8.1, f8.2, by rw [K4]; exact vr_m4 (vkL_le 0 (vs ++ [q]))⟩
          refine OK_mono (vX13_row_j93_39 (B := B) (n := n) (A := A) (a := a) (m := m) (la := la) (ks := ks) (vs := vs) (u := q) (R := nx B n q) _ _ _ _ (by exact rdK_g RK42 (fun b s y _ => fr8 b s (by omega)) F47) (by exact ⟨Sx_fr sx1 (fun s s0 s1 => fr8 _ _ (by omega)), by rw [fr8 _ _ (by omega)]; exact c1⟩) (by exact ⟨q0.1, by omega, ll, V4.1⟩) (by exact rm) (by exact vr_st ST42 (fun s => fr8 _ _ (vr_n6 LA)))) (fun r r13 => ?_)
          rcases r with r | r
          · skip
            have r14 := r13; clear r13; dsimp only [Sum.elim_inl, Sum.elim_inr] at r14
            obtain ⟨y9, y10⟩ := r
            try dsimp only [Sum.elim_inl, Sum.elim_inr, jt2, jt3, jt4, jt5, jt6, jt7, jt8] at r14
            obtain ⟨cc9, st9, fr9⟩ := r14
            try simp (disch := omega) only [jst_eq, jst_ne, jst_ni, jI_i, jcmp_lt, jcmp_gt, w32_id, jcpy_out, Sum.elim_inl, Sum.elim_inr, jt2, jt3, jt4, jt5, jt6, jt7, jt8] at cc9
            try simp (disch := omega) only [jst_eq, jst_ne, jst_ni, jI_i, jcmp_lt, jcmp_gt, w32_id, jcpy_out, Sum.elim_inl, Sum.elim_inr, jt2, jt3, jt4, jt5, jt6, jt7, jt8] at st9
            try simp (disch := omega) only [jst_eq, jst_ne, jst_ni, jI_i, jcmp_lt, jcmp_gt, w32_id, jcpy_out, Sum.elim_inl, Sum.elim_inr, jt2, jt3, jt4, jt5, jt6, jt7, jt8] at fr9
            have CC := CO h47 _ rfl K4 fr8 F47 _ fr9 st9
            try dsimp only [Sum.elim_inl, Sum.elim_inr, jt2, jt3, jt4, jt5, jt6, jt7, jt8]
            refine ⟨?_, ?_⟩
            · try dsimp only [Sum.elim_inl, Sum.elim_inr, jt2, jt3, jt4, jt5, jt6, jt7, jt8]
              refine ⟨?_, ?_, ?_, ?_⟩
              · (obtain ⟨z1, q', e, g⟩ := cc9; have nr := nx_r hB qn.1 qn.2 NB1.2 (by rcases VQ with y | y | y | y <;> (first | omega | (have := y.1; omega))) e; omega) -- o39 e7i.1
              · (obtain ⟨z1, q', e, g⟩ := cc9; have nr := nx_r hB qn.1 qn.2 NB1.2 (by rcases VQ with y | y | y | y <;> (first | omega | (have := y.1; omega))) e; rw [z1]; exact ⟨nx B n q, vs ++ [q], k', by rw [w2, e]; exact (pVs_r VQ e).1 g, fun q'' e'' => by (rw [e] at e''; cases e''; omega), by omega, CC.1, Or.inr ⟨q', e, g⟩, CC.2.1, st9⟩) -- o40 e7i.2
              · exact CC.2.2.1 -- o41 e7i.3
              · exact CC.2.2.2 -- o42 e7i.4
            · (have := cc9.1; omega) -- o43 e7m
          · skip
            have r15 := r13; clear r13; dsimp only [Sum.elim_inl, Sum.elim_inr] at r15
            rcases r with r | r
            · skip
              have r16 := r15; clear r15; dsimp only [Sum.elim_inl, Sum.elim_inr] at r16
              try dsimp only [Sum.elim_inl, Sum.elim_inr, jt2, jt3, jt4, jt5, jt6, jt7, jt8] at r16
              have no10 := r16
              clear r16
              try simp (disch := omega) only [jst_eq, jst_ne, jst_ni, jI_i, jcmp_lt, jcmp_gt, w32_id, jcpy_out, Sum.elim_inl, Sum.elim_inr, jt2, jt3, jt4, jt5, jt6, jt7, jt8] at no10
              try dsimp only [Sum.elim_inl, Sum.elim_inr, jt2, jt3, jt4, jt5, jt6, jt7, jt8]
              exact absurd no10 (by decide) -- e8
            · skip
              have r17 := r15; clear r15; dsimp only [Sum.elim_inl, Sum.elim_inr] at r17
              obtain ⟨y11, y12⟩ := r
              try dsimp only [Sum.elim_inl, Sum.elim_inr, jt2, jt3, jt4, jt5, jt6, jt7, jt8] at r17
              obtain ⟨cc11, st11, fr11⟩ := r17
              try simp (disch := omega) only [jst_eq, jst_ne, jst_ni, jI_i, jcmp_lt, jcmp_gt, w32_id, jcpy_out, Sum.elim_inl, Sum.elim_inr, jt2, jt3, jt4, jt5, jt6, jt7, jt8] at cc11
              try simp (disch := omega) only [jst_eq, jst_ne, jst_ni, jI_i, jcmp_lt, jcmp_gt, w32_id, jcpy_out, Sum.elim_inl, Sum.elim_inr, jt2, jt3, jt4, jt5, jt6, jt7, jt8] at st11
              try simp (disch := omega) only [jst_eq, jst_ne, jst_ni, jI_i, jcmp_lt, jcmp_gt, w32_id, jcpy_out, Sum.elim_inl, Sum.elim_inr, jt2, jt3, jt4, jt5, jt6, jt7, jt8] at fr11
              have CC := CO h47 _ rfl K4 fr8 F47 _ fr11 st11
              try dsimp only [Sum.elim_inl, Sum.elim_inr, jt2, jt3, jt4, jt5, jt6, jt7, jt8]
              try dsimp only [Sum.elim_inl, Sum.elim_inr, jt2, jt3, jt4, jt5, jt6, jt7, jt8]
              refine ⟨?_, ?_, ?_⟩
              · (have w3 := w2; cases en : nx B n q with | inl z => (rw [pVs_l VQ en] at w3; rw [w3]; have s := CC.1; rw [en] at s; exact ⟨s, CC.2.2.1.2.2.2.2.2.2.2⟩) | inr q' => (rw [(pVs_r VQ en).2 (fun g => cc11.2 ⟨q', en, g⟩)] at w3; rw [w3]; have s := CC.1; rw [en] at s; exact ⟨by rw [LN]; exact cc11.1.symm, CC.2.2.1, s, CC.2.1, st11⟩)) -- o44 e9.1
              · (have := cc11.1; omega) -- o45 e9.2
              · exact CC.2.2.2 -- o46 e9.3
    · skip
      try simp (disch := omega) only [jst_eq, jst_ne, jst_ni, jI_i, jcmp_lt, jcmp_gt, w32_id, jcpy_out, Sum.elim_inl, Sum.elim_inr, jt2, jt3, jt4, jt5, jt6, jt7, jt8] at c1
      refine OK_ir ?_
      try dsimp only [Sum.elim_inl, Sum.elim_inr, jt2, jt3, jt4, jt5, jt6, jt7, jt8]
      refine ⟨?_, ?_⟩
      · (obtain ⟨y, e⟩ := Sx_br sx1 c1; cases eR : R with | inl z => (rw [eR] at e w; cases e; exact ⟨_, w, y, rfl, F42⟩) | inr q => (rw [eR] at e w; have fk := (fu q eR).1; by_cases g : isVl B n q; { have ev : bnd (.inr q) (pVl B n) = nx B n q := if_pos g; rw [ev] at e; have sq := S; rw [eR] at sq; have qn := (Sx_inr sq).1.2.2; obtain ⟨k', rfl⟩ : ∃ k' : Nat, k = k' + 1 := ⟨k - 1, by omega⟩; exact ⟨_, w.trans (pVs_l g e), y, rfl, F42⟩ }; { have ev : bnd (.inr q) (pVl B n) = .inl (tS B n q) := if_neg g; rw [ev] at e; have sq := S; rw [eR] at sq; have qn := (Sx_inr sq).1.2.2; obtain ⟨k', rfl⟩ : ∃ k' : Nat, k = k' + 1 := ⟨k - 1, by omega⟩; exact ⟨tS B n q, w.trans (pVs_n g), y, (Sum.inl.inj e).symm, F42⟩ })) -- o47 e10.1
      · exact G42 -- o48 e10.2
  · try dsimp only [Sum.elim_inl, Sum.elim_inr, jt2, jt3, jt4, jt5, jt6, jt7, jt8]
    refine ⟨?_, ?_, ?_, ?_⟩
    · (first | ((exact vr_x4 LA)) | (first | assumption | omega | ((try dsimp only [jt2, jt3, jt4]); first | omega | (simp (disch := omega) only [jst_eq, jst_ne, jst_ni, jst_o, jI_i, jcpy_out, w32_id, jdiv_nn, jshr_k, jand_255] <;> first | done | omega | assumption)) | (intros; simp (disch := omega) only [jst_eq, jst_ne, jst_ni, jst_o, jI_i, jcpy_out, w32_id, jdiv_nn, *] <;> first | done | omega) | (intros; simp (disch := omega) only [jst_eq, jst_ne, jst_ni, jst_o, jI_i, jcpy_out, w32_id, jdiv_nn] at * <;> first | done | omega | assumption) | (intros; first | rfl | (exfalso; omega) | ((repeat' apply And.intro) <;> first | assumption | rfl | omega | trivial)))) -- o49 init.1
    · (rw [h1]; exact ⟨R0, [], 2002, rfl, fun q e => by (rw [e] at sx; have := (Sx_inr sx).1.2.2; omega), rfl, sx, Or.inl rfl, kk, fun z j jk q e => by cases e⟩) -- o50 init.2
    · exact rk -- o51 init.3
    · exact fun _ _ _ _ => rfl -- o52 init.4

