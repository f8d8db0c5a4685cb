/-! texts of terms: bytes one behind the other -/
def apB (c s A : Int) (l : List Int) (h h' : AH) : Prop := h' c s = h c s + (l.length : Nat) ∧ (∀ i : Nat, i < l.length → h' A (h c s + i) = l.getD i 0) ∧ ∀ a x, ¬ (a = c ∧ x = s) → ¬ (a = A ∧ h c s ≤ x ∧ x < h c s + (l.length : Nat)) → h' a x = h a x
theorem apB_nil {c s A : Int} {h : AH} : apB c s A [] h h := ⟨by show h c s = h c s + ((0 : Nat) : Int); omega, fun i l => absurd l (Nat.not_lt_zero i), fun _ _ _ _ => rfl⟩
theorem gD_l : ∀ (l m : List Int) (i : Nat), i < l.length → (l ++ m).getD i 0 = l.getD i 0
  | [], _, i, h => absurd h (Nat.not_lt_zero i)
  | _ :: _, _, 0, _ => rfl
  | _ :: l, m, i + 1, h => by show (l ++ m).getD i 0 = l.getD i 0; exact gD_l l m i (Nat.lt_of_succ_lt_succ h)
theorem gD_r : ∀ (l m : List Int) (i : Nat), l.length ≤ i → (l ++ m).getD i 0 = m.getD (i - l.length) 0
  | [], _, _, _ => rfl
  | _ :: l, m, 0, h => absurd h (Nat.not_succ_le_zero _)
  | x :: l, m, i + 1, h => by
    show (l ++ m).getD i 0 = m.getD (i + 1 - (x :: l).length) 0
    rw [gD_r l m i (Nat.le_of_succ_le_succ h)]
    congr 1
    show i - l.length = i + 1 - (l.length + 1)
    omega
theorem apB_app {c s A : Int} {l m : List Int} {h h1 h2 : AH} (n : c ≠ A) (x : apB c s A l h h1) (y : apB c s A m h1 h2) : apB c s A (l ++ m) h h2 := by
  obtain ⟨x1, x2, x3⟩ := x
  obtain ⟨y1, y2, y3⟩ := y
  rw [x1] at y1 y2 y3
  have e : (((l ++ m).length : Nat) : Int) = (l.length : Nat) + (m.length : Nat) := by rw [List.length_append]; omega
  refine ⟨by rw [e]; omega, fun i hi => ?_, fun a z n1 n2 => ?_⟩
  · rw [List.length_append] at hi
    by_cases q : i < l.length
    · rw [y3 _ _ (by omega) (by omega), x2 i q, gD_l _ _ _ q]
    · have z := y2 (i - l.length) (by omega)
      rw [gD_r _ _ _ (by omega), ← z]
      congr 1
      omega
  · rw [e] at n2
    rw [y3 a z n1 (by omega), x3 a z n1 (by omega)]
theorem apB_one {c s A v : Int} {h h' : AH} (h0 : h' c s = h c s + 1) (h1 : h' A (h c s) = v) (h2 : ∀ a x, ¬ (a = c ∧ x = s) → ¬ (a = A ∧ x = h c s) → h' a x = h a x) : apB c s A [v] h h' := by
  refine ⟨h0, fun i hi => ?_, fun a x n1 n2 => h2 a x n1 (fun y => n2 ⟨y.1, by omega, by rw [y.2]; show h c s < h c s + ((1 : Nat) : Int); omega⟩)⟩
  have : i = 0 := by have : i < 1 := hi; omega
  subst this
  rw [show h c s + ((0 : Nat) : Int) = h c s from Int.add_zero _]
  exact h1
/-- digits to the base 27 as letters -/
def lts : Nat → Int → List Int
  | 0, _ => []
  | n + 1, w => if w ≤ 0 then [] else lts n (w / 27) ++ [96 + w % 27]
def dig (v : Int) : List Int := if v ≤ 9 then [48 + v] else [49, 38 + v]
theorem lts_0 {n : Nat} {w : Int} (h : w ≤ 0) : lts n w = [] := by
  cases n with
  | zero => rfl
  | succ n => exact if_pos h
theorem lts_len : ∀ (n : Nat) (w : Int), (lts n w).length ≤ n
  | 0, _ => Nat.le_refl _
  | n + 1, w => by
    have ih := lts_len n (w / 27)
    show (if w ≤ 0 then [] else lts n (w / 27) ++ [96 + w % 27]).length ≤ n + 1
    by_cases q : w ≤ 0
    · rw [if_pos q]; exact Nat.zero_le _
    · rw [if_neg q, List.length_append]; show _ + 1 ≤ _; omega
theorem lts_s {n : Nat} {w : Int} (h : w < pow27 n) : ∀ m, n ≤ m → lts m w = lts n w := by
  intro m
  induction m generalizing n w with
  | zero => intro l; have : n = 0 := by omega
            subst this; rfl
  | succ m ih =>
    intro l
    cases n with
    | zero =>
      have : w ≤ 0 := by have : pow27 0 = 1 := rfl; omega
      rw [lts_0 this, lts_0 this]
    | succ n =>
      show (if w ≤ 0 then [] else lts m (w / 27) ++ [96 + w % 27]) = (if w ≤ 0 then [] else lts n (w / 27) ++ [96 + w % 27])
      by_cases q : w ≤ 0
      · rw [if_pos q, if_pos q]
      · rw [if_neg q, if_neg q]
        have e : pow27 (n + 1) = pow27 n * 27 := rfl
        rw [ih (n := n) (w := w / 27) (by omega) (by omega)]
theorem lts_cod {B : Int → Int} {s : Int} : ∀ k : Nat, lets B s k → lts k (cod B s k) = (List.range k).map (fun i : Nat => B (s + i))
  | 0, _ => rfl
  | k + 1, l => by
    have ih := lts_cod (B := B) (s := s) k (fun i i0 i1 => l i i0 (by omega))
    have lk := l (s + k) (by omega) (by omega)
    have c0 := (cod_r (B := B) (s := s) (k := k) (fun i i0 i1 => l i i0 (by omega))).1
    have e : cod B s (k + 1) = 27 * cod B s k + (B (s + k) - 96) := rfl
    have d : cod B s (k + 1) / 27 = cod B s k := by omega
    have m : cod B s (k + 1) % 27 = B (s + k) - 96 := by omega
    show (if cod B s (k + 1) ≤ 0 then [] else lts k (cod B s (k + 1) / 27) ++ [96 + cod B s (k + 1) % 27]) = _
    rw [if_neg (by omega), d, m, ih, List.range_succ, List.map_append]
    show _ ++ [96 + (B (s + k) - 96)] = _ ++ [B (s + k)]
    rw [show 96 + (B (s + k) - 96) = B (s + k) by omega]
theorem vX6_put (a0 : Int) (a1 : Int) {h : AH} (n : 0 ≤ h a0 1 ∧ h a0 1 < h (a0 + 1) (-1) ∧ h (a0 + 1) (-1) ≤ 100000) (v : 0 ≤ a1 ∧ a1 < 128) : OK (gX6_put a0 a1 h) (fun h' => apB a0 1 (a0 + 1) [a1] h h') := by
  unfold gX6_put
  refine OK_if (fun c1 => ?_) (fun c1 => ?_)
  · skip
    try simp (disch := omega) only [jst_eq, jst_ne, jst_ni, jI_i, jcmp_lt, jcmp_gt, w32_id, jcpy_out, Sum.elim_inl, Sum.elim_inr, jt2, jt3, jt4, jt5, jt6, jt7, jt8] at c1
    refine OK_some ?_
    try dsimp only [Sum.elim_inl, Sum.elim_inr, jt2, jt3, jt4, jt5, jt6, jt7, jt8]
    (first | assumption | omega | ((try dsimp only [jt2, jt3, jt4]); first | omega | (simp (disch := omega) only [jst_eq, jst_ne, jst_ni, jst_o, jI_i, jcpy_out, w32_id, jdiv_nn, jshr_k, jand_255] <;> first | done | omega | assumption)) | (intros; simp (disch := omega) only [jst_eq, jst_ne, jst_ni, jst_o, jI_i, jcpy_out, w32_id, jdiv_nn, *] <;> first | done | omega) | (intros; simp (disch := omega) only [jst_eq, jst_ne, jst_ni, jst_o, jI_i, jcpy_out, w32_id, jdiv_nn] at * <;> first | done | omega | assumption) | (intros; first | rfl | (exfalso; omega) | ((repeat' apply And.intro) <;> first | assumption | rfl | omega | trivial))) -- o1 e1
  · skip
    try simp (disch := omega) only [jst_eq, jst_ne, jst_ni, jI_i, jcmp_lt, jcmp_gt, w32_id, jcpy_out, Sum.elim_inl, Sum.elim_inr, jt2, jt3, jt4, jt5, jt6, jt7, jt8] at c1
    refine OK_jl ?_
    refine OK_jg (by (first | assumption | omega | ((try dsimp only [jt2, jt3, jt4]); first | omega | (simp (disch := omega) only [jst_eq, jst_ne, jst_ni, jst_o, jI_i, jcpy_out, w32_id, jdiv_nn, jshr_k, jand_255] <;> first | done | omega | assumption)) | (intros; simp (disch := omega) only [jst_eq, jst_ne, jst_ni, jst_o, jI_i, jcpy_out, w32_id, jdiv_nn, *] <;> first | done | omega) | (intros; simp (disch := omega) only [jst_eq, jst_ne, jst_ni, jst_o, jI_i, jcpy_out, w32_id, jdiv_nn] at * <;> first | done | omega | assumption) | (intros; first | rfl | (exfalso; omega) | ((repeat' apply And.intro) <;> first | assumption | rfl | omega | trivial)))) ?_ -- o2
    refine OK_jl ?_
    refine OK_some ?_
    try dsimp only [Sum.elim_inl, Sum.elim_inr, jt2, jt3, jt4, jt5, jt6, jt7, jt8]
    (refine apB_one ?_ ?_ (fun a x n1 n2 => ?_); { (try simp (disch := omega) only [jst_eq, jst_ne, jst_ni, jI_i, jcmp_lt, jcmp_gt, w32_id, jcpy_out, Sum.elim_inl, Sum.elim_inr, jt2, jt3, jt4, jt5, jt6, jt7, jt8]) }; { rw [jst_eq, ji2b_id (x := a1) (by omega) (by omega), ji2b_id (by omega) (by omega)] }; { rw [jst_o (by omega), jst_o (by omega)] }) -- o3 e2
/-- letters of a name -/
def nml (c : Int → Int) (k : Nat) : List Int := (List.range k).map (fun i : Nat => c i)
theorem nml_s (c : Int → Int) (k : Nat) : nml c (k + 1) = nml c k ++ [c k] := by unfold nml; rw [List.range_succ, List.map_append]; rfl
theorem nml_l (c : Int → Int) (k : Nat) : (nml c k).length = k := by unfold nml; rw [List.length_map, List.length_range]
theorem vX6_put_2_l2 (i0 : Int) (i1 : Int) (a20 : Int) {h0 : AH} {c : Int → Int} {m : Int} (s : strI h0 i1 c m) (aw : i1 ≠ i0 ∧ i1 ≠ i0 + 1 ∧ h0 i1 0 ≠ i0 ∧ h0 i1 0 ≠ i0 + 1) (n : 0 ≤ h0 i0 1 ∧ h0 i0 1 + m ≤ h0 (i0 + 1) (-1) ∧ h0 (i0 + 1) (-1) ≤ 100000) (z : a20 = 0) : OK (gX6_put_2_l2 i0 i1 a20 h0) (fun h' => apB i0 1 (i0 + 1) (nml c m.toNat) h0 h') := by
  unfold gX6_put_2_l2
  refine OK_jit (I := (fun (s : Int × AH) => jt2 s fun a2 h => (0 ≤ a2 ∧ a2 ≤ m) ∧ (apB i0 1 (i0 + 1) (nml c a2.toNat) h0 h))) (m := (fun (s : Int × AH) => jt2 s fun a2 h => (m - a2).toNat)) ?_ ?_
  · intro s hs
    obtain ⟨a2, h⟩ := s
    dsimp only [Sum.elim_inl, Sum.elim_inr, jt2, jt3, jt4, jt5, jt6, jt7, jt8] at hs
    obtain ⟨q0, q1⟩ := hs
    unfold gX6_put_2_b2
    refine OK_jt2 ?_
    have L := nml_l c a2.toNat
    have q2 := q1.2.2
    have q3 := q1.1
    have S : strI h i1 c m := strI_fr s (fun i => q2 _ _ (by omega) (by omega)) (fun i => q2 _ _ (by omega) (by omega))
    have S1 := S.1
    have l1 : h (i0 + 1) (-1) = h0 (i0 + 1) (-1) := q2 _ _ (by omega) (by omega)
    refine OK_jg (by (first | assumption | omega | ((try dsimp only [jt2, jt3, jt4]); first | omega | (simp (disch := omega) only [jst_eq, jst_ne, jst_ni, jst_o, jI_i, jcpy_out, w32_id, jdiv_nn, jshr_k, jand_255] <;> first | done | omega | assumption)) | (intros; simp (disch := omega) only [jst_eq, jst_ne, jst_ni, jst_o, jI_i, jcpy_out, w32_id, jdiv_nn, *] <;> first | done | omega) | (intros; simp (disch := omega) only [jst_eq, jst_ne, jst_ni, jst_o, jI_i, jcpy_out, w32_id, jdiv_nn] at * <;> first | done | omega | assumption) | (intros; first | rfl | (exfalso; omega) | ((repeat' apply And.intro) <;> first | assumption | rfl | omega | trivial)))) ?_ -- o1
    refine OK_jb (str_len S) (fun v4 r1 => ?_)
    refine OK_if (fun c1 => ?_) (fun c1 => ?_)
    · skip
      try simp (disch := omega) only [jst_eq, jst_ne, jst_ni, jI_i, jcmp_lt, jcmp_gt, w32_id, jcpy_out, Sum.elim_inl, Sum.elim_inr, jt2, jt3, jt4, jt5, jt6, jt7, jt8] at c1
      refine OK_ir ?_
      (rw [show m = a2 by omega]; exact q1) -- o2 e1
    · skip
      try simp (disch := omega) only [jst_eq, jst_ne, jst_ni, jI_i, jcmp_lt, jcmp_gt, w32_id, jcpy_out, Sum.elim_inl, Sum.elim_inr, jt2, jt3, jt4, jt5, jt6, jt7, jt8] at c1
      have sc := S.2.2.2.2.2.2 a2 q0.1 (by omega)
      refine OK_jb (str_at S q0.1 (by omega)) (fun v7 r2 => ?_)
      refine OK_jb (vX6_put _ _ (by (first | assumption | omega | ((try dsimp only [jt2, jt3, jt4]); first | omega | (simp (disch := omega) only [jst_eq, jst_ne, jst_ni, jst_o, jI_i, jcpy_out, w32_id, jdiv_nn, jshr_k, jand_255] <;> first | done | omega | assumption)) | (intros; simp (disch := omega) only [jst_eq, jst_ne, jst_ni, jst_o, jI_i, jcpy_out, w32_id, jdiv_nn, *] <;> first | done | omega) | (intros; simp (disch := omega) only [jst_eq, jst_ne, jst_ni, jst_o, jI_i, jcpy_out, w32_id, jdiv_nn] at * <;> first | done | omega | assumption) | (intros; first | rfl | (exfalso; omega) | ((repeat' apply And.intro) <;> first | assumption | rfl | omega | trivial)))) (by (first | assumption | omega | ((try dsimp only [jt2, jt3, jt4]); first | omega | (simp (disch := omega) only [jst_eq, jst_ne, jst_ni, jst_o, jI_i, jcpy_out, w32_id, jdiv_nn, jshr_k, jand_255] <;> first | done | omega | assumption)) | (intros; simp (disch := omega) only [jst_eq, jst_ne, jst_ni, jst_o, jI_i, jcpy_out, w32_id, jdiv_nn, *] <;> first | done | omega) | (intros; simp (disch := omega) only [jst_eq, jst_ne, jst_ni, jst_o, jI_i, jcpy_out, w32_id, jdiv_nn] at * <;> first | done | omega | assumption) | (intros; first | rfl | (exfalso; omega) | ((repeat' apply And.intro) <;> first | assumption | rfl | omega | trivial))))) (fun h9 r3 => ?_)
      try dsimp only [Sum.elim_inl, Sum.elim_inr, jt2, jt3, jt4, jt5, jt6, jt7, jt8] at r3
      have ab1 := r3
      clear r3
      try simp (disch := omega) only [jst_eq, jst_ne, jst_ni, jI_i, jcmp_lt, jcmp_gt, w32_id, jcpy_out, Sum.elim_inl, Sum.elim_inr, jt2, jt3, jt4, jt5, jt6, jt7, jt8] at ab1
      refine OK_jlx (fun x10 ex10 => ?_)
      try simp (disch := omega) only [jst_eq, jst_ne, jst_ni, jI_i, jcmp_lt, jcmp_gt, w32_id, jcpy_out, Sum.elim_inl, Sum.elim_inr, jt2, jt3, jt4, jt5, jt6, jt7, jt8] at ex10
      refine OK_il ?_ ?_
      · try dsimp only [Sum.elim_inl, Sum.elim_inr, jt2, jt3, jt4, jt5, jt6, jt7, jt8]
        refine ⟨?_, ?_⟩
        · (first | assumption | omega | ((try dsimp only [jt2, jt3, jt4]); first | omega | (simp (disch := omega) only [jst_eq, jst_ne, jst_ni, jst_o, jI_i, jcpy_out, w32_id, jdiv_nn, jshr_k, jand_255] <;> first | done | omega | assumption)) | (intros; simp (disch := omega) only [jst_eq, jst_ne, jst_ni, jst_o, jI_i, jcpy_out, w32_id, jdiv_nn, *] <;> first | done | omega) | (intros; simp (disch := omega) only [jst_eq, jst_ne, jst_ni, jst_o, jI_i, jcpy_out, w32_id, jdiv_nn] at * <;> first | done | omega | assumption) | (intros; first | rfl | (exfalso; omega) | ((repeat' apply And.intro) <;> first | assumption | rfl | omega | trivial))) -- o5 e2i.1
        · (rw [ex10, show (a2 + 1).toNat = a2.toNat + 1 by omega, nml_s, show ((a2.toNat : Nat) : Int) = a2 by omega]; refine apB_app (by omega) q1 ?_; rw [← r2]; exact ab1) -- o6 e2i.2
      · (first | assumption | omega | ((try dsimp only [jt2, jt3, jt4]); first | omega | (simp (disch := omega) only [jst_eq, jst_ne, jst_ni, jst_o, jI_i, jcpy_out, w32_id, jdiv_nn, jshr_k, jand_255] <;> first | done | omega | assumption)) | (intros; simp (disch := omega) only [jst_eq, jst_ne, jst_ni, jst_o, jI_i, jcpy_out, w32_id, jdiv_nn, *] <;> first | done | omega) | (intros; simp (disch := omega) only [jst_eq, jst_ne, jst_ni, jst_o, jI_i, jcpy_out, w32_id, jdiv_nn] at * <;> first | done | omega | assumption) | (intros; first | rfl | (exfalso; omega) | ((repeat' apply And.intro) <;> first | assumption | rfl | omega | trivial))) -- o7 e2m
  · try dsimp only [Sum.elim_inl, Sum.elim_inr, jt2, jt3, jt4, jt5, jt6, jt7, jt8]
    refine ⟨?_, ?_⟩
    · (have := s.2.2.2.2.1; omega) -- o8 init.1
    · (rw [z]; exact apB_nil) -- o9 init.2
theorem vX6_put_2 (a0 : Int) (a1 : Int) {h : AH} {c : Int → Int} {m : Int} (s : strI h a1 c m) (aw : a1 ≠ a0 ∧ a1 ≠ a0 + 1 ∧ h a1 0 ≠ a0 ∧ h a1 0 ≠ a0 + 1) (n : 0 ≤ h a0 1 ∧ h a0 1 + m ≤ h (a0 + 1) (-1) ∧ h (a0 + 1) (-1) ≤ 100000) : OK (gX6_put_2 a0 a1 h) (fun h' => apB a0 1 (a0 + 1) (nml c m.toNat) h h') := by
  unfold gX6_put_2
  refine OK_jb (vX6_put_2_l2 (c := c) (m := m) _ _ _ (by (first | assumption | omega | ((try dsimp only [jt2, jt3, jt4]); first | omega | (simp (disch := omega) only [jst_eq, jst_ne, jst_ni, jst_o, jI_i, jcpy_out, w32_id, jdiv_nn, jshr_k, jand_255] <;> first | done | omega | assumption)) | (intros; simp (disch := omega) only [jst_eq, jst_ne, jst_ni, jst_o, jI_i, jcpy_out, w32_id, jdiv_nn, *] <;> first | done | omega) | (intros; simp (disch := omega) only [jst_eq, jst_ne, jst_ni, jst_o, jI_i, jcpy_out, w32_id, jdiv_nn] at * <;> first | done | omega | assumption) | (intros; first | rfl | (exfalso; omega) | ((repeat' apply And.intro) <;> first | assumption | rfl | omega | trivial)))) (by (first | assumption | omega | ((try dsimp only [jt2, jt3, jt4]); first | omega | (simp (disch := omega) only [jst_eq, jst_ne, jst_ni, jst_o, jI_i, jcpy_out, w32_id, jdiv_nn, jshr_k, jand_255] <;> first | done | omega | assumption)) | (intros; simp (disch := omega) only [jst_eq, jst_ne, jst_ni, jst_o, jI_i, jcpy_out, w32_id, jdiv_nn, *] <;> first | done | omega) | (intros; simp (disch := omega) only [jst_eq, jst_ne, jst_ni, jst_o, jI_i, jcpy_out, w32_id, jdiv_nn] at * <;> first | done | omega | assumption) | (intros; first | rfl | (exfalso; omega) | ((repeat' apply And.intro) <;> first | assumption | rfl | omega | trivial)))) (by (first | assumption | omega | ((try dsimp only [jt2, jt3, jt4]); first | omega | (simp (disch := omega) only [jst_eq, jst_ne, jst_ni, jst_o, jI_i, jcpy_out, w32_id, jdiv_nn, jshr_k, jand_255] <;> first | done | omega | assumption)) | (intros; simp (disch := omega) only [jst_eq, jst_ne, jst_ni, jst_o, jI_i, jcpy_out, w32_id, jdiv_nn, *] <;> first | done | omega) | (intros; simp (disch := omega) only [jst_eq, jst_ne, jst_ni, jst_o, jI_i, jcpy_out, w32_id, jdiv_nn] at * <;> first | done | omega | assumption) | (intros; first | rfl | (exfalso; omega) | ((repeat' apply And.intro) <;> first | assumption | rfl | omega | trivial)))) (by (first | assumption | omega | ((try dsimp only [jt2, jt3, jt4]); first | omega | (simp (disch := omega) only [jst_eq, jst_ne, jst_ni, jst_o, jI_i, jcpy_out, w32_id, jdiv_nn, jshr_k, jand_255] <;> first | done | omega | assumption)) | (intros; simp (disch := omega) only [jst_eq, jst_ne, jst_ni, jst_o, jI_i, jcpy_out, w32_id, jdiv_nn, *] <;> first | done | omega) | (intros; simp (disch := omega) only [jst_eq, jst_ne, jst_ni, jst_o, jI_i, jcpy_out, w32_id, jdiv_nn] at * <;> first | done | omega | assumption) | (intros; first | rfl | (exfalso; omega) | ((repeat' apply And.intro) <;> first | assumption | rfl | omega | trivial))))) (fun o1 r1 => ?_)
  try dsimp only [Sum.elim_inl, Sum.elim_inr, jt2, jt3, jt4, jt5, jt6, jt7, jt8] at r1
  have ab1 := r1
  clear r1
  try simp (disch := omega) only [jst_eq, jst_ne, jst_ni, jI_i, jcmp_lt, jcmp_gt, w32_id, jcpy_out, Sum.elim_inl, Sum.elim_inr, jt2, jt3, jt4, jt5, jt6, jt7, jt8] at ab1
  refine OK_some ?_
  try dsimp only [Sum.elim_inl, Sum.elim_inr, jt2, jt3, jt4, jt5, jt6, jt7, jt8]
  (first | assumption | omega | ((try dsimp only [jt2, jt3, jt4]); first | omega | (simp (disch := omega) only [jst_eq, jst_ne, jst_ni, jst_o, jI_i, jcpy_out, w32_id, jdiv_nn, jshr_k, jand_255] <;> first | done | omega | assumption)) | (intros; simp (disch := omega) only [jst_eq, jst_ne, jst_ni, jst_o, jI_i, jcpy_out, w32_id, jdiv_nn, *] <;> first | done | omega) | (intros; simp (disch := omega) only [jst_eq, jst_ne, jst_ni, jst_o, jI_i, jcpy_out, w32_id, jdiv_nn] at * <;> first | done | omega | assumption) | (intros; first | rfl | (exfalso; omega) | ((repeat' apply And.intro) <;> first | assumption | rfl | omega | trivial))) -- o5 e1

