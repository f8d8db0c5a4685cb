/-! x: names of a law's parameters -/
def sRp {α : Type} (W : Int ⊕ (α × Int)) : Int ⊕ Int := match W with
  | .inl z => .inl z
  | .inr x => .inr x.2
theorem pNm_e {B : Int → Int} {n q : Int} (o : tO B n q = 1) : sRp (pNm B n q) = bnd (bnd (nx B n q) (pW B n 58)) (pKd B n) := by
  have w : pNm B n q = bS (nx B n q) fun q1 => bS (pW B n 58 q1) fun q2 => if isKd B n q2 then bS (nx B n q2) fun q3 => .inr ((q, kdv B n q2), q3) else .inl (tS B n q2) := if_pos o
  rw [w]
  cases nx B n q with
  | inl z => rfl
  | inr q1 =>
    show sRp (bS (pW B n 58 q1) fun q2 => if isKd B n q2 then bS (nx B n q2) fun q3 => .inr ((q, kdv B n q2), q3) else .inl (tS B n q2)) = bnd (pW B n 58 q1) (pKd B n)
    cases pW B n 58 q1 with
    | inl z => rfl
    | inr q2 =>
      show sRp (if isKd B n q2 then bS (nx B n q2) fun q3 => .inr ((q, kdv B n q2), q3) else .inl (tS B n q2)) = pKd B n q2
      unfold pKd
      by_cases g : isKd B n q2
      · rw [if_pos g, if_pos g]; cases nx B n q2 <;> rfl
      · rw [if_neg g, if_neg g]; rfl
theorem pNm_r {B : Int → Int} {n q q1 : Int} {p : Int × Int} (w : pNm B n q = .inr (p, q1)) : tO B n q = 1 ∧ ∃ q2, bnd (nx B n q) (pW B n 58) = .inr q2 ∧ isKd B n q2 ∧ p = (q, kdv B n q2) ∧ nx B n q2 = .inr q1 := by
  unfold pNm at w
  by_cases o : tO B n q = 1
  · rw [if_pos o] at w
    obtain ⟨r, e1, w⟩ := bS_r w
    obtain ⟨q2, e2, w⟩ := bS_r w
    by_cases g : isKd B n q2
    · rw [if_pos g] at w
      obtain ⟨q3, e3, w⟩ := bS_r w
      cases w
      exact ⟨o, q2, by rw [e1]; exact e2, g, rfl, e3⟩
    · rw [if_neg g] at w; cases w
  · rw [if_neg o] at w; cases w
theorem vX13_isParameterN (a1 : Int) (a2 : Int) (a3 : Int) {h : AH} {B : Int → Int} {n A q u : Int} (t : TX B n A h) (tk : tO B n q = 1 ∧ a2 = tS B n q ∧ a3 = tE B n q ∧ 0 ≤ q ∧ q ≤ n) (uu : tO B n u = 1 ∧ h 442 a1 = tS B n u ∧ h 443 a1 = tE B n u ∧ 0 ≤ u ∧ u ≤ n) (k : 0 ≤ a1 ∧ a1 < 3) : OK (gX13_isParameter a1 a2 a3 h) (fun v => v = if tV B n u = tV B n q then 1 else 0) := by
  have T := tok_1 tk.1
  have U := tok_1 uu.1
  have S := tS_r (B := B) tk.2.2.2.2
  have S2 := tS_r (B := B) uu.2.2.2.2
  have tn := t.2.2.2.1
  have ta := t.1
  have tj := t.2.2.2.2.2.2.2
  have tkk := t.2.2.2.2.2.2.1
  have tb : h (h 441 0) (-2) = 103 ∧ n ≤ h (h 441 0) (-1) := by { rw [ta]; exact ⟨tkk, tj.1⟩ }
  unfold gX13_isParameter
  refine OK_jg (by (first | assumption | omega | ((try dsimp only [jt2, jt3, jt4]); first | omega | (simp (disch := omega) only [jst_eq, jst_ne, jst_ni, jst_o, jI_i, jcpy_out, w32_id, jdiv_nn, jshr_k, jand_255] <;> first | done | omega | assumption)) | (intros; simp (disch := omega) only [jst_eq, jst_ne, jst_ni, jst_o, jI_i, jcpy_out, w32_id, jdiv_nn, *] <;> first | done | omega) | (intros; simp (disch := omega) only [jst_eq, jst_ne, jst_ni, jst_o, jI_i, jcpy_out, w32_id, jdiv_nn] at * <;> first | done | omega | assumption) | (intros; first | rfl | (exfalso; omega) | ((repeat' apply And.intro) <;> first | assumption | rfl | omega | trivial)))) ?_ -- o1
  refine OK_if (fun c1 => ?_) (fun c1 => ?_)
  · skip
    try simp (disch := omega) only [jst_eq, jst_ne, jst_ni, jI_i, jcmp_lt, jcmp_gt, w32_id, jcpy_out, Sum.elim_inl, Sum.elim_inr, jt2, jt3, jt4, jt5, jt6, jt7, jt8] at c1
    have key : (a3 - a2 = h 443 a1 - h 442 a1 ∧ ∀ k, 0 ≤ k → k < h 443 a1 - h 442 a1 → B (a2 + k) = B (h 442 a1 + k)) ↔ tV B n u = tV B n q := by { rw [T.2.2.2.2, U.2.2.2.2, tk.2.1, tk.2.2.1, uu.2.1, uu.2.2.1]; constructor; { rintro ⟨e1, e2⟩; rw [e1]; exact (cod_eq (fun i i0 i1 => e2 i i0 (by omega))).symm }; { intro e; have q := (cod_inj (k := (tE B n u - tS B n u).toNat) (m := (tE B n q - tS B n q).toNat) (fun i i0 i1 => U.2.2.2.1 i i0 (by omega)) (fun i i0 i1 => T.2.2.2.1 i i0 (by omega))).mp e; exact ⟨by omega, fun k k0 k1 => (q.2 k k0 (by omega)).symm⟩ } }
    refine OK_if (fun c2 => ?_) (fun c2 => ?_)
    · skip
      try simp (disch := omega) only [jst_eq, jst_ne, jst_ni, jI_i, jcmp_lt, jcmp_gt, w32_id, jcpy_out, Sum.elim_inl, Sum.elim_inr, jt2, jt3, jt4, jt5, jt6, jt7, jt8] at c2
      unfold gX13_isParameter_j64
      refine OK_jb (vX13_isParameter_l69 (B := B) (n := n) (A := A) (u := h 442 a1) (m := h 443 a1 - h 442 a1) _ _ _ _ _ (by (first | assumption | omega | ((try dsimp only [jt2, jt3, jt4]); first | omega | (simp (disch := omega) only [jst_eq, jst_ne, jst_ni, jst_o, jI_i, jcpy_out, w32_id, jdiv_nn, jshr_k, jand_255] <;> first | done | omega | assumption)) | (intros; simp (disch := omega) only [jst_eq, jst_ne, jst_ni, jst_o, jI_i, jcpy_out, w32_id, jdiv_nn, *] <;> first | done | omega) | (intros; simp (disch := omega) only [jst_eq, jst_ne, jst_ni, jst_o, jI_i, jcpy_out, w32_id, jdiv_nn] at * <;> first | done | omega | assumption) | (intros; first | rfl | (exfalso; omega) | ((repeat' apply And.intro) <;> first | assumption | rfl | omega | trivial)))) (by (first | assumption | omega | ((try dsimp only [jt2, jt3, jt4]); first | omega | (simp (disch := omega) only [jst_eq, jst_ne, jst_ni, jst_o, jI_i, jcpy_out, w32_id, jdiv_nn, jshr_k, jand_255] <;> first | done | omega | assumption)) | (intros; simp (disch := omega) only [jst_eq, jst_ne, jst_ni, jst_o, jI_i, jcpy_out, w32_id, jdiv_nn, *] <;> first | done | omega) | (intros; simp (disch := omega) only [jst_eq, jst_ne, jst_ni, jst_o, jI_i, jcpy_out, w32_id, jdiv_nn] at * <;> first | done | omega | assumption) | (intros; first | rfl | (exfalso; omega) | ((repeat' apply And.intro) <;> first | assumption | rfl | omega | trivial)))) (by (first | assumption | omega | ((try dsimp only [jt2, jt3, jt4]); first | omega | (simp (disch := omega) only [jst_eq, jst_ne, jst_ni, jst_o, jI_i, jcpy_out, w32_id, jdiv_nn, jshr_k, jand_255] <;> first | done | omega | assumption)) | (intros; simp (disch := omega) only [jst_eq, jst_ne, jst_ni, jst_o, jI_i, jcpy_out, w32_id, jdiv_nn, *] <;> first | done | omega) | (intros; simp (disch := omega) only [jst_eq, jst_ne, jst_ni, jst_o, jI_i, jcpy_out, w32_id, jdiv_nn] at * <;> first | done | omega | assumption) | (intros; first | rfl | (exfalso; omega) | ((repeat' apply And.intro) <;> first | assumption | rfl | omega | trivial)))) (by (first | assumption | omega | ((try dsimp only [jt2, jt3, jt4]); first | omega | (simp (disch := omega) only [jst_eq, jst_ne, jst_ni, jst_o, jI_i, jcpy_out, w32_id, jdiv_nn, jshr_k, jand_255] <;> first | done | omega | assumption)) | (intros; simp (disch := omega) only [jst_eq, jst_ne, jst_ni, jst_o, jI_i, jcpy_out, w32_id, jdiv_nn, *] <;> first | done | omega) | (intros; simp (disch := omega) only [jst_eq, jst_ne, jst_ni, jst_o, jI_i, jcpy_out, w32_id, jdiv_nn] at * <;> first | done | omega | assumption) | (intros; first | rfl | (exfalso; omega) | ((repeat' apply And.intro) <;> first | assumption | rfl | omega | trivial))))) (fun o5 r1 => ?_)
      try dsimp only [Sum.elim_inl, Sum.elim_inr, jt2, jt3, jt4, jt5, jt6, jt7, jt8] at r1
      obtain ⟨r1, v1⟩ := r1
      try simp (disch := omega) only [jst_eq, jst_ne, jst_ni, jI_i, jcmp_lt, jcmp_gt, w32_id, jcpy_out, Sum.elim_inl, Sum.elim_inr, jt2, jt3, jt4, jt5, jt6, jt7, jt8] at r1
      try simp (disch := omega) only [jst_eq, jst_ne, jst_ni, jI_i, jcmp_lt, jcmp_gt, w32_id, jcpy_out, Sum.elim_inl, Sum.elim_inr, jt2, jt3, jt4, jt5, jt6, jt7, jt8] at v1
      refine OK_jg (by (first | assumption | omega | ((try dsimp only [jt2, jt3, jt4]); first | omega | (simp (disch := omega) only [jst_eq, jst_ne, jst_ni, jst_o, jI_i, jcpy_out, w32_id, jdiv_nn, jshr_k, jand_255] <;> first | done | omega | assumption)) | (intros; simp (disch := omega) only [jst_eq, jst_ne, jst_ni, jst_o, jI_i, jcpy_out, w32_id, jdiv_nn, *] <;> first | done | omega) | (intros; simp (disch := omega) only [jst_eq, jst_ne, jst_ni, jst_o, jI_i, jcpy_out, w32_id, jdiv_nn] at * <;> first | done | omega | assumption) | (intros; first | rfl | (exfalso; omega) | ((repeat' apply And.intro) <;> first | assumption | rfl | omega | trivial)))) ?_ -- o6
      refine OK_some ?_
      try dsimp only [Sum.elim_inl, Sum.elim_inr, jt2, jt3, jt4, jt5, jt6, jt7, jt8]
      (by_cases z : tV B n u = tV B n q; { rw [if_pos z]; exact v1.mpr ⟨(by first | rfl | trivial), (key.mpr z).2⟩ }; { rw [if_neg z]; rcases r1 with y | y; { exact y }; { exact absurd (key.mp ⟨c2, (v1.mp y).2⟩) z } }) -- o7 e1
    · skip
      try simp (disch := omega) only [jst_eq, jst_ne, jst_ni, jI_i, jcmp_lt, jcmp_gt, w32_id, jcpy_out, Sum.elim_inl, Sum.elim_inr, jt2, jt3, jt4, jt5, jt6, jt7, jt8] at c2
      unfold gX13_isParameter_j64
      refine OK_jb (vX13_isParameter_l69 (B := B) (n := n) (A := A) (u := h 442 a1) (m := h 443 a1 - h 442 a1) _ _ _ _ _ (by (first | assumption | omega | ((try dsimp only [jt2, jt3, jt4]); first | omega | (simp (disch := omega) only [jst_eq, jst_ne, jst_ni, jst_o, jI_i, jcpy_out, w32_id, jdiv_nn, jshr_k, jand_255] <;> first | done | omega | assumption)) | (intros; simp (disch := omega) only [jst_eq, jst_ne, jst_ni, jst_o, jI_i, jcpy_out, w32_id, jdiv_nn, *] <;> first | done | omega) | (intros; simp (disch := omega) only [jst_eq, jst_ne, jst_ni, jst_o, jI_i, jcpy_out, w32_id, jdiv_nn] at * <;> first | done | omega | assumption) | (intros; first | rfl | (exfalso; omega) | ((repeat' apply And.intro) <;> first | assumption | rfl | omega | trivial)))) (by (first | assumption | omega | ((try dsimp only [jt2, jt3, jt4]); first | omega | (simp (disch := omega) only [jst_eq, jst_ne, jst_ni, jst_o, jI_i, jcpy_out, w32_id, jdiv_nn, jshr_k, jand_255] <;> first | done | omega | assumption)) | (intros; simp (disch := omega) only [jst_eq, jst_ne, jst_ni, jst_o, jI_i, jcpy_out, w32_id, jdiv_nn, *] <;> first | done | omega) | (intros; simp (disch := omega) only [jst_eq, jst_ne, jst_ni, jst_o, jI_i, jcpy_out, w32_id, jdiv_nn] at * <;> first | done | omega | assumption) | (intros; first | rfl | (exfalso; omega) | ((repeat' apply And.intro) <;> first | assumption | rfl | omega | trivial)))) (by (first | assumption | omega | ((try dsimp only [jt2, jt3, jt4]); first | omega | (simp (disch := omega) only [jst_eq, jst_ne, jst_ni, jst_o, jI_i, jcpy_out, w32_id, jdiv_nn, jshr_k, jand_255] <;> first | done | omega | assumption)) | (intros; simp (disch := omega) only [jst_eq, jst_ne, jst_ni, jst_o, jI_i, jcpy_out, w32_id, jdiv_nn, *] <;> first | done | omega) | (intros; simp (disch := omega) only [jst_eq, jst_ne, jst_ni, jst_o, jI_i, jcpy_out, w32_id, jdiv_nn] at * <;> first | done | omega | assumption) | (intros; first | rfl | (exfalso; omega) | ((repeat' apply And.intro) <;> first | assumption | rfl | omega | trivial)))) (by (first | assumption | omega | ((try dsimp only [jt2, jt3, jt4]); first | omega | (simp (disch := omega) only [jst_eq, jst_ne, jst_ni, jst_o, jI_i, jcpy_out, w32_id, jdiv_nn, jshr_k, jand_255] <;> first | done | omega | assumption)) | (intros; simp (disch := omega) only [jst_eq, jst_ne, jst_ni, jst_o, jI_i, jcpy_out, w32_id, jdiv_nn, *] <;> first | done | omega) | (intros; simp (disch := omega) only [jst_eq, jst_ne, jst_ni, jst_o, jI_i, jcpy_out, w32_id, jdiv_nn] at * <;> first | done | omega | assumption) | (intros; first | rfl | (exfalso; omega) | ((repeat' apply And.intro) <;> first | assumption | rfl | omega | trivial))))) (fun o5 r2 => ?_)
      try dsimp only [Sum.elim_inl, Sum.elim_inr, jt2, jt3, jt4, jt5, jt6, jt7, jt8] at r2
      obtain ⟨r2, v2⟩ := r2
      try simp (disch := omega) only [jst_eq, jst_ne, jst_ni, jI_i, jcmp_lt, jcmp_gt, w32_id, jcpy_out, Sum.elim_inl, Sum.elim_inr, jt2, jt3, jt4, jt5, jt6, jt7, jt8] at r2
      try simp (disch := omega) only [jst_eq, jst_ne, jst_ni, jI_i, jcmp_lt, jcmp_gt, w32_id, jcpy_out, Sum.elim_inl, Sum.elim_inr, jt2, jt3, jt4, jt5, jt6, jt7, jt8] at v2
      refine OK_jg (by (first | assumption | omega | ((try dsimp only [jt2, jt3, jt4]); first | omega | (simp (disch := omega) only [jst_eq, jst_ne, jst_ni, jst_o, jI_i, jcpy_out, w32_id, jdiv_nn, jshr_k, jand_255] <;> first | done | omega | assumption)) | (intros; simp (disch := omega) only [jst_eq, jst_ne, jst_ni, jst_o, jI_i, jcpy_out, w32_id, jdiv_nn, *] <;> first | done | omega) | (intros; simp (disch := omega) only [jst_eq, jst_ne, jst_ni, jst_o, jI_i, jcpy_out, w32_id, jdiv_nn] at * <;> first | done | omega | assumption) | (intros; first | rfl | (exfalso; omega) | ((repeat' apply And.intro) <;> first | assumption | rfl | omega | trivial)))) ?_ -- o12
      refine OK_some ?_
      try dsimp only [Sum.elim_inl, Sum.elim_inr, jt2, jt3, jt4, jt5, jt6, jt7, jt8]
      (rw [if_neg (fun z => c2 (key.mpr z).1)]; rcases r2 with y | y; { exact y }; { exact absurd (v2.mp y).1 (by decide) }) -- o13 e2
  · skip
    try simp (disch := omega) only [jst_eq, jst_ne, jst_ni, jI_i, jcmp_lt, jcmp_gt, w32_id, jcpy_out, Sum.elim_inl, Sum.elim_inr, jt2, jt3, jt4, jt5, jt6, jt7, jt8] at c1
    exfalso
    omega
theorem jor_01 {a b : Int} (ha : a = 0 ∨ a = 1) (hb : b = 0 ∨ b = 1) : (jor a b = 0 ∨ jor a b = 1) ∧ (jor a b = 1 ↔ a = 1 ∨ b = 1) := by
  rcases ha with rfl | rfl <;> rcases hb with rfl | rfl <;> decide
/-- names that were read -/
def nmXl (B : Int → Int) (n : Int) (ns : List (Int × Int)) (h : AH) : Prop := ∀ k : Nat, ∀ p, ns[k]? = some p → (tO B n p.1 = 1 ∧ 0 ≤ p.1 ∧ p.1 ≤ n) ∧ h 442 k = tS B n p.1 ∧ h 443 k = tE B n p.1 ∧ h 444 k = p.2 ∧ 0 ≤ p.2 ∧ p.2 ≤ 2
theorem vX13_law_l197 (i2 : Int) (i4 : Int) (i5 : Int) (a60 : Int) (a70 : Int) {h : AH} {B : Int → Int} {n A q : Int} {ns : List (Int × Int)} (t : TX B n A h) (tk : tO B n q = 1 ∧ h 441 3 = tS B n q ∧ h 441 4 = tE B n q ∧ 0 ≤ q ∧ q ≤ n) (nm : nmXl B n ns h) (ln : (ns.length : Int) = i4 ∧ i4 ≤ 3) (h1 : a70 = 0 ∧ (a60 = 0 ∨ a60 = 1)) : OK (gX13_law_l197 i2 i4 i5 a60 a70 h) (fun r => (r = 0 ∨ r = 1) ∧ (r = 1 ↔ (a60 = 1 ∨ ∃ u, u ∈ ns ∧ tV B n u.1 = tV B n q))) := by
  unfold gX13_law_l197
  refine OK_jit (I := (fun (s : Int × Int) => jt2 s fun a6 a7 => (0 ≤ a7 ∧ a7 ≤ i4 ∧ (a6 = 0 ∨ a6 = 1)) ∧ (a6 = 1 ↔ (a60 = 1 ∨ ∃ u, u ∈ ns.take a7.toNat ∧ tV B n u.1 = tV B n q)))) (m := (fun (s : Int × Int) => jt2 s fun a6 a7 => (i4 - a7).toNat)) ?_ ?_
  · intro s hs
    obtain ⟨a6, a7⟩ := s
    dsimp only [Sum.elim_inl, Sum.elim_inr, jt2, jt3, jt4, jt5, jt6, jt7, jt8] at hs
    obtain ⟨q0, q1⟩ := hs
    unfold gX13_law_b197
    refine OK_jt2 ?_
    refine OK_if (fun c1 => ?_) (fun c1 => ?_)
    · skip
      try simp (disch := omega) only [jst_eq, jst_ne, jst_ni, jI_i, jcmp_lt, jcmp_gt, w32_id, jcpy_out, Sum.elim_inl, Sum.elim_inr, jt2, jt3, jt4, jt5, jt6, jt7, jt8] at c1
      refine OK_ir ?_
      (refine ⟨q0.2.2, ?_⟩; rw [q1, List.take_of_length_le (by omega)]) -- o1 e1
    · skip
      try simp (disch := omega) only [jst_eq, jst_ne, jst_ni, jI_i, jcmp_lt, jcmp_gt, w32_id, jcpy_out, Sum.elim_inl, Sum.elim_inr, jt2, jt3, jt4, jt5, jt6, jt7, jt8] at c1
      obtain ⟨p, ep⟩ : ∃ p, ns[a7.toNat]? = some p := ⟨ns[a7.toNat]'(by omega), List.getElem?_eq_getElem (by omega)⟩
      have NP := nm a7.toNat p ep
      rw [show ((a7.toNat : Nat) : Int) = a7 by omega] at NP
      refine OK_jb (vX13_isParameterN (B := B) (n := n) (A := A) (q := q) (u := p.1) _ _ _ (by exact t) (by exact tk) (by exact ⟨NP.1.1, NP.2.1, NP.2.2.1, NP.1.2⟩) (by omega)) (fun v88 r1 => ?_)
      try dsimp only [Sum.elim_inl, Sum.elim_inr, jt2, jt3, jt4, jt5, jt6, jt7, jt8] at r1
      have v1 := r1
      clear r1
      try simp (disch := omega) only [jst_eq, jst_ne, jst_ni, jI_i, jcmp_lt, jcmp_gt, w32_id, jcpy_out, Sum.elim_inl, Sum.elim_inr, jt2, jt3, jt4, jt5, jt6, jt7, jt8] at v1
      have V88 : v88 = 0 ∨ v88 = 1 := by { by_cases z : tV B n p.1 = tV B n q; { rw [if_pos z] at v1; exact Or.inr v1 }; { rw [if_neg z] at v1; exact Or.inl v1 } }
      have W88 : v88 = 1 ↔ tV B n p.1 = tV B n q := by { by_cases z : tV B n p.1 = tV B n q; { rw [if_pos z] at v1; exact ⟨fun _ => z, fun _ => v1⟩ }; { rw [if_neg z] at v1; exact ⟨fun y => by omega, fun y => absurd y z⟩ } }
      have J := jor_01 q0.2.2 V88
      have TK : ns.take (a7 + 1).toNat = ns.take a7.toNat ++ [p] := by { rw [show (a7 + 1).toNat = a7.toNat + 1 by omega, List.take_add_one, ep]; rfl }
      refine OK_jlx (fun x89 ex89 => ?_)
      try simp (disch := omega) only [jst_eq, jst_ne, jst_ni, jI_i, jcmp_lt, jcmp_gt, w32_id, jcpy_out, Sum.elim_inl, Sum.elim_inr, jt2, jt3, jt4, jt5, jt6, jt7, jt8] at ex89
      refine OK_jlx (fun x90 ex90 => ?_)
      try simp (disch := omega) only [jst_eq, jst_ne, jst_ni, jI_i, jcmp_lt, jcmp_gt, w32_id, jcpy_out, Sum.elim_inl, Sum.elim_inr, jt2, jt3, jt4, jt5, jt6, jt7, jt8] at ex90
      have X90 : x90 = a7 + 1 := by first | omega | (rw [ex90]; exact w32_id (by omega) (by omega))
      refine OK_il ?_ ?_
      · try dsimp only [Sum.elim_inl, Sum.elim_inr, jt2, jt3, jt4, jt5, jt6, jt7, jt8]
        refine ⟨?_, ?_⟩
        · (rw [ex89]; exact ⟨by omega, by omega, J.1⟩) -- o6 e2i.1
        · (rw [ex89, J.2, q1, W88, X90, TK]; constructor; { rintro ((y | ⟨u, hu, y⟩) | y); { exact Or.inl y }; { exact Or.inr ⟨u, List.mem_append.mpr (Or.inl hu), y⟩ }; { exact Or.inr ⟨p, List.mem_append.mpr (Or.inr (List.mem_singleton.mpr rfl)), y⟩ } }; { rintro (y | ⟨u, hu, y⟩); { exact Or.inl (Or.inl y) }; { rcases List.mem_append.mp hu with z | z; { exact Or.inl (Or.inr ⟨u, z, y⟩) }; { rw [List.mem_singleton.mp z] at y; exact Or.inr y } } }) -- o7 e2i.2
      · (first | assumption | omega | ((try dsimp only [jt2, jt3, jt4]); first | omega | (simp (disch := omega) only [jst_eq, jst_ne, jst_ni, jst_o, jI_i, jcpy_out, w32_id, jdiv_nn, jshr_k, jand_255] <;> first | done | omega | assumption)) | (intros; simp (disch := omega) only [jst_eq, jst_ne, jst_ni, jst_o, jI_i, jcpy_out, w32_id, jdiv_nn, *] <;> first | done | omega) | (intros; simp (disch := omega) only [jst_eq, jst_ne, jst_ni, jst_o, jI_i, jcpy_out, w32_id, jdiv_nn] at * <;> first | done | omega | assumption) | (intros; first | rfl | (exfalso; omega) | ((repeat' apply And.intro) <;> first | assumption | rfl | omega | trivial))) -- o8 e2m
  · try dsimp only [Sum.elim_inl, Sum.elim_inr, jt2, jt3, jt4, jt5, jt6, jt7, jt8]
    refine ⟨?_, ?_⟩
    · omega -- o9 init.1
    · (rw [h1.1]; show a60 = 1 ↔ (a60 = 1 ∨ ∃ u, u ∈ ([] : List (Int × Int)) ∧ tV B n u.1 = tV B n q); exact ⟨Or.inl, fun y => y.elim id (fun ⟨u, hu, _⟩ => by cases hu)⟩) -- o10 init.2
theorem vX13_law_j297_123 (a2 : Int) (a4 : Int) {h : AH} {B : Int → Int} {n A : Int} {R : Int ⊕ Int} (t : TX B n A h) (hB : ∀ i, 0 ≤ i → i < n → 0 ≤ B i ∧ B i < 256) (sx : Sx B n R h) (o : Od h) (a : 0 ≤ a4 ∧ a4 < 2) : OK (gX13_law_j297_123 a2 a4 h) (Sum.elim (fun r => jt2 r fun y h' => (y = a4 + 1) ∧ (Sx B n (bnd R (pKd B n)) h') ∧ (∀ q, R = .inr q → isKd B n q → h' 444 a4 = kdv B n q) ∧ (0 ≤ h' 444 a4 ∧ h' 444 a4 ≤ 2) ∧ (∀ b s, ¬ (b = 441 ∧ 2 ≤ s ∧ s ≤ 7) → ¬ (b = 444 ∧ s = a4) → h' b s = h b s)) (fun r => jt2 r fun y h' => (0 : Int) = 1)) := by
  unfold gX13_law_j297_123
  refine OK_jlx (fun x81 ex81 => ?_)
  try simp (disch := omega) only [jst_eq, jst_ne, jst_ni, jI_i, jcmp_lt, jcmp_gt, w32_id, jcpy_out, Sum.elim_inl, Sum.elim_inr, jt2, jt3, jt4, jt5, jt6, jt7, jt8] at ex81
  refine OK_jb2 (vX13_kind (B := B) (n := n) (A := A) (R := R) (by (first | assumption | omega | ((try dsimp only [jt2, jt3, jt4]); first | omega | (simp (disch := omega) only [jst_eq, jst_ne, jst_ni, jst_o, jI_i, jcpy_out, w32_id, jdiv_nn, jshr_k, jand_255] <;> first | done | omega | assumption)) | (intros; simp (disch := omega) only [jst_eq, jst_ne, jst_ni, jst_o, jI_i, jcpy_out, w32_id, jdiv_nn, *] <;> first | done | omega) | (intros; simp (disch := omega) only [jst_eq, jst_ne, jst_ni, jst_o, jI_i, jcpy_out, w32_id, jdiv_nn] at * <;> first | done | omega | assumption) | (intros; first | rfl | (exfalso; omega) | ((repeat' apply And.intro) <;> first | assumption | rfl | omega | trivial)))) (by (first | assumption | omega | ((try dsimp only [jt2, jt3, jt4]); first | omega | (simp (disch := omega) only [jst_eq, jst_ne, jst_ni, jst_o, jI_i, jcpy_out, w32_id, jdiv_nn, jshr_k, jand_255] <;> first | done | omega | assumption)) | (intros; simp (disch := omega) only [jst_eq, jst_ne, jst_ni, jst_o, jI_i, jcpy_out, w32_id, jdiv_nn, *] <;> first | done | omega) | (intros; simp (disch := omega) only [jst_eq, jst_ne, jst_ni, jst_o, jI_i, jcpy_out, w32_id, jdiv_nn] at * <;> first | done | omega | assumption) | (intros; first | rfl | (exfalso; omega) | ((repeat' apply And.intro) <;> first | assumption | rfl | omega | trivial)))) (by (first | assumption | omega | ((try dsimp only [jt2, jt3, jt4]); first | omega | (simp (disch := omega) only [jst_eq, jst_ne, jst_ni, jst_o, jI_i, jcpy_out, w32_id, jdiv_nn, jshr_k, jand_255] <;> first | done | omega | assumption)) | (intros; simp (disch := omega) only [jst_eq, jst_ne, jst_ni, jst_o, jI_i, jcpy_out, w32_id, jdiv_nn, *] <;> first | done | omega) | (intros; simp (disch := omega) only [jst_eq, jst_ne, jst_ni, jst_o, jI_i, jcpy_out, w32_id, jdiv_nn] at * <;> first | done | omega | assumption) | (intros; first | rfl | (exfalso; omega) | ((repeat' apply And.intro) <;> first | assumption | rfl | omega | trivial)))) (by (first | assumption | omega | ((try dsimp only [jt2, jt3, jt4]); first | omega | (simp (disch := omega) only [jst_eq, jst_ne, jst_ni, jst_o, jI_i, jcpy_out, w32_id, jdiv_nn, jshr_k, jand_255] <;> first | done | omega | assumption)) | (intros; simp (disch := omega) only [jst_eq, jst_ne, jst_ni, jst_o, jI_i, jcpy_out, w32_id, jdiv_nn, *] <;> first | done | omega) | (intros; simp (disch := omega) only [jst_eq, jst_ne, jst_ni, jst_o, jI_i, jcpy_out, w32_id, jdiv_nn] at * <;> first | done | omega | assumption) | (intros; first | rfl | (exfalso; omega) | ((repeat' apply And.intro) <;> first | assumption | rfl | omega | trivial))))) (fun v83 h84 r1 => ?_)
  try dsimp only [Sum.elim_inl, Sum.elim_inr, jt2, jt3, jt4, jt5, jt6, jt7, jt8] at r1
  obtain ⟨sx1, rg1, v1, fr1⟩ := r1
  try simp (disch := omega) only [jst_eq, jst_ne, jst_ni, jI_i, jcmp_lt, jcmp_gt, w32_id, jcpy_out, Sum.elim_inl, Sum.elim_inr, jt2, jt3, jt4, jt5, jt6, jt7, jt8] at sx1
  try simp (disch := omega) only [jst_eq, jst_ne, jst_ni, jI_i, jcmp_lt, jcmp_gt, w32_id, jcpy_out, Sum.elim_inl, Sum.elim_inr, jt2, jt3, jt4, jt5, jt6, jt7, jt8] at rg1
  try simp (disch := omega) only [jst_eq, jst_ne, jst_ni, jI_i, jcmp_lt, jcmp_gt, w32_id, jcpy_out, Sum.elim_inl, Sum.elim_inr, jt2, jt3, jt4, jt5, jt6, jt7, jt8] at v1
  try simp (disch := omega) only [jst_eq, jst_ne, jst_ni, jI_i, jcmp_lt, jcmp_gt, w32_id, jcpy_out, Sum.elim_inl, Sum.elim_inr, jt2, jt3, jt4, jt5, jt6, jt7, jt8] at fr1
  refine OK_jg (by (first | assumption | omega | ((try dsimp only [jt2, jt3, jt4]); first | omega | (simp (disch := omega) only [jst_eq, jst_ne, jst_ni, jst_o, jI_i, jcpy_out, w32_id, jdiv_nn, jshr_k, jand_255] <;> first | done | omega | assumption)) | (intros; simp (disch := omega) only [jst_eq, jst_ne, jst_ni, jst_o, jI_i, jcpy_out, w32_id, jdiv_nn, *] <;> first | done | omega) | (intros; simp (disch := omega) only [jst_eq, jst_ne, jst_ni, jst_o, jI_i, jcpy_out, w32_id, jdiv_nn] at * <;> first | done | omega | assumption) | (intros; first | rfl | (exfalso; omega) | ((repeat' apply And.intro) <;> first | assumption | rfl | omega | trivial)))) ?_ -- o5
  refine OK_jl ?_
  have F85 : ∀ b s, ¬ (b = 444 ∧ s = a4) → jst h84 444 a4 v83 b s = h84 b s := fun b s y => jst_o y
  have V85 : jst h84 444 a4 v83 444 a4 = v83 := jst_eq
  generalize jst h84 444 a4 v83 = g85 at *
  refine OK_some ?_
  try dsimp only [Sum.elim_inl, Sum.elim_inr, jt2, jt3, jt4, jt5, jt6, jt7, jt8]
  try dsimp only [Sum.elim_inl, Sum.elim_inr, jt2, jt3, jt4, jt5, jt6, jt7, jt8]
  refine ⟨?_, ?_, ?_, ?_, ?_⟩
  · (first | assumption | omega | ((try dsimp only [jt2, jt3, jt4]); first | omega | (simp (disch := omega) only [jst_eq, jst_ne, jst_ni, jst_o, jI_i, jcpy_out, w32_id, jdiv_nn, jshr_k, jand_255] <;> first | done | omega | assumption)) | (intros; simp (disch := omega) only [jst_eq, jst_ne, jst_ni, jst_o, jI_i, jcpy_out, w32_id, jdiv_nn, *] <;> first | done | omega) | (intros; simp (disch := omega) only [jst_eq, jst_ne, jst_ni, jst_o, jI_i, jcpy_out, w32_id, jdiv_nn] at * <;> first | done | omega | assumption) | (intros; first | rfl | (exfalso; omega) | ((repeat' apply And.intro) <;> first | assumption | rfl | omega | trivial))) -- o6 e1.1
  · exact Sx_fr sx1 (fun s s0 s1 => F85 _ _ (by omega)) -- o7 e1.2
  · (first | assumption | omega | ((try dsimp only [jt2, jt3, jt4]); first | omega | (simp (disch := omega) only [jst_eq, jst_ne, jst_ni, jst_o, jI_i, jcpy_out, w32_id, jdiv_nn, jshr_k, jand_255] <;> first | done | omega | assumption)) | (intros; simp (disch := omega) only [jst_eq, jst_ne, jst_ni, jst_o, jI_i, jcpy_out, w32_id, jdiv_nn, *] <;> first | done | omega) | (intros; simp (disch := omega) only [jst_eq, jst_ne, jst_ni, jst_o, jI_i, jcpy_out, w32_id, jdiv_nn] at * <;> first | done | omega | assumption) | (intros; first | rfl | (exfalso; omega) | ((repeat' apply And.intro) <;> first | assumption | rfl | omega | trivial))) -- o8 e1.3
  · (first | assumption | omega | ((try dsimp only [jt2, jt3, jt4]); first | omega | (simp (disch := omega) only [jst_eq, jst_ne, jst_ni, jst_o, jI_i, jcpy_out, w32_id, jdiv_nn, jshr_k, jand_255] <;> first | done | omega | assumption)) | (intros; simp (disch := omega) only [jst_eq, jst_ne, jst_ni, jst_o, jI_i, jcpy_out, w32_id, jdiv_nn, *] <;> first | done | omega) | (intros; simp (disch := omega) only [jst_eq, jst_ne, jst_ni, jst_o, jI_i, jcpy_out, w32_id, jdiv_nn] at * <;> first | done | omega | assumption) | (intros; first | rfl | (exfalso; omega) | ((repeat' apply And.intro) <;> first | assumption | rfl | omega | trivial))) -- o9 e1.4
  · (first | assumption | omega | ((try dsimp only [jt2, jt3, jt4]); first | omega | (simp (disch := omega) only [jst_eq, jst_ne, jst_ni, jst_o, jI_i, jcpy_out, w32_id, jdiv_nn, jshr_k, jand_255] <;> first | done | omega | assumption)) | (intros; simp (disch := omega) only [jst_eq, jst_ne, jst_ni, jst_o, jI_i, jcpy_out, w32_id, jdiv_nn, *] <;> first | done | omega) | (intros; simp (disch := omega) only [jst_eq, jst_ne, jst_ni, jst_o, jI_i, jcpy_out, w32_id, jdiv_nn] at * <;> first | done | omega | assumption) | (intros; first | rfl | (exfalso; omega) | ((repeat' apply And.intro) <;> first | assumption | rfl | omega | trivial))) -- o10 e1.5
theorem kdv_2 {B : Int → Int} {n q : Int} (g : isKd B n q) : kdv B n q = 2 ↔ isN B n q 19 := by
  unfold kdv
  by_cases a : isN B n q 14
  · rw [if_pos a]; exact ⟨fun z => (by cases z), fun z => by have := a.2; have := z.2; omega⟩
  · rw [if_neg a]
    by_cases b : isN B n q 20
    · rw [if_pos b]; exact ⟨fun z => (by cases z), fun z => by have := b.2; have := z.2; omega⟩
    · rw [if_neg b]; exact ⟨fun _ => (g.resolve_left a).resolve_left b, fun _ => rfl⟩
theorem nm_st {B : Int → Int} {n q a4 K a5 : Int} {h' : AH} {R2 : Int ⊕ Int} (eR : R2 = bnd (nx B n q) (pW B n 58)) (A : h' 442 a4 = tS B n q ∧ h' 443 a4 = tE B n q) (v : ∀ q, R2 = .inr q → isKd B n q → h' 444 a4 = kdv B n q) (k : ∀ q2, R2 = .inr q2 → isKd B n q2 → FK h' = min K (if kdv B n q2 = 2 then a5 * 8 + 6 else 1000000)) : ∀ p q1, pNm B n q = .inr (p, q1) → p.1 = q ∧ FK h' = min K (if p.2 = 2 then a5 * 8 + 6 else 1000000) ∧ h' 442 a4 = tS B n q ∧ h' 443 a4 = tE B n q ∧ h' 444 a4 = p.2 ∧ 0 ≤ p.2 ∧ p.2 ≤ 2 := fun p q1 w => by
  obtain ⟨_, q2, e2, g, ep, _⟩ := pNm_r w
  rw [← eR] at e2
  have kr := kdv_r B n q2
  rw [ep]
  exact ⟨rfl, k q2 e2 g, A.1, A.2, v q2 e2 g, kr.1, kr.2⟩
theorem vX13_law_j241_123 (a2 : Int) (a4 : Int) (a5 : Int) {h : AH} {B : Int → Int} {n A q : Int} (t : TX B n A h) (hB : ∀ i, 0 ≤ i → i < n → 0 ≤ B i ∧ B i < 256) (nb : NB B n q h ∧ tO B n q = 1) (o : Od h) (f : f8X h) (a : 0 ≤ a4 ∧ a4 < 2) (w5 : a5 = tS B n q) : OK (gX13_law_j241_123 a2 a4 a5 h) (Sum.elim (fun r => jt2 r fun y h' => (y = a4 + 1) ∧ (Sx B n (sRp (pNm B n q)) h' ∧ f8X h') ∧ (∀ p q1, pNm B n q = .inr (p, q1) → p.1 = q ∧ FK h' = min (FK h) (if p.2 = 2 then a5 * 8 + 6 else 1000000) ∧ h' 442 a4 = tS B n q ∧ h' 443 a4 = tE B n q ∧ h' 444 a4 = p.2 ∧ 0 ≤ p.2 ∧ p.2 ≤ 2) ∧ (h' 442 a4 = tS B n q ∧ h' 443 a4 = tE B n q ∧ 0 ≤ h' 444 a4 ∧ h' 444 a4 ≤ 2) ∧ (∀ b s, ¬ (b = 441 ∧ 2 ≤ s ∧ s ≤ 9) → ¬ ((b = 442 ∨ b = 443 ∨ b = 444) ∧ s = a4) → h' b s = h b s)) (fun r => jt2 r fun y h' => (0 : Int) = 1)) := by
  have n0 := nb.1.2.2
  have SR := tS_r (B := B) n0.2
  have n2 := t.2.2.2.1
  have Q3 : h 441 3 = tS B n q := nb.1.2.1.1
  have Q4 : h 441 4 = tE B n q := nb.1.2.1.2.2.1 (by rw [nb.2]; decide)
  unfold gX13_law_j241_123
  refine OK_jg (by (first | assumption | omega | ((try dsimp only [jt2, jt3, jt4]); first | omega | (simp (disch := omega) only [jst_eq, jst_ne, jst_ni, jst_o, jI_i, jcpy_out, w32_id, jdiv_nn, jshr_k, jand_255] <;> first | done | omega | assumption)) | (intros; simp (disch := omega) only [jst_eq, jst_ne, jst_ni, jst_o, jI_i, jcpy_out, w32_id, jdiv_nn, *] <;> first | done | omega) | (intros; simp (disch := omega) only [jst_eq, jst_ne, jst_ni, jst_o, jI_i, jcpy_out, w32_id, jdiv_nn] at * <;> first | done | omega | assumption) | (intros; first | rfl | (exfalso; omega) | ((repeat' apply And.intro) <;> first | assumption | rfl | omega | trivial)))) ?_ -- o1
  refine OK_jl ?_
  have F69 : ∀ b s, ¬ (b = 442 ∧ s = a4) → jst h 442 a4 (h 441 3) b s = h b s := fun b s y => jst_o y
  have V69 : jst h 442 a4 (h 441 3) 442 a4 = tS B n q := jst_eq.trans Q3
  generalize jst h 442 a4 (h 441 3) = g69 at *
  rw [F69 441 4 (by omega), Q4]
  refine OK_jl ?_
  have F70 : ∀ b s, ¬ (b = 443 ∧ s = a4) → jst g69 443 a4 (tE B n q) b s = g69 b s := fun b s y => jst_o y
  have V70 : jst g69 443 a4 (tE B n q) 443 a4 = tE B n q := jst_eq
  generalize jst g69 443 a4 (tE B n q) = g70 at *
  have G70 : ∀ b s, ¬ ((b = 442 ∨ b = 443) ∧ s = a4) → g70 b s = h b s := fun b s y => (F70 b s (by omega)).trans (F69 b s (by omega))
  have ta := t.2.2.2.2
  have T70 : TX B n A g70 := TX_fr t (G70 _ _ (by omega)) (G70 _ _ (by omega)) (fun s => G70 _ _ (by omega))
  have N70 : NB B n q g70 := NB_fr nb.1 (fun s s0 s1 => G70 _ _ (by omega))
  refine OK_jb (vX13_nextS (B := B) (n := n) (A := A) (q := q) (by exact T70) (by exact hB) (by exact N70) (by (rw [nb.2]; decide))) (fun h72 r1 => ?_)
  try dsimp only [Sum.elim_inl, Sum.elim_inr, jt2, jt3, jt4, jt5, jt6, jt7, jt8] at r1
  obtain ⟨sx1, fr1⟩ := r1
  try simp (disch := omega) only [jst_eq, jst_ne, jst_ni, jI_i, jcmp_lt, jcmp_gt, w32_id, jcpy_out, Sum.elim_inl, Sum.elim_inr, jt2, jt3, jt4, jt5, jt6, jt7, jt8] at sx1
  try simp (disch := omega) only [jst_eq, jst_ne, jst_ni, jI_i, jcmp_lt, jcmp_gt, w32_id, jcpy_out, Sum.elim_inl, Sum.elim_inr, jt2, jt3, jt4, jt5, jt6, jt7, jt8] at fr1
  refine OK_jb (vX13_want (B := B) (n := n) (A := A) (c := 58) (r := nx B n q) _ (by exact TX_fr T70 (fr1 _ _ (by omega)) (fr1 _ _ (by omega)) (fun s => fr1 _ _ (by omega))) (by exact hB) (by exact sx1) (by exact Or.inr ⟨by unfold sgn; omega, rfl⟩)) (fun h74 r2 => ?_)
  try dsimp only [Sum.elim_inl, Sum.elim_inr, jt2, jt3, jt4, jt5, jt6, jt7, jt8] at r2
  obtain ⟨sx2, fr2⟩ := r2
  try simp (disch := omega) only [jst_eq, jst_ne, jst_ni, jI_i, jcmp_lt, jcmp_gt, w32_id, jcpy_out, Sum.elim_inl, Sum.elim_inr, jt2, jt3, jt4, jt5, jt6, jt7, jt8] at sx2
  try simp (disch := omega) only [jst_eq, jst_ne, jst_ni, jI_i, jcmp_lt, jcmp_gt, w32_id, jcpy_out, Sum.elim_inl, Sum.elim_inr, jt2, jt3, jt4, jt5, jt6, jt7, jt8] at fr2
  have G74 : ∀ b s, ¬ (b = 441 ∧ 2 ≤ s ∧ s ≤ 7) → ¬ ((b = 442 ∨ b = 443) ∧ s = a4) → h74 b s = h b s := fun b s y1 y2 => by { rw [fr2 b s y1, fr1 b s (by omega)]; exact G70 b s y2 }
  have T74 : TX B n A h74 := TX_fr t (G74 _ _ (by omega) (by omega)) (G74 _ _ (by omega) (by omega)) (fun s => G74 _ _ (by omega) (by omega))
  have O74 : Od h74 := Od_fr o (fun b i b0 b1 => G74 _ _ (by omega) (by omega))
  have F74 : f8X h74 := f8X_f f (fun s y => G74 _ _ (by omega) (by omega))
  have K74 : FK h74 = FK h := FK_fr (G74 _ _ (by omega) (by omega)) (G74 _ _ (by omega) (by omega))
  have A74 : h74 442 a4 = tS B n q ∧ h74 443 a4 = tE B n q := by { rw [fr2 _ _ (by omega), fr1 _ _ (by omega), fr2 _ _ (by omega), fr1 _ _ (by omega)]; exact ⟨(F70 _ _ (by omega)).trans V69, V70⟩ }
  obtain ⟨R2, eR⟩ : ∃ R2, R2 = bnd (nx B n q) (pW B n 58) := ⟨_, rfl⟩
  rw [← eR] at sx2
  have EQ : sRp (pNm B n q) = bnd R2 (pKd B n) := by { rw [eR]; exact pNm_e nb.2 }
  refine OK_if (fun c1 => ?_) (fun c1 => ?_)
  · skip
    try simp (disch := omega) only [jst_eq, jst_ne, jst_ni, jI_i, jcmp_lt, jcmp_gt, w32_id, jcpy_out, Sum.elim_inl, Sum.elim_inr, jt2, jt3, jt4, jt5, jt6, jt7, jt8] at c1
    obtain ⟨q2, NB2, KK⟩ := Sx_nb sx2 c1
    refine OK_jb (vX13_is (B := B) (n := n) (A := A) (q := q2) (w := 19) _ (by exact T74) (by exact NB2) (by exact nm_s O74)) (fun v77 r3 => ?_)
    try dsimp only [Sum.elim_inl, Sum.elim_inr, jt2, jt3, jt4, jt5, jt6, jt7, jt8] at r3
    have v3 := r3
    clear r3
    try simp (disch := omega) only [jst_eq, jst_ne, jst_ni, jI_i, jcmp_lt, jcmp_gt, w32_id, jcpy_out, Sum.elim_inl, Sum.elim_inr, jt2, jt3, jt4, jt5, jt6, jt7, jt8] at v3
    refine OK_if (fun c2 => ?_) (fun c2 => ?_)
    · skip
      try simp (disch := omega) only [jst_eq, jst_ne, jst_ni, jI_i, jcmp_lt, jcmp_gt, w32_id, jcpy_out, Sum.elim_inl, Sum.elim_inr, jt2, jt3, jt4, jt5, jt6, jt7, jt8] at c2
      have NS : ¬ isN B n q2 19 := fun z => by { rw [if_pos z] at v3; omega }
      refine OK_mono (vX13_law_j297_123 (B := B) (n := n) (A := A) (R := R2) _ _ (by exact T74) (by exact hB) (by exact sx2) (by exact O74) (by exact a)) (fun r r4 => ?_)
      rcases r with r | r
      · skip
        have r5 := r4; clear r4; dsimp only [Sum.elim_inl, Sum.elim_inr] at r5
        obtain ⟨y1, y2⟩ := r
        try dsimp only [Sum.elim_inl, Sum.elim_inr, jt2, jt3, jt4, jt5, jt6, jt7, jt8] at r5
        obtain ⟨cc4, sx4, v4, rg4, fr4⟩ := r5
        try simp (disch := omega) only [jst_eq, jst_ne, jst_ni, jI_i, jcmp_lt, jcmp_gt, w32_id, jcpy_out, Sum.elim_inl, Sum.elim_inr, jt2, jt3, jt4, jt5, jt6, jt7, jt8] at cc4
        try simp (disch := omega) only [jst_eq, jst_ne, jst_ni, jI_i, jcmp_lt, jcmp_gt, w32_id, jcpy_out, Sum.elim_inl, Sum.elim_inr, jt2, jt3, jt4, jt5, jt6, jt7, jt8] at sx4
        try simp (disch := omega) only [jst_eq, jst_ne, jst_ni, jI_i, jcmp_lt, jcmp_gt, w32_id, jcpy_out, Sum.elim_inl, Sum.elim_inr, jt2, jt3, jt4, jt5, jt6, jt7, jt8] at v4
        try simp (disch := omega) only [jst_eq, jst_ne, jst_ni, jI_i, jcmp_lt, jcmp_gt, w32_id, jcpy_out, Sum.elim_inl, Sum.elim_inr, jt2, jt3, jt4, jt5, jt6, jt7, jt8] at rg4
        try simp (disch := omega) only [jst_eq, jst_ne, jst_ni, jI_i, jcmp_lt, jcmp_gt, w32_id, jcpy_out, Sum.elim_inl, Sum.elim_inr, jt2, jt3, jt4, jt5, jt6, jt7, jt8] at fr4
        try dsimp only [Sum.elim_inl, Sum.elim_inr, jt2, jt3, jt4, jt5, jt6, jt7, jt8]
        try dsimp only [Sum.elim_inl, Sum.elim_inr, jt2, jt3, jt4, jt5, jt6, jt7, jt8]
        refine ⟨?_, ?_, ?_, ?_, ?_⟩
        · exact cc4 -- o18 e1.1
        · exact ⟨by rw [EQ]; exact sx4, f8X_f F74 (fun s y => fr4 _ _ (by omega) (by omega))⟩ -- o19 e1.2
        · exact nm_st eR (by rw [fr4 _ _ (by omega) (by omega), fr4 _ _ (by omega) (by omega)]; exact A74) v4 (fun q' e g => by (rcases KK with z | z; { rw [z.1] at e; cases e }; { rw [z.1] at e; cases e; rw [if_neg (fun y => NS ((kdv_2 g).mp y)), FK_fr (fr4 _ _ (by omega) (by omega)) (fr4 _ _ (by omega) (by omega)), K74]; have := f.2.2; omega })) -- o20 e1.3
        · (have AA : y2 442 a4 = tS B n q ∧ y2 443 a4 = tE B n q := (by rw [fr4 442 _ (by omega) (by omega), fr4 443 _ (by omega) (by omega)]; exact A74); exact ⟨AA.1, AA.2, rg4⟩) -- o21 e1.4
        · exact fun b s y1 y2 => (fr4 b s (by omega) (by omega)).trans (G74 b s (by omega) (by omega)) -- o22 e1.5
      · skip
        have r6 := r4; clear r4; dsimp only [Sum.elim_inl, Sum.elim_inr] at r6
        obtain ⟨y3, y4⟩ := r
        try dsimp only [Sum.elim_inl, Sum.elim_inr, jt2, jt3, jt4, jt5, jt6, jt7, jt8] at r6
        have no5 := r6
        clear r6
        try simp (disch := omega) only [jst_eq, jst_ne, jst_ni, jI_i, jcmp_lt, jcmp_gt, w32_id, jcpy_out, Sum.elim_inl, Sum.elim_inr, jt2, jt3, jt4, jt5, jt6, jt7, jt8] at no5
        try dsimp only [Sum.elim_inl, Sum.elim_inr, jt2, jt3, jt4, jt5, jt6, jt7, jt8]
        exact absurd no5 (by decide) -- o23 e2
    · skip
      try simp (disch := omega) only [jst_eq, jst_ne, jst_ni, jI_i, jcmp_lt, jcmp_gt, w32_id, jcpy_out, Sum.elim_inl, Sum.elim_inr, jt2, jt3, jt4, jt5, jt6, jt7, jt8] at c2
      have YS : isN B n q2 19 := Classical.byContradiction fun z => by { rw [if_neg z] at v3; omega }
      refine OK_jb (vX13_err _ _ (by exact ⟨F74.1, F74.2.1⟩) (by omega)) (fun h80 r7 => ?_)
      try dsimp only [Sum.elim_inl, Sum.elim_inr, jt2, jt3, jt4, jt5, jt6, jt7, jt8] at r7
      obtain ⟨f6, k6, fr6⟩ := r7
      try simp (disch := omega) only [jst_eq, jst_ne, jst_ni, jI_i, jcmp_lt, jcmp_gt, w32_id, jcpy_out, Sum.elim_inl, Sum.elim_inr, jt2, jt3, jt4, jt5, jt6, jt7, jt8] at f6
      try simp (disch := omega) only [jst_eq, jst_ne, jst_ni, jI_i, jcmp_lt, jcmp_gt, w32_id, jcpy_out, Sum.elim_inl, Sum.elim_inr, jt2, jt3, jt4, jt5, jt6, jt7, jt8] at k6
      try simp (disch := omega) only [jst_eq, jst_ne, jst_ni, jI_i, jcmp_lt, jcmp_gt, w32_id, jcpy_out, Sum.elim_inl, Sum.elim_inr, jt2, jt3, jt4, jt5, jt6, jt7, jt8] at fr6
      have F80 : f8X h80 := ⟨f6.1, f6.2, by rw [k6]; have := F74.2.2; omega⟩
      refine OK_mono (vX13_law_j297_123 (B := B) (n := n) (A := A) (R := R2) _ _ (by exact TX_fr T74 (fr6 _ _ (by omega)) (fr6 _ _ (by omega)) (fun s => fr6 _ _ (by omega))) (by exact hB) (by exact Sx_fr sx2 (fun s s0 s1 => fr6 _ _ (by omega))) (by exact Od_fr O74 (fun b i b0 b1 => fr6 _ _ (by omega))) (by exact a)) (fun r r8 => ?_)
      rcases r with r | r
      · skip
        have r9 := r8; clear r8; dsimp only [Sum.elim_inl, Sum.elim_inr] at r9
        obtain ⟨y5, y6⟩ := r
        try dsimp only [Sum.elim_inl, Sum.elim_inr, jt2, jt3, jt4, jt5, jt6, jt7, jt8] at r9
        obtain ⟨cc7, sx7, v7, rg7, fr7⟩ := r9
        try simp (disch := omega) only [jst_eq, jst_ne, jst_ni, jI_i, jcmp_lt, jcmp_gt, w32_id, jcpy_out, Sum.elim_inl, Sum.elim_inr, jt2, jt3, jt4, jt5, jt6, jt7, jt8] at cc7
        try simp (disch := omega) only [jst_eq, jst_ne, jst_ni, jI_i, jcmp_lt, jcmp_gt, w32_id, jcpy_out, Sum.elim_inl, Sum.elim_inr, jt2, jt3, jt4, jt5, jt6, jt7, jt8] at sx7
        try simp (disch := omega) only [jst_eq, jst_ne, jst_ni, jI_i, jcmp_lt, jcmp_gt, w32_id, jcpy_out, Sum.elim_inl, Sum.elim_inr, jt2, jt3, jt4, jt5, jt6, jt7, jt8] at v7
        try simp (disch := omega) only [jst_eq, jst_ne, jst_ni, jI_i, jcmp_lt, jcmp_gt, w32_id, jcpy_out, Sum.elim_inl, Sum.elim_inr, jt2, jt3, jt4, jt5, jt6, jt7, jt8] at rg7
        try simp (disch := omega) only [jst_eq, jst_ne, jst_ni, jI_i, jcmp_lt, jcmp_gt, w32_id, jcpy_out, Sum.elim_inl, Sum.elim_inr, jt2, jt3, jt4, jt5, jt6, jt7, jt8] at fr7
        try dsimp only [Sum.elim_inl, Sum.elim_inr, jt2, jt3, jt4, jt5, jt6, jt7, jt8]
        try dsimp only [Sum.elim_inl, Sum.elim_inr, jt2, jt3, jt4, jt5, jt6, jt7, jt8]
        refine ⟨?_, ?_, ?_, ?_, ?_⟩
        · exact cc7 -- o31 e3.1
        · exact ⟨by rw [EQ]; exact sx7, f8X_f F80 (fun s y => fr7 _ _ (by omega) (by omega))⟩ -- o32 e3.2
        · exact nm_st eR (by rw [fr7 _ _ (by omega) (by omega), fr7 _ _ (by omega) (by omega), fr6 _ _ (by omega), fr6 _ _ (by omega)]; exact A74) v7 (fun q' e g => by (rcases KK with z | z; { rw [z.1] at e; cases e }; { rw [z.1] at e; cases e; rw [if_pos ((kdv_2 g).mpr YS), FK_fr (fr7 _ _ (by omega) (by omega)) (fr7 _ _ (by omega) (by omega)), k6, K74] })) -- o33 e3.3
        · (have AA : y6 442 a4 = tS B n q ∧ y6 443 a4 = tE B n q := (by rw [fr7 442 _ (by omega) (by omega), fr7 443 _ (by omega) (by omega), fr6 442 _ (by omega), fr6 443 _ (by omega)]; exact A74); exact ⟨AA.1, AA.2, rg7⟩) -- o34 e3.4
        · exact fun b s y1 y2 => (fr7 b s (by omega) (by omega)).trans ((fr6 b s (by omega)).trans (G74 b s (by omega) (by omega))) -- o35 e3.5
      · skip
        have r10 := r8; clear r8; dsimp only [Sum.elim_inl, Sum.elim_inr] at r10
        obtain ⟨y7, y8⟩ := r
        try dsimp only [Sum.elim_inl, Sum.elim_inr, jt2, jt3, jt4, jt5, jt6, jt7, jt8] at r10
        have no8 := r10
        clear r10
        try simp (disch := omega) only [jst_eq, jst_ne, jst_ni, jI_i, jcmp_lt, jcmp_gt, w32_id, jcpy_out, Sum.elim_inl, Sum.elim_inr, jt2, jt3, jt4, jt5, jt6, jt7, jt8] at no8
        try dsimp only [Sum.elim_inl, Sum.elim_inr, jt2, jt3, jt4, jt5, jt6, jt7, jt8]
        exact absurd no8 (by decide) -- o36 e4
  · skip
    try simp (disch := omega) only [jst_eq, jst_ne, jst_ni, jI_i, jcmp_lt, jcmp_gt, w32_id, jcpy_out, Sum.elim_inl, Sum.elim_inr, jt2, jt3, jt4, jt5, jt6, jt7, jt8] at c1
    refine OK_mono (vX13_law_j297_123 (B := B) (n := n) (A := A) (R := R2) _ _ (by exact T74) (by exact hB) (by exact sx2) (by exact O74) (by exact a)) (fun r r11 => ?_)
    rcases r with r | r
    · skip
      have r12 := r11; clear r11; dsimp only [Sum.elim_inl, Sum.elim_inr] at r12
      obtain ⟨y9, y10⟩ := r
      try dsimp only [Sum.elim_inl, Sum.elim_inr, jt2, jt3, jt4, jt5, jt6, jt7, jt8] at r12
      obtain ⟨cc9, sx9, v9, rg9, fr9⟩ := r12
      try simp (disch := omega) only [jst_eq, jst_ne, jst_ni, jI_i, jcmp_lt, jcmp_gt, w32_id, jcpy_out, Sum.elim_inl, Sum.elim_inr, jt2, jt3, jt4, jt5, jt6, jt7, jt8] at cc9
      try simp (disch := omega) only [jst_eq, jst_ne, jst_ni, jI_i, jcmp_lt, jcmp_gt, w32_id, jcpy_out, Sum.elim_inl, Sum.elim_inr, jt2, jt3, jt4, jt5, jt6, jt7, jt8] at sx9
      try simp (disch := omega) only [jst_eq, jst_ne, jst_ni, jI_i, jcmp_lt, jcmp_gt, w32_id, jcpy_out, Sum.elim_inl, Sum.elim_inr, jt2, jt3, jt4, jt5, jt6, jt7, jt8] at v9
      try simp (disch := omega) only [jst_eq, jst_ne, jst_ni, jI_i, jcmp_lt, jcmp_gt, w32_id, jcpy_out, Sum.elim_inl, Sum.elim_inr, jt2, jt3, jt4, jt5, jt6, jt7, jt8] at rg9
      try simp (disch := omega) only [jst_eq, jst_ne, jst_ni, jI_i, jcmp_lt, jcmp_gt, w32_id, jcpy_out, Sum.elim_inl, Sum.elim_inr, jt2, jt3, jt4, jt5, jt6, jt7, jt8] at fr9
      try dsimp only [Sum.elim_inl, Sum.elim_inr, jt2, jt3, jt4, jt5, jt6, jt7, jt8]
      try dsimp only [Sum.elim_inl, Sum.elim_inr, jt2, jt3, jt4, jt5, jt6, jt7, jt8]
      refine ⟨?_, ?_, ?_, ?_, ?_⟩
      · exact cc9 -- o42 e5.1
      · exact ⟨by rw [EQ]; exact sx9, f8X_f F74 (fun s y => fr9 _ _ (by omega) (by omega))⟩ -- o43 e5.2
      · exact nm_st eR (by rw [fr9 _ _ (by omega) (by omega), fr9 _ _ (by omega) (by omega)]; exact A74) v9 (fun q' e g => by (have := (Sx_br sx2 c1).2; rw [this] at e; cases e)) -- o44 e5.3
      · (have AA : y10 442 a4 = tS B n q ∧ y10 443 a4 = tE B n q := (by rw [fr9 442 _ (by omega) (by omega), fr9 443 _ (by omega) (by omega)]; exact A74); exact ⟨AA.1, AA.2, rg9⟩) -- o45 e5.4
      · exact fun b s y1 y2 => (fr9 b s (by omega) (by omega)).trans (G74 b s (by omega) (by omega)) -- o46 e5.5
    · skip
      have r13 := r11; clear r11; dsimp only [Sum.elim_inl, Sum.elim_inr] at r13
      obtain ⟨y11, y12⟩ := r
      try dsimp only [Sum.elim_inl, Sum.elim_inr, jt2, jt3, jt4, jt5, jt6, jt7, jt8] at r13
      have no10 := r13
      clear r13
      try simp (disch := omega) only [jst_eq, jst_ne, jst_ni, jI_i, jcmp_lt, jcmp_gt, w32_id, jcpy_out, Sum.elim_inl, Sum.elim_inr, jt2, jt3, jt4, jt5, jt6, jt7, jt8] at no10
      try dsimp only [Sum.elim_inl, Sum.elim_inr, jt2, jt3, jt4, jt5, jt6, jt7, jt8]
      exact absurd no10 (by decide) -- o47 e6
theorem nmX_a {B : Int → Int} {n : Int} {ns : List (Int × Int)} {p : Int × Int} {h h' : AH} (x : nmXl B n ns h) (f : ∀ b s, 442 ≤ b → b ≤ 444 → 0 ≤ s → s < (ns.length : Int) → h' b s = h b s) (a : (tO B n p.1 = 1 ∧ 0 ≤ p.1 ∧ p.1 ≤ n) ∧ h' 442 ns.length = tS B n p.1 ∧ h' 443 ns.length = tE B n p.1 ∧ h' 444 ns.length = p.2 ∧ 0 ≤ p.2 ∧ p.2 ≤ 2) : nmXl B n (ns ++ [p]) h' := fun k u eu => by
  rcases app_ixg eu with ⟨y1, y2⟩ | ⟨y1, y2⟩
  · have z := x k u y2
    rw [f 442 k (by omega) (by omega) (by omega) (by omega), f 443 k (by omega) (by omega) (by omega) (by omega), f 444 k (by omega) (by omega) (by omega) (by omega)]
    exact z
  · rw [y2, y1]; exact a
theorem vX13_law_j192_123 (a2 : Int) (a4 : Int) (a5 : Int) (t0 : Int) {h : AH} {B : Int → Int} {n A q : Int} {ns : List (Int × Int)} (t : TX B n A h) (hB : ∀ i, 0 ≤ i → i < n → 0 ≤ B i ∧ B i < 256) (nb : NB B n q h ∧ tO B n q = 1) (o : Od h) (f : f8X h) (a : 0 ≤ a4 ∧ a4 < 2 ∧ (ns.length : Int) = a4) (w5 : a5 = tS B n q) (nm : nmXl B n ns h) (tz : (t0 = 0 ∨ t0 = 1) ∧ (t0 = 1 ↔ badN B n q)) : OK (gX13_law_j192_123 a2 a4 a5 t0 h) (Sum.elim (fun r => jt2 r fun y h' => (y = a4 + 1) ∧ (Sx B n (sRp (pNm B n q)) h' ∧ f8X h') ∧ (∀ p q1, pNm B n q = .inr (p, q1) → nmXl B n (ns ++ [p]) h' ∧ FK h' = min (FK h) (nm1 B n ns p)) ∧ (nmXl B n (ns ++ [(q, h' 444 a4)]) h') ∧ (∀ b s, ¬ (b = 441 ∧ 2 ≤ s ∧ s ≤ 9) → ¬ ((b = 442 ∨ b = 443 ∨ b = 444) ∧ s = a4) → h' b s = h b s)) (fun r => jt2 r fun y h' => (0 : Int) = 1)) := by
  have n0 := nb.1.2.2
  have SR := tS_r (B := B) n0.2
  have n2 := t.2.2.2.1
  have ta := t.2.2.2.2
  have Q3 : h 441 3 = tS B n q := nb.1.2.1.1
  have Q4 : h 441 4 = tE B n q := nb.1.2.1.2.2.1 (by rw [nb.2]; decide)
  unfold gX13_law_j192_123
  refine OK_jb (vX13_law_l197 (B := B) (n := n) (A := A) (q := q) (ns := ns) _ _ _ _ _ (by exact t) (by exact ⟨nb.2, Q3, Q4, n0⟩) (by exact nm) (by omega) (by exact ⟨rfl, tz.1⟩)) (fun o64 r1 => ?_)
  try dsimp only [Sum.elim_inl, Sum.elim_inr, jt2, jt3, jt4, jt5, jt6, jt7, jt8] at r1
  have v1 := r1
  clear r1
  try simp (disch := omega) only [jst_eq, jst_ne, jst_ni, jI_i, jcmp_lt, jcmp_gt, w32_id, jcpy_out, Sum.elim_inl, Sum.elim_inr, jt2, jt3, jt4, jt5, jt6, jt7, jt8] at v1
  refine OK_if (fun c1 => ?_) (fun c1 => ?_)
  · skip
    try simp (disch := omega) only [jst_eq, jst_ne, jst_ni, jI_i, jcmp_lt, jcmp_gt, w32_id, jcpy_out, Sum.elim_inl, Sum.elim_inr, jt2, jt3, jt4, jt5, jt6, jt7, jt8] at c1
    have NN : ¬ (badN B n q ∨ ∃ u, u ∈ ns ∧ tV B n u.1 = tV B n q) := fun z => by { have := v1.2.mpr (z.elim (fun y => Or.inl (tz.2.mpr y)) Or.inr); omega }
    refine OK_mono (vX13_law_j241_123 (B := B) (n := n) (A := A) (q := q) _ _ _ (by exact t) (by exact hB) (by exact nb) (by exact o) (by exact f) (by omega) (by exact w5)) (fun r r2 => ?_)
    rcases r with r | r
    · skip
      have r3 := r2; clear r2; dsimp only [Sum.elim_inl, Sum.elim_inr] at r3
      obtain ⟨y1, y2⟩ := r
      try dsimp only [Sum.elim_inl, Sum.elim_inr, jt2, jt3, jt4, jt5, jt6, jt7, jt8] at r3
      obtain ⟨cc2, sx2, v2, nr2, fr2⟩ := r3
      try simp (disch := omega) only [jst_eq, jst_ne, jst_ni, jI_i, jcmp_lt, jcmp_gt, w32_id, jcpy_out, Sum.elim_inl, Sum.elim_inr, jt2, jt3, jt4, jt5, jt6, jt7, jt8] at cc2
      try simp (disch := omega) only [jst_eq, jst_ne, jst_ni, jI_i, jcmp_lt, jcmp_gt, w32_id, jcpy_out, Sum.elim_inl, Sum.elim_inr, jt2, jt3, jt4, jt5, jt6, jt7, jt8] at sx2
      try simp (disch := omega) only [jst_eq, jst_ne, jst_ni, jI_i, jcmp_lt, jcmp_gt, w32_id, jcpy_out, Sum.elim_inl, Sum.elim_inr, jt2, jt3, jt4, jt5, jt6, jt7, jt8] at v2
      try simp (disch := omega) only [jst_eq, jst_ne, jst_ni, jI_i, jcmp_lt, jcmp_gt, w32_id, jcpy_out, Sum.elim_inl, Sum.elim_inr, jt2, jt3, jt4, jt5, jt6, jt7, jt8] at nr2
      try simp (disch := omega) only [jst_eq, jst_ne, jst_ni, jI_i, jcmp_lt, jcmp_gt, w32_id, jcpy_out, Sum.elim_inl, Sum.elim_inr, jt2, jt3, jt4, jt5, jt6, jt7, jt8] at fr2
      try dsimp only [Sum.elim_inl, Sum.elim_inr, jt2, jt3, jt4, jt5, jt6, jt7, jt8]
      try dsimp only [Sum.elim_inl, Sum.elim_inr, jt2, jt3, jt4, jt5, jt6, jt7, jt8]
      refine ⟨?_, ?_, ?_, ?_, ?_⟩
      · exact cc2 -- o13 e1.1
      · exact sx2 -- o14 e1.2
      · (intro p q1 w; obtain ⟨g1, g2, g3, g4, g5⟩ := v2 p q1 w; refine ⟨nmX_a nm (fun b s b0 b1 s0 s1 => fr2 _ _ (by omega) (by omega)) ?_, ?_⟩; { rw [a.2.2, g1]; exact ⟨⟨nb.2, n0⟩, g3, g4, g5⟩ }; { rw [g2]; unfold nm1; rw [g1, cif_n NN, w5]; have := f.2.2; omega }) -- o15 e1.3
      · exact nmX_a nm (fun b s b0 b1 s0 s1 => fr2 _ _ (by omega) (by omega)) (by rw [a.2.2]; exact ⟨⟨nb.2, n0⟩, nr2.1, nr2.2.1, rfl, nr2.2.2⟩) -- o16 e1.4
      · exact fr2 -- o17 e1.5
    · skip
      have r4 := r2; clear r2; dsimp only [Sum.elim_inl, Sum.elim_inr] at r4
      obtain ⟨y3, y4⟩ := r
      try dsimp only [Sum.elim_inl, Sum.elim_inr, jt2, jt3, jt4, jt5, jt6, jt7, jt8] at r4
      have no3 := r4
      clear r4
      try simp (disch := omega) only [jst_eq, jst_ne, jst_ni, jI_i, jcmp_lt, jcmp_gt, w32_id, jcpy_out, Sum.elim_inl, Sum.elim_inr, jt2, jt3, jt4, jt5, jt6, jt7, jt8] at no3
      try dsimp only [Sum.elim_inl, Sum.elim_inr, jt2, jt3, jt4, jt5, jt6, jt7, jt8]
      exact absurd no3 (by decide) -- o18 e2
  · skip
    try simp (disch := omega) only [jst_eq, jst_ne, jst_ni, jI_i, jcmp_lt, jcmp_gt, w32_id, jcpy_out, Sum.elim_inl, Sum.elim_inr, jt2, jt3, jt4, jt5, jt6, jt7, jt8] at c1
    have NN : badN B n q ∨ ∃ u, u ∈ ns ∧ tV B n u.1 = tV B n q := by { have o1 : o64 = 1 := (by omega); rcases v1.2.mp o1 with y | y; { exact Or.inl (tz.2.mp y) }; { exact Or.inr y } }
    refine OK_jb (vX13_err _ _ (by exact ⟨f.1, f.2.1⟩) (by omega)) (fun h68 r5 => ?_)
    try dsimp only [Sum.elim_inl, Sum.elim_inr, jt2, jt3, jt4, jt5, jt6, jt7, jt8] at r5
    obtain ⟨f4, k4, fr4⟩ := r5
    try simp (disch := omega) only [jst_eq, jst_ne, jst_ni, jI_i, jcmp_lt, jcmp_gt, w32_id, jcpy_out, Sum.elim_inl, Sum.elim_inr, jt2, jt3, jt4, jt5, jt6, jt7, jt8] at f4
    try simp (disch := omega) only [jst_eq, jst_ne, jst_ni, jI_i, jcmp_lt, jcmp_gt, w32_id, jcpy_out, Sum.elim_inl, Sum.elim_inr, jt2, jt3, jt4, jt5, jt6, jt7, jt8] at k4
    try simp (disch := omega) only [jst_eq, jst_ne, jst_ni, jI_i, jcmp_lt, jcmp_gt, w32_id, jcpy_out, Sum.elim_inl, Sum.elim_inr, jt2, jt3, jt4, jt5, jt6, jt7, jt8] at fr4
    have F68 : f8X h68 := ⟨f4.1, f4.2, by rw [k4]; have := f.2.2; omega⟩
    refine OK_mono (vX13_law_j241_123 (B := B) (n := n) (A := A) (q := q) _ _ _ (by exact TX_fr t (fr4 _ _ (by omega)) (fr4 _ _ (by omega)) (fun s => fr4 _ _ (by omega))) (by exact hB) (by exact ⟨NB_fr nb.1 (fun s s0 s1 => fr4 _ _ (by omega)), nb.2⟩) (by exact Od_fr o (fun b i b0 b1 => fr4 _ _ (by omega))) (by exact F68) (by omega) (by exact w5)) (fun r r6 => ?_)
    rcases r with r | r
    · skip
      have r7 := r6; clear r6; dsimp only [Sum.elim_inl, Sum.elim_inr] at r7
      obtain ⟨y5, y6⟩ := r
      try dsimp only [Sum.elim_inl, Sum.elim_inr, jt2, jt3, jt4, jt5, jt6, jt7, jt8] at r7
      obtain ⟨cc5, sx5, v5, nr5, fr5⟩ := r7
      try simp (disch := omega) only [jst_eq, jst_ne, jst_ni, jI_i, jcmp_lt, jcmp_gt, w32_id, jcpy_out, Sum.elim_inl, Sum.elim_inr, jt2, jt3, jt4, jt5, jt6, jt7, jt8] at cc5
      try simp (disch := omega) only [jst_eq, jst_ne, jst_ni, jI_i, jcmp_lt, jcmp_gt, w32_id, jcpy_out, Sum.elim_inl, Sum.elim_inr, jt2, jt3, jt4, jt5, jt6, jt7, jt8] at sx5
      try simp (disch := omega) only [jst_eq, jst_ne, jst_ni, jI_i, jcmp_lt, jcmp_gt, w32_id, jcpy_out, Sum.elim_inl, Sum.elim_inr, jt2, jt3, jt4, jt5, jt6, jt7, jt8] at v5
      try simp (disch := omega) only [jst_eq, jst_ne, jst_ni, jI_i, jcmp_lt, jcmp_gt, w32_id, jcpy_out, Sum.elim_inl, Sum.elim_inr, jt2, jt3, jt4, jt5, jt6, jt7, jt8] at nr5
      try simp (disch := omega) only [jst_eq, jst_ne, jst_ni, jI_i, jcmp_lt, jcmp_gt, w32_id, jcpy_out, Sum.elim_inl, Sum.elim_inr, jt2, jt3, jt4, jt5, jt6, jt7, jt8] at fr5
      try dsimp only [Sum.elim_inl, Sum.elim_inr, jt2, jt3, jt4, jt5, jt6, jt7, jt8]
      try dsimp only [Sum.elim_inl, Sum.elim_inr, jt2, jt3, jt4, jt5, jt6, jt7, jt8]
      refine ⟨?_, ?_, ?_, ?_, ?_⟩
      · exact cc5 -- o28 e3.1
      · exact sx5 -- o29 e3.2
      · (intro p q1 w; obtain ⟨g1, g2, g3, g4, g5⟩ := v5 p q1 w; refine ⟨nmX_a nm (fun b s b0 b1 s0 s1 => (fr5 _ _ (by omega) (by omega)).trans (fr4 _ _ (by omega))) ?_, ?_⟩; { rw [a.2.2, g1]; exact ⟨⟨nb.2, n0⟩, g3, g4, g5⟩ }; { rw [g2, k4]; unfold nm1; rw [g1, cif_p NN, w5]; omega }) -- o30 e3.3
      · exact nmX_a nm (fun b s b0 b1 s0 s1 => (fr5 _ _ (by omega) (by omega)).trans (fr4 _ _ (by omega))) (by rw [a.2.2]; exact ⟨⟨nb.2, n0⟩, nr5.1, nr5.2.1, rfl, nr5.2.2⟩) -- o31 e3.4
      · exact fun b s y1 y2 => (fr5 b s y1 y2).trans (fr4 b s (by omega)) -- o32 e3.5
    · skip
      have r8 := r6; clear r6; dsimp only [Sum.elim_inl, Sum.elim_inr] at r8
      obtain ⟨y7, y8⟩ := r
      try dsimp only [Sum.elim_inl, Sum.elim_inr, jt2, jt3, jt4, jt5, jt6, jt7, jt8] at r8
      have no6 := r8
      clear r8
      try simp (disch := omega) only [jst_eq, jst_ne, jst_ni, jI_i, jcmp_lt, jcmp_gt, w32_id, jcpy_out, Sum.elim_inl, Sum.elim_inr, jt2, jt3, jt4, jt5, jt6, jt7, jt8] at no6
      try dsimp only [Sum.elim_inl, Sum.elim_inr, jt2, jt3, jt4, jt5, jt6, jt7, jt8]
      exact absurd no6 (by decide) -- o33 e4
theorem nmL_app {B : Int → Int} {n : Int} {p : Int × Int} : ∀ (l0 l : List (Int × Int)), nmL B n l0 (l ++ [p]) = min (nmL B n l0 l) (nm1 B n (l0 ++ l) p)
  | l0, [] => by
    show min (nm1 B n l0 p) 1000000 = min 1000000 (nm1 B n (l0 ++ []) p)
    rw [List.append_nil]; omega
  | l0, u :: l => by
    show min (nm1 B n l0 u) (nmL B n (l0 ++ [u]) (l ++ [p])) = min (min (nm1 B n l0 u) (nmL B n (l0 ++ [u]) l)) (nm1 B n (l0 ++ u :: l) p)
    rw [nmL_app (l0 ++ [u]) l, List.append_assoc]
    show min (nm1 B n l0 u) (min (nmL B n (l0 ++ [u]) l) (nm1 B n (l0 ++ u :: l) p)) = _
    omega
def nmE (B : Int → Int) (n a4 : Int) (h : AH) : Prop := ∃ ns : List (Int × Int), (ns.length : Int) = a4 ∧ nmXl B n ns h
/-- names read so far -/
def nsI (B : Int → Int) (n K : Int) (R0 : Int ⊕ Int) (a4 : Int) (h : AH) : Prop := (a4 = 0 ∧ Sx B n R0 h ∧ FK h = min K (nmL B n [] [])) ∨ (a4 = 1 ∧ Sx B n (sRp (bS R0 (pNm B n))) h ∧ ∀ p q1, bS R0 (pNm B n) = .inr (p, q1) → nmXl B n [p] h ∧ FK h = min K (nmL B n [] [p])) ∨ (a4 = 2 ∧ ∃ p q1, bS R0 (pNm B n) = .inr (p, q1) ∧ tO B n q1 = 1 ∧ Sx B n (sRp (pNm B n q1)) h ∧ ∀ p2 q2, pNm B n q1 = .inr (p2, q2) → nmXl B n [p, p2] h ∧ FK h = min K (nmL B n [] [p, p2]))
theorem nsI_c {B : Int → Int} {n K a4 : Int} {R0 : Int ⊕ Int} {h : AH} (i : nsI B n K R0 a4 h) (a : a4 < 2) : ∃ (R : Int ⊕ Int) (ns : List (Int × Int)), (ns.length : Int) = a4 ∧ Sx B n R h ∧ (∀ q, R = .inr q → nmXl B n ns h ∧ FK h = min K (nmL B n [] ns)) ∧ ∀ q h', R = .inr q → tO B n q = 1 → Sx B n (sRp (pNm B n q)) h' → (∀ p q1, pNm B n q = .inr (p, q1) → nmXl B n (ns ++ [p]) h' ∧ FK h' = min (FK h) (nm1 B n ns p)) → nsI B n K R0 (a4 + 1) h' := by
  rcases i with ⟨e, s, k⟩ | ⟨e, s, k⟩ | ⟨e, _⟩
  · refine ⟨R0, [], e.symm, s, fun q eq => ⟨fun j p ep => (by cases ep), k⟩, fun q h' eq o s' v => Or.inr (Or.inl ⟨by omega, by rw [eq]; exact s', fun p q1 w => ?_⟩)⟩
    rw [eq] at w
    obtain ⟨v1, v2⟩ := v p q1 w
    refine ⟨v1, ?_⟩
    rw [v2, k]
    show min (min K 1000000) (nm1 B n [] p) = min K (min (nm1 B n [] p) 1000000)
    omega
  · cases ew : bS R0 (pNm B n) with
    | inl z =>
      rw [ew] at s
      exact ⟨.inl z, [(0, 0)], e.symm, s, (fun q eq => by cases eq), fun q h' eq => by cases eq⟩
    | inr x =>
      obtain ⟨p, q1⟩ := x
      rw [ew] at s
      obtain ⟨k1, k2⟩ := k p q1 ew
      refine ⟨.inr q1, [p], e.symm, s, fun q eq => ⟨k1, k2⟩, fun q h' eq o s' v => Or.inr (Or.inr ⟨by omega, p, q1, ew, ?_, ?_, fun p2 q2 w => ?_⟩)⟩
      · cases eq; exact o
      · cases eq; exact s'
      · cases eq
        obtain ⟨v1, v2⟩ := v p2 q2 w
        refine ⟨v1, ?_⟩
        rw [v2, k2]
        have ea := nmL_app (B := B) (n := n) (p := p2) [] [p]
        have e1 : nmL B n [] [p, p2] = min (nmL B n [] [p]) (nm1 B n [p] p2) := ea
        rw [e1]; omega
  · omega
/-- names when they end -/
def nsQ (B : Int → Int) (n K : Int) (R0 : Int ⊕ Int) (y : Int) (h : AH) : Prop := (y = 0 → Sx B n R0 h ∧ ∀ q, R0 = .inr q → tO B n q ≠ 1) ∧ (y ≠ 0 → match bS R0 (pNs B n) with | .inl z => Sx B n (.inl z) h | .inr (ns, q) => (ns.length : Int) = y ∧ nmXl B n ns h ∧ FK h = min K (nmL B n [] ns) ∧ Sx B n (.inr q) h)
theorem nsI_x {B : Int → Int} {n K a4 : Int} {R0 : Int ⊕ Int} {h : AH} (i : nsI B n K R0 a4 h) (x : a4 = 2 ∨ ¬ h 441 6 = 0 ∨ h 441 2 ≠ 110) : nsQ B n K R0 a4 h := by
  have O1 : ∀ q, Sx B n (.inr q) h → tO B n q = 1 → h 441 6 = 0 ∧ h 441 2 = 110 := fun q s o => by
    have nb := (Sx_inr s).1
    have O := chX_1 (tok_o B n q)
    exact ⟨nb.1, by rw [nb.2.1.2.1]; exact O.1.mp o⟩
  rcases i with ⟨e, s, k⟩ | ⟨e, s, k⟩ | ⟨e, p, q1, ew, o1, s, k⟩
  · refine ⟨fun _ => ⟨s, fun q eq o => ?_⟩, fun y => absurd e y⟩
    rw [eq] at s
    have := O1 q s o
    rcases x with x | x | x <;> omega
  · refine ⟨fun y => by omega, fun _ => ?_⟩
    have W : bS R0 (pNs B n) = bS (bS R0 (pNm B n)) fun x => if tO B n x.2 = 1 then bS (pNm B n x.2) fun y => .inr ([x.1, y.1], y.2) else .inr ([x.1], x.2) := bS_a
    cases ew : bS R0 (pNm B n) with
    | inl z =>
      rw [ew] at s W
      rw [W]; exact s
    | inr xx =>
      obtain ⟨p, q1⟩ := xx
      obtain ⟨k1, k2⟩ := k p q1 ew
      rw [ew] at s W
      have s1 : Sx B n (.inr q1) h := s
      have no : tO B n q1 ≠ 1 := fun o => by
        have := O1 q1 s1 o
        rcases x with x | x | x <;> omega
      have W2 : bS R0 (pNs B n) = .inr ([p], q1) := W.trans (if_neg no)
      rw [W2]
      exact ⟨e.symm, k1, k2, s1⟩
  · refine ⟨fun y => by omega, fun _ => ?_⟩
    have W : bS R0 (pNs B n) = bS (bS R0 (pNm B n)) fun x => if tO B n x.2 = 1 then bS (pNm B n x.2) fun y => .inr ([x.1, y.1], y.2) else .inr ([x.1], x.2) := bS_a
    rw [ew] at W
    have W2 : bS R0 (pNs B n) = bS (pNm B n q1) fun y => .inr ([p, y.1], y.2) := W.trans (if_pos o1)
    rw [W2]
    cases e2 : pNm B n q1 with
    | inl z => rw [e2] at s; exact s
    | inr xx =>
      obtain ⟨p2, q2⟩ := xx
      rw [e2] at s
      obtain ⟨k1, k2⟩ := k p2 q2 e2
      exact ⟨e.symm, k1, k2, s⟩
theorem vX13_law_l123 (i2 : Int) (a40 : Int) {h0 : AH} {B : Int → Int} {n A K : Int} {R0 : Int ⊕ Int} (hB : ∀ i, 0 ≤ i → i < n → 0 ≤ B i ∧ B i < 256) (t : TX B n A h0) (sx : Sx B n R0 h0) (o : Od h0) (f : f8X h0) (kk : FK h0 = min K 1000000) (h1 : a40 = 0) : OK (gX13_law_l123 i2 a40 h0) (fun r => jt2 r fun y h' => (nsQ B n K R0 y h' ∧ f8X h' ∧ nmE B n y h' ∧ 0 ≤ y ∧ y ≤ 2) ∧ (∀ b s, ¬ (b = 441 ∧ 2 ≤ s ∧ s ≤ 9) → ¬ ((b = 442 ∨ b = 443 ∨ b = 444) ∧ 0 ≤ s) → h' b s = h0 b s)) := by
  have ta := t.2.2.2.2
  unfold gX13_law_l123
  refine OK_jit (I := (fun (s : Int × AH) => jt2 s fun a4 h => (0 ≤ a4 ∧ a4 ≤ 2) ∧ (nsI B n K R0 a4 h) ∧ (f8X h) ∧ (nmE B n a4 h) ∧ (∀ b s, ¬ (b = 441 ∧ 2 ≤ s ∧ s ≤ 9) → ¬ ((b = 442 ∨ b = 443 ∨ b = 444) ∧ 0 ≤ s) → h b s = h0 b s))) (m := (fun (s : Int × AH) => jt2 s fun a4 h => (2 - a4).toNat)) ?_ ?_
  · intro s hs
    obtain ⟨a4, h⟩ := s
    dsimp only [Sum.elim_inl, Sum.elim_inr, jt2, jt3, jt4, jt5, jt6, jt7, jt8] at hs
    obtain ⟨q0, q1, q2, q3, fr⟩ := hs
    unfold gX13_law_b123
    refine OK_jt2 ?_
    have T1 : TX B n A h := TX_fr t (fr _ _ (by omega) (by omega)) (fr _ _ (by omega) (by omega)) (fun s => fr _ _ (by omega) (by omega))
    have O1 : Od h := Od_fr o (fun b i b0 b1 => fr _ _ (by omega) (by omega))
    refine OK_if (fun c1 => ?_) (fun c1 => ?_)
    · skip
      try simp (disch := omega) only [jst_eq, jst_ne, jst_ni, jI_i, jcmp_lt, jcmp_gt, w32_id, jcpy_out, Sum.elim_inl, Sum.elim_inr, jt2, jt3, jt4, jt5, jt6, jt7, jt8] at c1
      refine OK_if (fun c2 => ?_) (fun c2 => ?_)
      · skip
        try simp (disch := omega) only [jst_eq, jst_ne, jst_ni, jI_i, jcmp_lt, jcmp_gt, w32_id, jcpy_out, Sum.elim_inl, Sum.elim_inr, jt2, jt3, jt4, jt5, jt6, jt7, jt8] at c2
        refine OK_ir ?_
        try dsimp only [Sum.elim_inl, Sum.elim_inr, jt2, jt3, jt4, jt5, jt6, jt7, jt8]
        refine ⟨?_, ?_⟩
        · exact ⟨nsI_x q1 (Or.inl (by omega)), q2, q3, q0⟩ -- o1 e1.1
        · exact fr -- o2 e1.2
      · skip
        try simp (disch := omega) only [jst_eq, jst_ne, jst_ni, jI_i, jcmp_lt, jcmp_gt, w32_id, jcpy_out, Sum.elim_inl, Sum.elim_inr, jt2, jt3, jt4, jt5, jt6, jt7, jt8] at c2
        obtain ⟨R, ns, LN, S1, KN, ST⟩ := nsI_c q1 (by omega)
        refine OK_if (fun c3 => ?_) (fun c3 => ?_)
        · skip
          try simp (disch := omega) only [jst_eq, jst_ne, jst_ni, jI_i, jcmp_lt, jcmp_gt, w32_id, jcpy_out, Sum.elim_inl, Sum.elim_inr, jt2, jt3, jt4, jt5, jt6, jt7, jt8] at c3
          obtain ⟨q, NB1, KK⟩ := Sx_nb S1 c1
          have O := chX_1 (tok_o B n q)
          rw [← NB1.2.1.2.1] at O
          have T1q : tO B n q = 1 := O.1.mpr c3
          have ER : R = .inr q := (KK.resolve_left (fun z => by omega)).1
          have X51 : h 441 3 = tS B n q := NB1.2.1.1
          refine OK_jlx (fun x51 ex51 => ?_)
          try simp (disch := omega) only [jst_eq, jst_ne, jst_ni, jI_i, jcmp_lt, jcmp_gt, w32_id, jcpy_out, Sum.elim_inl, Sum.elim_inr, jt2, jt3, jt4, jt5, jt6, jt7, jt8] at ex51
          refine OK_jb (vX13_is (B := B) (n := n) (A := A) (q := q) _ (by exact T1) (by exact NB1) (by exact nm_f O1)) (fun v53 r1 => ?_)
          try dsimp only [Sum.elim_inl, Sum.elim_inr, jt2, jt3, jt4, jt5, jt6, jt7, jt8] at r1
          have v1 := r1
          clear r1
          try simp (disch := omega) only [jst_eq, jst_ne, jst_ni, jI_i, jcmp_lt, jcmp_gt, w32_id, jcpy_out, Sum.elim_inl, Sum.elim_inr, jt2, jt3, jt4, jt5, jt6, jt7, jt8] at v1
          refine OK_if (fun c4 => ?_) (fun c4 => ?_)
          · skip
            try simp (disch := omega) only [jst_eq, jst_ne, jst_ni, jI_i, jcmp_lt, jcmp_gt, w32_id, jcpy_out, Sum.elim_inl, Sum.elim_inr, jt2, jt3, jt4, jt5, jt6, jt7, jt8] at c4
            have N1 : ¬ isN B n q 6 := fun z => by { rw [if_pos z] at v1; omega }
            refine OK_jb (vX13_is (B := B) (n := n) (A := A) (q := q) _ (by exact T1) (by exact NB1) (by exact nm_true O1)) (fun v56 r2 => ?_)
            try dsimp only [Sum.elim_inl, Sum.elim_inr, jt2, jt3, jt4, jt5, jt6, jt7, jt8] at r2
            have v2 := r2
            clear r2
            try simp (disch := omega) only [jst_eq, jst_ne, jst_ni, jI_i, jcmp_lt, jcmp_gt, w32_id, jcpy_out, Sum.elim_inl, Sum.elim_inr, jt2, jt3, jt4, jt5, jt6, jt7, jt8] at v2
            refine OK_if (fun c5 => ?_) (fun c5 => ?_)
            · skip
              try simp (disch := omega) only [jst_eq, jst_ne, jst_ni, jI_i, jcmp_lt, jcmp_gt, w32_id, jcpy_out, Sum.elim_inl, Sum.elim_inr, jt2, jt3, jt4, jt5, jt6, jt7, jt8] at c5
              have N2 : ¬ isN B n q 407354 := fun z => by { rw [if_pos z] at v2; omega }
              refine OK_jb (vX13_is (B := B) (n := n) (A := A) (q := q) _ (by exact T1) (by exact NB1) (by exact nm_false O1)) (fun v59 r3 => ?_)
              try dsimp only [Sum.elim_inl, Sum.elim_inr, jt2, jt3, jt4, jt5, jt6, jt7, jt8] at r3
              have v3 := r3
              clear r3
              try simp (disch := omega) only [jst_eq, jst_ne, jst_ni, jI_i, jcmp_lt, jcmp_gt, w32_id, jcpy_out, Sum.elim_inl, Sum.elim_inr, jt2, jt3, jt4, jt5, jt6, jt7, jt8] at v3
              refine OK_if (fun c6 => ?_) (fun c6 => ?_)
              · skip
                try simp (disch := omega) only [jst_eq, jst_ne, jst_ni, jI_i, jcmp_lt, jcmp_gt, w32_id, jcpy_out, Sum.elim_inl, Sum.elim_inr, jt2, jt3, jt4, jt5, jt6, jt7, jt8] at c6
                have N3 : ¬ isN B n q 3217595 := fun z => by { rw [if_pos z] at v3; omega }
                refine OK_jb (vX13_is (B := B) (n := n) (A := A) (q := q) _ (by exact T1) (by exact NB1) (by exact nm_error O1)) (fun v62 r4 => ?_)
                try dsimp only [Sum.elim_inl, Sum.elim_inr, jt2, jt3, jt4, jt5, jt6, jt7, jt8] at r4
                have v4 := r4
                clear r4
                try simp (disch := omega) only [jst_eq, jst_ne, jst_ni, jI_i, jcmp_lt, jcmp_gt, w32_id, jcpy_out, Sum.elim_inl, Sum.elim_inr, jt2, jt3, jt4, jt5, jt6, jt7, jt8] at v4
                refine OK_if (fun c7 => ?_) (fun c7 => ?_)
                · skip
                  try simp (disch := omega) only [jst_eq, jst_ne, jst_ni, jI_i, jcmp_lt, jcmp_gt, w32_id, jcpy_out, Sum.elim_inl, Sum.elim_inr, jt2, jt3, jt4, jt5, jt6, jt7, jt8] at c7
                  have N4 : ¬ isN B n q 3025044 := fun z => by { rw [if_pos z] at v4; omega }
                  have NB0 : ¬ badN B n q := fun z => by { rcases z with z | z | z | z; { exact N1 ⟨T1q, z⟩ }; { exact N2 ⟨T1q, z⟩ }; { exact N3 ⟨T1q, z⟩ }; { exact N4 ⟨T1q, z⟩ } }
                  refine OK_mono (vX13_law_j192_123 (B := B) (n := n) (A := A) (q := q) (ns := ns) _ _ _ _ (by exact T1) (by exact hB) (by exact ⟨NB1, T1q⟩) (by exact O1) (by exact q2) (by exact ⟨q0.1, by omega, LN⟩) (by (first | exact X51 | exact ex51.trans X51)) (by exact (KN q ER).1) (by exact ⟨Or.inl rfl, ⟨fun z => absurd z (by decide), fun z => absurd z NB0⟩⟩)) (fun r r5 => ?_)
                  rcases r with r | r
                  · skip
                    have r6 := r5; clear r5; dsimp only [Sum.elim_inl, Sum.elim_inr] at r6
                    obtain ⟨y1, y2⟩ := r
                    try dsimp only [Sum.elim_inl, Sum.elim_inr, jt2, jt3, jt4, jt5, jt6, jt7, jt8] at r6
                    obtain ⟨cc5, sx5, v5, ne5, fr5⟩ := r6
                    try simp (disch := omega) only [jst_eq, jst_ne, jst_ni, jI_i, jcmp_lt, jcmp_gt, w32_id, jcpy_out, Sum.elim_inl, Sum.elim_inr, jt2, jt3, jt4, jt5, jt6, jt7, jt8] at cc5
                    try simp (disch := omega) only [jst_eq, jst_ne, jst_ni, jI_i, jcmp_lt, jcmp_gt, w32_id, jcpy_out, Sum.elim_inl, Sum.elim_inr, jt2, jt3, jt4, jt5, jt6, jt7, jt8] at sx5
                    try simp (disch := omega) only [jst_eq, jst_ne, jst_ni, jI_i, jcmp_lt, jcmp_gt, w32_id, jcpy_out, Sum.elim_inl, Sum.elim_inr, jt2, jt3, jt4, jt5, jt6, jt7, jt8] at v5
                    try simp (disch := omega) only [jst_eq, jst_ne, jst_ni, jI_i, jcmp_lt, jcmp_gt, w32_id, jcpy_out, Sum.elim_inl, Sum.elim_inr, jt2, jt3, jt4, jt5, jt6, jt7, jt8] at ne5
                    try simp (disch := omega) only [jst_eq, jst_ne, jst_ni, jI_i, jcmp_lt, jcmp_gt, w32_id, jcpy_out, Sum.elim_inl, Sum.elim_inr, jt2, jt3, jt4, jt5, jt6, jt7, jt8] at fr5
                    try dsimp only [Sum.elim_inl, Sum.elim_inr, jt2, jt3, jt4, jt5, jt6, jt7, jt8]
                    refine ⟨?_, ?_⟩
                    · try dsimp only [Sum.elim_inl, Sum.elim_inr, jt2, jt3, jt4, jt5, jt6, jt7, jt8]
                      refine ⟨?_, ?_, ?_, ?_, ?_⟩
                      · (rw [cc5]; omega) -- o24 e2i.1
                      · (rw [cc5]; exact ST q _ ER T1q sx5.1 v5) -- o25 e2i.2
                      · exact sx5.2 -- o26 e2i.3
                      · exact ⟨_, (by rw [List.length_append, cc5]; show ((ns.length + 1 : Nat) : Int) = a4 + 1; omega), ne5⟩ -- o27 e2i.4
                      · exact fun b s y1 y2 => (fr5 b s y1 (by omega)).trans (fr b s y1 y2) -- o28 e2i.5
                    · (rw [cc5]; omega) -- o29 e2m
                  · skip
                    have r7 := r5; clear r5; dsimp only [Sum.elim_inl, Sum.elim_inr] at r7
                    obtain ⟨y3, y4⟩ := r
                    try dsimp only [Sum.elim_inl, Sum.elim_inr, jt2, jt3, jt4, jt5, jt6, jt7, jt8] at r7
                    have no6 := r7
                    clear r7
                    try simp (disch := omega) only [jst_eq, jst_ne, jst_ni, jI_i, jcmp_lt, jcmp_gt, w32_id, jcpy_out, Sum.elim_inl, Sum.elim_inr, jt2, jt3, jt4, jt5, jt6, jt7, jt8] at no6
                    try dsimp only [Sum.elim_inl, Sum.elim_inr, jt2, jt3, jt4, jt5, jt6, jt7, jt8]
                    exact absurd no6 (by decide) -- e3
                · skip
                  try simp (disch := omega) only [jst_eq, jst_ne, jst_ni, jI_i, jcmp_lt, jcmp_gt, w32_id, jcpy_out, Sum.elim_inl, Sum.elim_inr, jt2, jt3, jt4, jt5, jt6, jt7, jt8] at c7
                  have YB : badN B n q := Or.inr (Or.inr (Or.inr (Classical.byContradiction fun z => by { rw [if_neg z] at v4; omega } : isN B n q 3025044).2))
                  refine OK_mono (vX13_law_j192_123 (B := B) (n := n) (A := A) (q := q) (ns := ns) _ _ _ _ (by exact T1) (by exact hB) (by exact ⟨NB1, T1q⟩) (by exact O1) (by exact q2) (by exact ⟨q0.1, by omega, LN⟩) (by (first | exact X51 | exact ex51.trans X51)) (by exact (KN q ER).1) (by exact ⟨Or.inr rfl, ⟨fun _ => YB, fun _ => rfl⟩⟩)) (fun r r8 => ?_)
                  rcases r with r | r
                  · skip
                    have r9 := r8; clear r8; dsimp only [Sum.elim_inl, Sum.elim_inr] at r9
                    obtain ⟨y5, y6⟩ := r
                    try dsimp only [Sum.elim_inl, Sum.elim_inr, jt2, jt3, jt4, jt5, jt6, jt7, jt8] at r9
                    obtain ⟨cc7, sx7, v7, ne7, fr7⟩ := r9
                    try simp (disch := omega) only [jst_eq, jst_ne, jst_ni, jI_i, jcmp_lt, jcmp_gt, w32_id, jcpy_out, Sum.elim_inl, Sum.elim_inr, jt2, jt3, jt4, jt5, jt6, jt7, jt8] at cc7
                    try simp (disch := omega) only [jst_eq, jst_ne, jst_ni, jI_i, jcmp_lt, jcmp_gt, w32_id, jcpy_out, Sum.elim_inl, Sum.elim_inr, jt2, jt3, jt4, jt5, jt6, jt7, jt8] at sx7
                    try simp (disch := omega) only [jst_eq, jst_ne, jst_ni, jI_i, jcmp_lt, jcmp_gt, w32_id, jcpy_out, Sum.elim_inl, Sum.elim_inr, jt2, jt3, jt4, jt5, jt6, jt7, jt8] at v7
                    try simp (disch := omega) only [jst_eq, jst_ne, jst_ni, jI_i, jcmp_lt, jcmp_gt, w32_id, jcpy_out, Sum.elim_inl, Sum.elim_inr, jt2, jt3, jt4, jt5, jt6, jt7, jt8] at ne7
                    try simp (disch := omega) only [jst_eq, jst_ne, jst_ni, jI_i, jcmp_lt, jcmp_gt, w32_id, jcpy_out, Sum.elim_inl, Sum.elim_inr, jt2, jt3, jt4, jt5, jt6, jt7, jt8] at fr7
                    try dsimp only [Sum.elim_inl, Sum.elim_inr, jt2, jt3, jt4, jt5, jt6, jt7, jt8]
                    refine ⟨?_, ?_⟩
                    · try dsimp only [Sum.elim_inl, Sum.elim_inr, jt2, jt3, jt4, jt5, jt6, jt7, jt8]
                      refine ⟨?_, ?_, ?_, ?_, ?_⟩
                      · (rw [cc7]; omega) -- o39 e4i.1
                      · (rw [cc7]; exact ST q _ ER T1q sx7.1 v7) -- o40 e4i.2
                      · exact sx7.2 -- o41 e4i.3
                      · exact ⟨_, (by rw [List.length_append, cc7]; show ((ns.length + 1 : Nat) : Int) = a4 + 1; omega), ne7⟩ -- o42 e4i.4
                      · exact fun b s y1 y2 => (fr7 b s y1 (by omega)).trans (fr b s y1 y2) -- o43 e4i.5
                    · (rw [cc7]; omega) -- o44 e4m
                  · skip
                    have r10 := r8; clear r8; dsimp only [Sum.elim_inl, Sum.elim_inr] at r10
                    obtain ⟨y7, y8⟩ := r
                    try dsimp only [Sum.elim_inl, Sum.elim_inr, jt2, jt3, jt4, jt5, jt6, jt7, jt8] at r10
                    have no8 := r10
                    clear r10
                    try simp (disch := omega) only [jst_eq, jst_ne, jst_ni, jI_i, jcmp_lt, jcmp_gt, w32_id, jcpy_out, Sum.elim_inl, Sum.elim_inr, jt2, jt3, jt4, jt5, jt6, jt7, jt8] at no8
                    try dsimp only [Sum.elim_inl, Sum.elim_inr, jt2, jt3, jt4, jt5, jt6, jt7, jt8]
                    exact absurd no8 (by decide) -- e5
              · skip
                try simp (disch := omega) only [jst_eq, jst_ne, jst_ni, jI_i, jcmp_lt, jcmp_gt, w32_id, jcpy_out, Sum.elim_inl, Sum.elim_inr, jt2, jt3, jt4, jt5, jt6, jt7, jt8] at c6
                have YB : badN B n q := Or.inr (Or.inr (Or.inl (Classical.byContradiction fun z => by { rw [if_neg z] at v3; omega } : isN B n q 3217595).2))
                refine OK_mono (vX13_law_j192_123 (B := B) (n := n) (A := A) (q := q) (ns := ns) _ _ _ _ (by exact T1) (by exact hB) (by exact ⟨NB1, T1q⟩) (by exact O1) (by exact q2) (by exact ⟨q0.1, by omega, LN⟩) (by (first | exact X51 | exact ex51.trans X51)) (by exact (KN q ER).1) (by exact ⟨Or.inr rfl, ⟨fun _ => YB, fun _ => rfl⟩⟩)) (fun r r11 => ?_)
                rcases r with r | r
                · skip
                  have r12 := r11; clear r11; dsimp only [Sum.elim_inl, Sum.elim_inr] at r12
                  obtain ⟨y9, y10⟩ := r
                  try dsimp only [Sum.elim_inl, Sum.elim_inr, jt2, jt3, jt4, jt5, jt6, jt7, jt8] at r12
                  obtain ⟨cc9, sx9, v9, ne9, fr9⟩ := r12
                  try simp (disch := omega) only [jst_eq, jst_ne, jst_ni, jI_i, jcmp_lt, jcmp_gt, w32_id, jcpy_out, Sum.elim_inl, Sum.elim_inr, jt2, jt3, jt4, jt5, jt6, jt7, jt8] at cc9
                  try simp (disch := omega) only [jst_eq, jst_ne, jst_ni, jI_i, jcmp_lt, jcmp_gt, w32_id, jcpy_out, Sum.elim_inl, Sum.elim_inr, jt2, jt3, jt4, jt5, jt6, jt7, jt8] at sx9
                  try simp (disch := omega) only [jst_eq, jst_ne, jst_ni, jI_i, jcmp_lt, jcmp_gt, w32_id, jcpy_out, Sum.elim_inl, Sum.elim_inr, jt2, jt3, jt4, jt5, jt6, jt7, jt8] at v9
                  try simp (disch := omega) only [jst_eq, jst_ne, jst_ni, jI_i, jcmp_lt, jcmp_gt, w32_id, jcpy_out, Sum.elim_inl, Sum.elim_inr, jt2, jt3, jt4, jt5, jt6, jt7, jt8] at ne9
                  try simp (disch := omega) only [jst_eq, jst_ne, jst_ni, jI_i, jcmp_lt, jcmp_gt, w32_id, jcpy_out, Sum.elim_inl, Sum.elim_inr, jt2, jt3, jt4, jt5, jt6, jt7, jt8] at fr9
                  try dsimp only [Sum.elim_inl, Sum.elim_inr, jt2, jt3, jt4, jt5, jt6, jt7, jt8]
                  refine ⟨?_, ?_⟩
                  · try dsimp only [Sum.elim_inl, Sum.elim_inr, jt2, jt3, jt4, jt5, jt6, jt7, jt8]
                    refine ⟨?_, ?_, ?_, ?_, ?_⟩
                    · (rw [cc9]; omega) -- o54 e6i.1
                    · (rw [cc9]; exact ST q _ ER T1q sx9.1 v9) -- o55 e6i.2
                    · exact sx9.2 -- o56 e6i.3
                    · exact ⟨_, (by rw [List.length_append, cc9]; show ((ns.length + 1 : Nat) : Int) = a4 + 1; omega), ne9⟩ -- o57 e6i.4
                    · exact fun b s y1 y2 => (fr9 b s y1 (by omega)).trans (fr b s y1 y2) -- o58 e6i.5
                  · (rw [cc9]; omega) -- o59 e6m
                · skip
                  have r13 := r11; clear r11; dsimp only [Sum.elim_inl, Sum.elim_inr] at r13
                  obtain ⟨y11, y12⟩ := r
                  try dsimp only [Sum.elim_inl, Sum.elim_inr, jt2, jt3, jt4, jt5, jt6, jt7, jt8] at r13
                  have no10 := r13
                  clear r13
                  try simp (disch := omega) only [jst_eq, jst_ne, jst_ni, jI_i, jcmp_lt, jcmp_gt, w32_id, jcpy_out, Sum.elim_inl, Sum.elim_inr, jt2, jt3, jt4, jt5, jt6, jt7, jt8] at no10
                  try dsimp only [Sum.elim_inl, Sum.elim_inr, jt2, jt3, jt4, jt5, jt6, jt7, jt8]
                  exact absurd no10 (by decide) -- e7
            · skip
              try simp (disch := omega) only [jst_eq, jst_ne, jst_ni, jI_i, jcmp_lt, jcmp_gt, w32_id, jcpy_out, Sum.elim_inl, Sum.elim_inr, jt2, jt3, jt4, jt5, jt6, jt7, jt8] at c5
              have YB : badN B n q := Or.inr (Or.inl (Classical.byContradiction fun z => by { rw [if_neg z] at v2; omega } : isN B n q 407354).2)
              refine OK_mono (vX13_law_j192_123 (B := B) (n := n) (A := A) (q := q) (ns := ns) _ _ _ _ (by exact T1) (by exact hB) (by exact ⟨NB1, T1q⟩) (by exact O1) (by exact q2) (by exact ⟨q0.1, by omega, LN⟩) (by (first | exact X51 | exact ex51.trans X51)) (by exact (KN q ER).1) (by exact ⟨Or.inr rfl, ⟨fun _ => YB, fun _ => rfl⟩⟩)) (fun r r14 => ?_)
              rcases r with r | r
              · skip
                have r15 := r14; clear r14; dsimp only [Sum.elim_inl, Sum.elim_inr] at r15
                obtain ⟨y13, y14⟩ := r
                try dsimp only [Sum.elim_inl, Sum.elim_inr, jt2, jt3, jt4, jt5, jt6, jt7, jt8] at r15
                obtain ⟨cc11, sx11, v11, ne11, fr11⟩ := r15
                try simp (disch := omega) only [jst_eq, jst_ne, jst_ni, jI_i, jcmp_lt, jcmp_gt, w32_id, jcpy_out, Sum.elim_inl, Sum.elim_inr, jt2, jt3, jt4, jt5, jt6, jt7, jt8] at cc11
                try simp (disch := omega) only [jst_eq, jst_ne, jst_ni, jI_i, jcmp_lt, jcmp_gt, w32_id, jcpy_out, Sum.elim_inl, Sum.elim_inr, jt2, jt3, jt4, jt5, jt6, jt7, jt8] at sx11
                try simp (disch := omega) only [jst_eq, jst_ne, jst_ni, jI_i, jcmp_lt, jcmp_gt, w32_id, jcpy_out, Sum.elim_inl, Sum.elim_inr, jt2, jt3, jt4, jt5, jt6, jt7, jt8] at v11
                try simp (disch := omega) only [jst_eq, jst_ne, jst_ni, jI_i, jcmp_lt, jcmp_gt, w32_id, jcpy_out, Sum.elim_inl, Sum.elim_inr, jt2, jt3, jt4, jt5, jt6, jt7, jt8] at ne11
                try simp (disch := omega) only [jst_eq, jst_ne, jst_ni, jI_i, jcmp_lt, jcmp_gt, w32_id, jcpy_out, Sum.elim_inl, Sum.elim_inr, jt2, jt3, jt4, jt5, jt6, jt7, jt8] at fr11
                try dsimp only [Sum.elim_inl, Sum.elim_inr, jt2, jt3, jt4, jt5, jt6, jt7, jt8]
                refine ⟨?_, ?_⟩
                · try dsimp only [Sum.elim_inl, Sum.elim_inr, jt2, jt3, jt4, jt5, jt6, jt7, jt8]
                  refine ⟨?_, ?_, ?_, ?_, ?_⟩
                  · (rw [cc11]; omega) -- o69 e8i.1
                  · (rw [cc11]; exact ST q _ ER T1q sx11.1 v11) -- o70 e8i.2
                  · exact sx11.2 -- o71 e8i.3
                  · exact ⟨_, (by rw [List.length_append, cc11]; show ((ns.length + 1 : Nat) : Int) = a4 + 1; omega), ne11⟩ -- o72 e8i.4
                  · exact fun b s y1 y2 => (fr11 b s y1 (by omega)).trans (fr b s y1 y2) -- o73 e8i.5
                · (rw [cc11]; omega) -- o74 e8m
              · skip
                have r16 := r14; clear r14; dsimp only [Sum.elim_inl, Sum.elim_inr] at r16
                obtain ⟨y15, y16⟩ := r
                try dsimp only [Sum.elim_inl, Sum.elim_inr, jt2, jt3, jt4, jt5, jt6, jt7, jt8] at r16
                have no12 := r16
                clear r16
                try simp (disch := omega) only [jst_eq, jst_ne, jst_ni, jI_i, jcmp_lt, jcmp_gt, w32_id, jcpy_out, Sum.elim_inl, Sum.elim_inr, jt2, jt3, jt4, jt5, jt6, jt7, jt8] at no12
                try dsimp only [Sum.elim_inl, Sum.elim_inr, jt2, jt3, jt4, jt5, jt6, jt7, jt8]
                exact absurd no12 (by decide) -- e9
          · skip
            try simp (disch := omega) only [jst_eq, jst_ne, jst_ni, jI_i, jcmp_lt, jcmp_gt, w32_id, jcpy_out, Sum.elim_inl, Sum.elim_inr, jt2, jt3, jt4, jt5, jt6, jt7, jt8] at c4
            have YB : badN B n q := Or.inl (Classical.byContradiction fun z => by { rw [if_neg z] at v1; omega } : isN B n q 6).2
            refine OK_mono (vX13_law_j192_123 (B := B) (n := n) (A := A) (q := q) (ns := ns) _ _ _ _ (by exact T1) (by exact hB) (by exact ⟨NB1, T1q⟩) (by exact O1) (by exact q2) (by exact ⟨q0.1, by omega, LN⟩) (by (first | exact X51 | exact ex51.trans X51)) (by exact (KN q ER).1) (by exact ⟨Or.inr rfl, ⟨fun _ => YB, fun _ => rfl⟩⟩)) (fun r r17 => ?_)
            rcases r with r | r
            · skip
              have r18 := r17; clear r17; dsimp only [Sum.elim_inl, Sum.elim_inr] at r18
              obtain ⟨y17, y18⟩ := r
              try dsimp only [Sum.elim_inl, Sum.elim_inr, jt2, jt3, jt4, jt5, jt6, jt7, jt8] at r18
              obtain ⟨cc13, sx13, v13, ne13, fr13⟩ := r18
              try simp (disch := omega) only [jst_eq, jst_ne, jst_ni, jI_i, jcmp_lt, jcmp_gt, w32_id, jcpy_out, Sum.elim_inl, Sum.elim_inr, jt2, jt3, jt4, jt5, jt6, jt7, jt8] at cc13
              try simp (disch := omega) only [jst_eq, jst_ne, jst_ni, jI_i, jcmp_lt, jcmp_gt, w32_id, jcpy_out, Sum.elim_inl, Sum.elim_inr, jt2, jt3, jt4, jt5, jt6, jt7, jt8] at sx13
              try simp (disch := omega) only [jst_eq, jst_ne, jst_ni, jI_i, jcmp_lt, jcmp_gt, w32_id, jcpy_out, Sum.elim_inl, Sum.elim_inr, jt2, jt3, jt4, jt5, jt6, jt7, jt8] at v13
              try simp (disch := omega) only [jst_eq, jst_ne, jst_ni, jI_i, jcmp_lt, jcmp_gt, w32_id, jcpy_out, Sum.elim_inl, Sum.elim_inr, jt2, jt3, jt4, jt5, jt6, jt7, jt8] at ne13
              try simp (disch := omega) only [jst_eq, jst_ne, jst_ni, jI_i, jcmp_lt, jcmp_gt, w32_id, jcpy_out, Sum.elim_inl, Sum.elim_inr, jt2, jt3, jt4, jt5, jt6, jt7, jt8] at fr13
              try dsimp only [Sum.elim_inl, Sum.elim_inr, jt2, jt3, jt4, jt5, jt6, jt7, jt8]
              refine ⟨?_, ?_⟩
              · try dsimp only [Sum.elim_inl, Sum.elim_inr, jt2, jt3, jt4, jt5, jt6, jt7, jt8]
                refine ⟨?_, ?_, ?_, ?_, ?_⟩
                · (rw [cc13]; omega) -- o84 e10i.1
                · (rw [cc13]; exact ST q _ ER T1q sx13.1 v13) -- o85 e10i.2
                · exact sx13.2 -- o86 e10i.3
                · exact ⟨_, (by rw [List.length_append, cc13]; show ((ns.length + 1 : Nat) : Int) = a4 + 1; omega), ne13⟩ -- o87 e10i.4
                · exact fun b s y1 y2 => (fr13 b s y1 (by omega)).trans (fr b s y1 y2) -- o88 e10i.5
              · (rw [cc13]; omega) -- o89 e10m
            · skip
              have r19 := r17; clear r17; dsimp only [Sum.elim_inl, Sum.elim_inr] at r19
              obtain ⟨y19, y20⟩ := r
              try dsimp only [Sum.elim_inl, Sum.elim_inr, jt2, jt3, jt4, jt5, jt6, jt7, jt8] at r19
              have no14 := r19
              clear r19
              try simp (disch := omega) only [jst_eq, jst_ne, jst_ni, jI_i, jcmp_lt, jcmp_gt, w32_id, jcpy_out, Sum.elim_inl, Sum.elim_inr, jt2, jt3, jt4, jt5, jt6, jt7, jt8] at no14
              try dsimp only [Sum.elim_inl, Sum.elim_inr, jt2, jt3, jt4, jt5, jt6, jt7, jt8]
              exact absurd no14 (by decide) -- e11
        · skip
          try simp (disch := omega) only [jst_eq, jst_ne, jst_ni, jI_i, jcmp_lt, jcmp_gt, w32_id, jcpy_out, Sum.elim_inl, Sum.elim_inr, jt2, jt3, jt4, jt5, jt6, jt7, jt8] at c3
          refine OK_ir ?_
          try dsimp only [Sum.elim_inl, Sum.elim_inr, jt2, jt3, jt4, jt5, jt6, jt7, jt8]
          refine ⟨?_, ?_⟩
          · exact ⟨nsI_x q1 (Or.inr (Or.inr c3)), q2, q3, q0⟩ -- o90 e12.1
          · exact fr -- o91 e12.2
    · skip
      try simp (disch := omega) only [jst_eq, jst_ne, jst_ni, jI_i, jcmp_lt, jcmp_gt, w32_id, jcpy_out, Sum.elim_inl, Sum.elim_inr, jt2, jt3, jt4, jt5, jt6, jt7, jt8] at c1
      refine OK_ir ?_
      try dsimp only [Sum.elim_inl, Sum.elim_inr, jt2, jt3, jt4, jt5, jt6, jt7, jt8]
      refine ⟨?_, ?_⟩
      · exact ⟨nsI_x q1 (Or.inr (Or.inl c1)), q2, q3, q0⟩ -- o92 e13.1
      · exact fr -- o93 e13.2
  · try dsimp only [Sum.elim_inl, Sum.elim_inr, jt2, jt3, jt4, jt5, jt6, jt7, jt8]
    refine ⟨?_, ?_, ?_, ?_, ?_⟩
    · (first | assumption | omega | ((try dsimp only [jt2, jt3, jt4]); first | omega | (simp (disch := omega) only [jst_eq, jst_ne, jst_ni, jst_o, jI_i, jcpy_out, w32_id, jdiv_nn, jshr_k, jand_255] <;> first | done | omega | assumption)) | (intros; simp (disch := omega) only [jst_eq, jst_ne, jst_ni, jst_o, jI_i, jcpy_out, w32_id, jdiv_nn, *] <;> first | done | omega) | (intros; simp (disch := omega) only [jst_eq, jst_ne, jst_ni, jst_o, jI_i, jcpy_out, w32_id, jdiv_nn] at * <;> first | done | omega | assumption) | (intros; first | rfl | (exfalso; omega) | ((repeat' apply And.intro) <;> first | assumption | rfl | omega | trivial))) -- o94 init.1
    · exact Or.inl ⟨h1, sx, kk⟩ -- o95 init.2
    · exact f -- o96 init.3
    · exact ⟨[], h1.symm, fun k p e => by cases e⟩ -- o97 init.4
    · (first | assumption | omega | ((try dsimp only [jt2, jt3, jt4]); first | omega | (simp (disch := omega) only [jst_eq, jst_ne, jst_ni, jst_o, jI_i, jcpy_out, w32_id, jdiv_nn, jshr_k, jand_255] <;> first | done | omega | assumption)) | (intros; simp (disch := omega) only [jst_eq, jst_ne, jst_ni, jst_o, jI_i, jcpy_out, w32_id, jdiv_nn, *] <;> first | done | omega) | (intros; simp (disch := omega) only [jst_eq, jst_ne, jst_ni, jst_o, jI_i, jcpy_out, w32_id, jdiv_nn] at * <;> first | done | omega | assumption) | (intros; first | rfl | (exfalso; omega) | ((repeat' apply And.intro) <;> first | assumption | rfl | omega | trivial))) -- o98 init.5

