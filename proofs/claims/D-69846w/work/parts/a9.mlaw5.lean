/-! m: a law, whole -/
theorem frLW_n {a m N D : Int} {h h1 h2 : AH} (x : frNm h h1) (y : frLW a m N D h1 h2) : frLW a m N D h h2 := fun b s y1 y2 y3 y4 y5 y6 y7 y8 => (y b s y1 y2 y3 y4 y5 y6 y7 y8).trans (x b s (by omega) y2 y5)
theorem vX14_law_j75 (a1 : Int) (a3 : Int) (a4 : Int) {h : AH} {B : Int → Int} {n q la i m N D : Int} {ks : List Int} {E : EV} {Rf : Int → TR} (hB : ∀ i, 0 ≤ i → i < n → 0 ≤ B i ∧ B i < 256) (lr : lmR B n a1 ks la i m E Rf h) (ms : MS B n q h) (rm : (a4 = 0 ∨ a4 = 1) ∧ (a4 = 1 → m < 4 ∧ a3 = m)) (w2 : h 454 17 = N ∧ 0 ≤ D ∧ D ≤ 1100 ∧ D ≤ N ∧ 2 * (N - D) ≤ q ∧ m ≤ 4000 ∧ tO B n q ≠ 0) : OK (gX14_law_j75 a1 a3 a4 h) (fun r => jt2 r fun t h' => (lmG B n a1 ks la i m E Rf a4 N D (fun r => min (MK h) (lwK0 B n E ks la r)) (pLaw B n q) t h') ∧ (frLW a1 m N D h h')) := by
  have LA : a1 = 476 ∨ a1 = 615 := lr.1.2.2.1
  have n2 := lr.1.1.2.2.1
  have qb := ms.2
  have x12 := lr.2.1
  have mr := MK_r lr.1.2.1
  have W0 : pLaw B n q = bS (nx B n q) fun q1 => bS (pNs B n q1) fun x => pLw B n x.1 x.2 := rfl
  unfold gX14_law_j75
  refine OK_jb2 (vX14_nextS (B := B) (n := n) (by exact lr.1.1) (by exact hB) (by exact ms)) (fun t14 h16 r1 => ?_)
  try dsimp only [Sum.elim_inl, Sum.elim_inr, jt2, jt3, jt4, jt5, jt6, jt7, jt8] at r1
  obtain ⟨nx1, fr1⟩ := r1
  try simp (disch := omega) only [jst_eq, jst_ne, jst_ni, jI_i, jcmp_lt, jcmp_gt, w32_id, jcpy_out, Sum.elim_inl, Sum.elim_inr, jt2, jt3, jt4, jt5, jt6, jt7, jt8] at nx1
  try simp (disch := omega) only [jst_eq, jst_ne, jst_ni, jI_i, jcmp_lt, jcmp_gt, w32_id, jcpy_out, Sum.elim_inl, Sum.elim_inr, jt2, jt3, jt4, jt5, jt6, jt7, jt8] at fr1
  refine OK_jq (fun c1 => ?_) (fun c1 => ?_)
  · skip
    refine OK_some ?_
    try dsimp only [Sum.elim_inl, Sum.elim_inr, jt2, jt3, jt4, jt5, jt6, jt7, jt8]
    try dsimp only [Sum.elim_inl, Sum.elim_inr, jt2, jt3, jt4, jt5, jt6, jt7, jt8]
    refine ⟨?_, ?_⟩
    · (obtain ⟨z, e, t1, mf⟩ := rM_l nx1 c1; rw [W0, e]; exact ⟨t1, mf⟩) -- o4 e1.1
    · exact fun b s y1 y2 _ _ _ _ _ _ => fr1 b s (by omega) y2 -- o5 e1.2
  · skip
    obtain ⟨q1, e1, ms1⟩ := rM_r nx1 c1
    have L1 := (nx_r hB qb.2.1 qb.2.2 qb.1 w2.2.2.2.2.2.2 e1).2
    refine OK_jl ?_
    have F18 : ∀ b s, ¬ (b = 454 ∧ s = 34) → jst h16 454 34 0 b s = h16 b s := fun b s y => jst_o y
    have V18 : jst h16 454 34 0 454 34 = 0 := jst_eq
    generalize jst h16 454 34 0 = g18 at *
    have G : frNm h g18 := fun b s y1 y2 _ => (F18 b s (by omega)).trans (fr1 b s (by omega) y2)
    have I18 : MI g18 := MI_fr ((F18 _ _ (by omega)).trans (fr1 _ _ (by omega) (by omega))) ((F18 _ _ (by omega)).trans (fr1 _ _ (by omega) (by omega))) lr.1.2.1
    have K18 : MK g18 = MK h := MK_fr ((F18 _ _ (by omega)).trans (fr1 _ _ (by omega) (by omega))) ((F18 _ _ (by omega)).trans (fr1 _ _ (by omega) (by omega)))
    refine OK_jb (vX14_law_l84 (B := B) (n := n) (K := MK h) (q0 := q1) (WV := pNs B n q1) _ _ _ (by exact hB) (by exact TM_fr lr.1.1 ((F18 _ _ (by omega)).trans (fr1 _ _ (by omega) (by omega))) (fun s => (F18 _ _ (by omega)).trans (fr1 _ _ (by omega) (by omega)))) (by exact ⟨[], q1, ⟨V18, by decide, fun k p e => by cases e⟩, MS_fr ms1 (fun s s0 s1 => F18 _ _ (by omega)), by decide, rfl, I18, by rw [K18]; show MK h = min (MK h) 1000000; omega, Int.le_refl _⟩)) (fun o19 r2 => ?_)
    rcases o19 with o21 | o22
    · skip
      have r3 := r2; clear r2
      dsimp only [Sum.elim_inl, Sum.elim_inr] at r3
      try dsimp only [Sum.elim_inl, Sum.elim_inr, jt2, jt3, jt4, jt5, jt6, jt7, jt8] at r3
      obtain ⟨ok2, fr2⟩ := r3
      try simp (disch := omega) only [jst_eq, jst_ne, jst_ni, jI_i, jcmp_lt, jcmp_gt, w32_id, jcpy_out, Sum.elim_inl, Sum.elim_inr, jt2, jt3, jt4, jt5, jt6, jt7, jt8] at ok2
      try simp (disch := omega) only [jst_eq, jst_ne, jst_ni, jI_i, jcmp_lt, jcmp_gt, w32_id, jcpy_out, Sum.elim_inl, Sum.elim_inr, jt2, jt3, jt4, jt5, jt6, jt7, jt8] at fr2
      refine OK_jml ?_
      obtain ⟨ns, q2, e2, nm2, ms2, mi2, mk2, le2⟩ := ok2
      have GA : frNm h o21 := frNm_t G fr2
      have LR2 : lmR B n a1 ks la i m E Rf o21 := lmR_f lr (fun b s y => by (unfold lmC at y; exact GA b s (by omega) (by omega) (by omega))) mi2 ⟨(GA _ _ (by omega) (by omega) (by omega)).trans lr.1.2.2.2.2.2.1.1, lr.1.2.2.2.2.2.1.2⟩ ⟨(GA _ _ (by omega) (by omega) (by omega)).trans x12.1, x12.2⟩ (by rw [GA _ _ (by omega) (by omega) (by omega)]; exact lr.1.2.2.2.2.2.2)
      have W2 : pLaw B n q = pLw B n ns q2 := by { rw [W0, e1]; show bS (pNs B n q1) _ = _; rw [e2]; rfl }
      refine OK_mono (vX14_law_j223 (B := B) (n := n) (q := q2) (la := la) (i := i) (m := m) (N := N) (D := D) (ks := ks) (E := E) (Rf := Rf) (ns := ns) _ _ _ (by exact hB) (by exact LR2) (by exact ms2) (by exact nm2) (by exact rm) (by exact ⟨(GA _ _ (by omega) (by omega) (by omega)).trans w2.1, w2.2.1, w2.2.2.1, w2.2.2.2.1, by omega, w2.2.2.2.2.2.1⟩)) (fun r r4 => ?_)
      obtain ⟨y1, y2⟩ := r
      try dsimp only [Sum.elim_inl, Sum.elim_inr, jt2, jt3, jt4, jt5, jt6, jt7, jt8] at r4
      obtain ⟨ok3, fr3⟩ := r4
      try simp (disch := omega) only [jst_eq, jst_ne, jst_ni, jI_i, jcmp_lt, jcmp_gt, w32_id, jcpy_out, Sum.elim_inl, Sum.elim_inr, jt2, jt3, jt4, jt5, jt6, jt7, jt8] at ok3
      try simp (disch := omega) only [jst_eq, jst_ne, jst_ni, jI_i, jcmp_lt, jcmp_gt, w32_id, jcpy_out, Sum.elim_inl, Sum.elim_inr, jt2, jt3, jt4, jt5, jt6, jt7, jt8] at fr3
      try dsimp only [Sum.elim_inl, Sum.elim_inr, jt2, jt3, jt4, jt5, jt6, jt7, jt8]
      try dsimp only [Sum.elim_inl, Sum.elim_inr, jt2, jt3, jt4, jt5, jt6, jt7, jt8]
      refine ⟨?_, ?_⟩
      · (rw [W2]; refine lmG_k (fun r q' w => ?_) ok3; have rn : r.1 = ns := (pLw_ns (R := .inr q2) w).1; rw [mk2]; unfold lwK0; rw [rn, Int.min_assoc]) -- o15 e2.1
      · exact frLW_n GA fr3 -- o16 e2.2
    · skip
      have r5 := r2; clear r2
      dsimp only [Sum.elim_inl, Sum.elim_inr] at r5
      refine OK_jmr ?_
      obtain ⟨y23, h24⟩ := o22
      refine OK_jt2 ?_
      try dsimp only [Sum.elim_inl, Sum.elim_inr, jt2, jt3, jt4, jt5, jt6, jt7, jt8] at r5
      obtain ⟨ok4, fr4⟩ := r5
      try simp (disch := omega) only [jst_eq, jst_ne, jst_ni, jI_i, jcmp_lt, jcmp_gt, w32_id, jcpy_out, Sum.elim_inl, Sum.elim_inr, jt2, jt3, jt4, jt5, jt6, jt7, jt8] at ok4
      try simp (disch := omega) only [jst_eq, jst_ne, jst_ni, jI_i, jcmp_lt, jcmp_gt, w32_id, jcpy_out, Sum.elim_inl, Sum.elim_inr, jt2, jt3, jt4, jt5, jt6, jt7, jt8] at fr4
      refine OK_jg (by (first | assumption | omega | ((try dsimp only [jt2, jt3, jt4]); first | omega | (simp (disch := omega) only [jst_eq, jst_ne, jst_ni, jst_o, jI_i, jcpy_out, w32_id, jdiv_nn, jshr_k, jand_255] <;> first | done | omega | assumption)) | (intros; simp (disch := omega) only [jst_eq, jst_ne, jst_ni, jst_o, jI_i, jcpy_out, w32_id, jdiv_nn, *] <;> first | done | omega) | (intros; simp (disch := omega) only [jst_eq, jst_ne, jst_ni, jst_o, jI_i, jcpy_out, w32_id, jdiv_nn] at * <;> first | done | omega | assumption) | (intros; first | rfl | (exfalso; omega) | ((repeat' apply And.intro) <;> first | assumption | rfl | omega | trivial)))) ?_ -- o17
      refine OK_some ?_
      try dsimp only [Sum.elim_inl, Sum.elim_inr, jt2, jt3, jt4, jt5, jt6, jt7, jt8]
      try dsimp only [Sum.elim_inl, Sum.elim_inr, jt2, jt3, jt4, jt5, jt6, jt7, jt8]
      refine ⟨?_, ?_⟩
      · (obtain ⟨z, e, t1, mf⟩ := ok4; have W2 : pLaw B n q = .inl z := (by rw [W0, e1]; show bS (pNs B n q1) _ = _; rw [e]; rfl); rw [W2]; exact ⟨t1, mf⟩) -- o18 e3.1
      · exact fun b s y1 y2 _ _ y5 _ _ _ => (fr4 b s (by omega) y2 y5).trans (G b s (by omega) y2 y5) -- o19 e3.2
theorem frLW_30 {a m N D : Int} {h h1 h2 : AH} (x : ∀ b s, ¬ (b = 454 ∧ (s = 30 ∨ s = 31)) → h1 b s = h b s) (y : frLW a m N D h1 h2) : frLW a m N D h h2 := fun b s y1 y2 y3 y4 y5 y6 y7 y8 => (y b s y1 y2 y3 y4 y5 y6 y7 y8).trans (x b s (by omega))
theorem lmR_30 {B : Int → Int} {n a : Int} {ks : List Int} {la i m : Int} {E : EV} {Rf : Int → TR} {h h' : AH} (x : lmR B n a ks la i m E Rf h) (f : ∀ b s, ¬ (b = 454 ∧ (s = 30 ∨ s = 31)) → h' b s = h b s) (mi : MI h') : lmR B n a ks la i m E Rf h' := by
  have LA : a = 476 ∨ a = 615 := x.1.2.2.1
  exact lmR_f x (fun b s y => by (unfold lmC at y; exact f b s (by omega))) mi ⟨(f _ _ (by omega)).trans x.1.2.2.2.2.2.1.1, x.1.2.2.2.2.2.1.2⟩ ⟨(f _ _ (by omega)).trans x.2.1.1, x.2.1.2⟩ (by rw [f _ _ (by omega)]; exact x.1.2.2.2.2.2.2)
theorem vX14_law_j68 (a1 : Int) (a2 : Int) (a3 : Int) (a4 : Int) {h : AH} {B : Int → Int} {n q la i m N D : Int} {ks : List Int} {E : EV} {Rf : Int → TR} (hB : ∀ i, 0 ≤ i → i < n → 0 ≤ B i ∧ B i < 256) (lr : lmR B n a1 ks la i m E Rf h) (ms : MS B n q h) (rm : (a4 = 0 ∨ a4 = 1) ∧ (a4 = 1 → m < 4 ∧ a3 = m)) (w2 : h 454 17 = N ∧ 0 ≤ D ∧ D ≤ 1100 ∧ D ≤ N ∧ 2 * (N - D) ≤ q ∧ m ≤ 4000 ∧ tO B n q ≠ 0) (a2e : a2 = tS B n q) : OK (gX14_law_j68 a1 a2 a3 a4 h) (fun r => jt2 r fun t h' => (lmG B n a1 ks la i m E Rf a4 N D (fun r => min (min (MK h) (a2 * 8 + 6)) (lwK0 B n E ks la r)) (pLaw B n q) t h') ∧ (frLW a1 m N D h h')) := by
  have SR := tS_r (B := B) ms.2.2.2
  have qb := ms.2
  have n2 := lr.1.1.2.2.1
  unfold gX14_law_j68
  refine OK_jb (vX14_note _ _ (by exact lr.1.2.1) (by omega)) (fun h102 r1 => ?_)
  try dsimp only [Sum.elim_inl, Sum.elim_inr, jt2, jt3, jt4, jt5, jt6, jt7, jt8] at r1
  obtain ⟨m1, k1, fr1⟩ := r1
  try simp (disch := omega) only [jst_eq, jst_ne, jst_ni, jI_i, jcmp_lt, jcmp_gt, w32_id, jcpy_out, Sum.elim_inl, Sum.elim_inr, jt2, jt3, jt4, jt5, jt6, jt7, jt8] at m1
  try simp (disch := omega) only [jst_eq, jst_ne, jst_ni, jI_i, jcmp_lt, jcmp_gt, w32_id, jcpy_out, Sum.elim_inl, Sum.elim_inr, jt2, jt3, jt4, jt5, jt6, jt7, jt8] at k1
  try simp (disch := omega) only [jst_eq, jst_ne, jst_ni, jI_i, jcmp_lt, jcmp_gt, w32_id, jcpy_out, Sum.elim_inl, Sum.elim_inr, jt2, jt3, jt4, jt5, jt6, jt7, jt8] at fr1
  refine OK_mono (vX14_law_j75 (B := B) (n := n) (q := q) (la := la) (i := i) (m := m) (N := N) (D := D) (ks := ks) (E := E) (Rf := Rf) _ _ _ (by exact hB) (by exact lmR_30 lr fr1 m1) (by exact MS_fr ms (fun s s0 s1 => fr1 _ _ (by omega))) (by exact rm) (by (rw [fr1 _ _ (by omega)]; exact w2))) (fun r r2 => ?_)
  obtain ⟨y1, y2⟩ := r
  try dsimp only [Sum.elim_inl, Sum.elim_inr, jt2, jt3, jt4, jt5, jt6, jt7, jt8] at r2
  obtain ⟨ok2, fr2⟩ := r2
  try simp (disch := omega) only [jst_eq, jst_ne, jst_ni, jI_i, jcmp_lt, jcmp_gt, w32_id, jcpy_out, Sum.elim_inl, Sum.elim_inr, jt2, jt3, jt4, jt5, jt6, jt7, jt8] at ok2
  try simp (disch := omega) only [jst_eq, jst_ne, jst_ni, jI_i, jcmp_lt, jcmp_gt, w32_id, jcpy_out, Sum.elim_inl, Sum.elim_inr, jt2, jt3, jt4, jt5, jt6, jt7, jt8] at fr2
  try dsimp only [Sum.elim_inl, Sum.elim_inr, jt2, jt3, jt4, jt5, jt6, jt7, jt8]
  try dsimp only [Sum.elim_inl, Sum.elim_inr, jt2, jt3, jt4, jt5, jt6, jt7, jt8]
  refine ⟨?_, ?_⟩
  · (rw [k1] at ok2; exact ok2) -- o8 e1.1
  · exact frLW_30 fr1 fr2 -- o9 e1.2
theorem rwT_pt {ks : List Int} (l1 : 1 ≤ ks.length) (l3 : ks.length ≤ 3) (r : ∀ k, 0 ≤ k → k < (ks.length : Int) → 0 ≤ kL ks k ∧ kL ks k ≤ 2) (n2 : ¬ 2 ∈ ks) : rwT (kL ks) ks.length = ptN ks := by
  have r01 : ∀ k : Nat, k < ks.length → kL ks k = 0 ∨ kL ks k = 1 := fun k kl => by
    have y := r k (by omega) (by omega)
    have z : kL ks k ≠ 2 := fun e => n2 (by
      unfold kL at e
      rw [show ((k : Nat) : Int).toNat = k by omega, List.getD_eq_getElem?_getD, List.getElem?_eq_getElem kl] at e
      have e' : ks[k] = 2 := e
      rw [← e']; exact List.getElem_mem kl)
    omega
  match ks, l1, l3, r01 with
  | [a], _, _, r01 =>
    have a0 : a = 0 ∨ a = 1 := r01 0 (show 0 < _ + 1 from Nat.succ_pos _)
    rcases a0 with rfl | rfl <;> decide
  | [a, b], _, _, r01 =>
    have a0 : a = 0 ∨ a = 1 := r01 0 (show 0 < _ + 1 from Nat.succ_pos _)
    have b0 : b = 0 ∨ b = 1 := r01 1 (show 1 < _ + 2 from by omega)
    rcases a0 with rfl | rfl <;> rcases b0 with rfl | rfl <;> decide
  | [a, b, c], _, _, r01 =>
    have a0 : a = 0 ∨ a = 1 := r01 0 (show 0 < _ + 1 from Nat.succ_pos _)
    have b0 : b = 0 ∨ b = 1 := r01 1 (show 1 < _ + 2 from by omega)
    have c0 : c = 0 ∨ c = 1 := r01 2 (show 2 < _ + 3 from by omega)
    rcases a0 with rfl | rfl <;> rcases b0 with rfl | rfl <;> rcases c0 with rfl | rfl <;> decide
theorem vX14_law_j41 (a1 : Int) (a2 : Int) (a3 : Int) (t0 : Int) {h : AH} {B : Int → Int} {n q la i m N D : Int} {ks : List Int} {E : EV} {Rf : Int → TR} (hB : ∀ i, 0 ≤ i → i < n → 0 ≤ B i ∧ B i < 256) (lr : lmR B n a1 ks la i m E Rf h) (ms : MS B n q h) (rm : (t0 = 0 ∨ t0 = 1) ∧ (t0 = 1 → m < 4 ∧ a3 = m)) (w2 : h 454 17 = N ∧ 0 ≤ D ∧ D ≤ 1100 ∧ D ≤ N ∧ 2 * (N - D) ≤ q ∧ m ≤ 4000 ∧ tO B n q ≠ 0) (a2e : a2 = tS B n q) (ar : h (a1 + 1) (-2) = 101 ∧ h (a1 + 1) (-1) = 3) : OK (gX14_law_j41 a1 a2 a3 t0 h) (fun r => jt2 r fun t h' => (lmG B n a1 ks la i m E Rf t0 N D (fun r => min (min (MK h) (cif (lw6 ks la) (a2 * 8 + 6) 1000000)) (lwK0 B n E ks la r)) (pLaw B n q) t h') ∧ (frLW a1 m N D h h')) := by
  obtain ⟨x1, x2, x3, ⟨x4, x5, x6, x7⟩, x8, x9⟩ := lr.1
  have LA : a1 = 476 ∨ a1 = 615 := x3
  have mr := MK_r x2
  have FK : ∀ (W : Int ⊕ (LWt × Int)) (t : Int) (h' : AH) (K : Int), K = min (MK h) (cif (lw6 ks la) (a2 * 8 + 6) 1000000) → lmG B n a1 ks la i m E Rf t0 N D (fun r => min K (lwK0 B n E ks la r)) W t h' → lmG B n a1 ks la i m E Rf t0 N D (fun r => min (min (MK h) (cif (lw6 ks la) (a2 * 8 + 6) 1000000)) (lwK0 B n E ks la r)) W t h' := fun W t h' K e o => lmG_k (fun r q _ => by rw [e]) o
  unfold gX14_law_j41
  refine OK_jb (vX14_hasWords (ks := ks) (la := la) _ (by exact ⟨x3, x4, x6, x7⟩) (by exact x8)) (fun v8 r1 => ?_)
  try dsimp only [Sum.elim_inl, Sum.elim_inr, jt2, jt3, jt4, jt5, jt6, jt7, jt8] at r1
  have v1 := r1
  clear r1
  try simp (disch := omega) only [jst_eq, jst_ne, jst_ni, jI_i, jcmp_lt, jcmp_gt, w32_id, jcpy_out, Sum.elim_inl, Sum.elim_inr, jt2, jt3, jt4, jt5, jt6, jt7, jt8] at v1
  refine OK_if (fun c1 => ?_) (fun c1 => ?_)
  · skip
    try simp (disch := omega) only [jst_eq, jst_ne, jst_ni, jI_i, jcmp_lt, jcmp_gt, w32_id, jcpy_out, Sum.elim_inl, Sum.elim_inr, jt2, jt3, jt4, jt5, jt6, jt7, jt8] at c1
    have N1 : ¬ (la = 2 ∨ 2 ∈ ks) := fun z => by { have := v1.2.mpr z; omega }
    refine OK_jb (vX14_rowsOf (n := (ks.length : Int)) (kf := kL ks) _ _ _ (by exact ⟨ar.1, by decide, by decide, by rw [ar.2]; omega, x4, by omega, by omega⟩) (by exact fun k k0 k1 => by { rw [Int.zero_add]; exact x7 k k0 k1 })) (fun v11 r2 => ?_)
    try dsimp only [Sum.elim_inl, Sum.elim_inr, jt2, jt3, jt4, jt5, jt6, jt7, jt8] at r2
    have pv2 := r2
    clear r2
    try simp (disch := omega) only [jst_eq, jst_ne, jst_ni, jI_i, jcmp_lt, jcmp_gt, w32_id, jcpy_out, Sum.elim_inl, Sum.elim_inr, jt2, jt3, jt4, jt5, jt6, jt7, jt8] at pv2
    have V11 : v11 = ptN ks := by { rw [pv2, show (ks.length : Int).toNat = ks.length by omega]; exact rwT_pt x5 x6 (fun k k0 k1 => (x7 k k0 k1).2) (fun z => N1 (Or.inr z)) }
    refine OK_if (fun c2 => ?_) (fun c2 => ?_)
    · skip
      try simp (disch := omega) only [jst_eq, jst_ne, jst_ni, jI_i, jcmp_lt, jcmp_gt, w32_id, jcpy_out, Sum.elim_inl, Sum.elim_inr, jt2, jt3, jt4, jt5, jt6, jt7, jt8] at c2
      refine OK_mono (vX14_law_j75 (B := B) (n := n) (q := q) (la := la) (i := i) (m := m) (N := N) (D := D) (ks := ks) (E := E) (Rf := Rf) _ _ _ (by exact hB) (by exact lr) (by exact ms) (by exact rm) (by exact w2)) (fun r r3 => ?_)
      obtain ⟨y1, y2⟩ := r
      try dsimp only [Sum.elim_inl, Sum.elim_inr, jt2, jt3, jt4, jt5, jt6, jt7, jt8] at r3
      obtain ⟨ok3, fr3⟩ := r3
      try simp (disch := omega) only [jst_eq, jst_ne, jst_ni, jI_i, jcmp_lt, jcmp_gt, w32_id, jcpy_out, Sum.elim_inl, Sum.elim_inr, jt2, jt3, jt4, jt5, jt6, jt7, jt8] at ok3
      try simp (disch := omega) only [jst_eq, jst_ne, jst_ni, jI_i, jcmp_lt, jcmp_gt, w32_id, jcpy_out, Sum.elim_inl, Sum.elim_inr, jt2, jt3, jt4, jt5, jt6, jt7, jt8] at fr3
      try dsimp only [Sum.elim_inl, Sum.elim_inr, jt2, jt3, jt4, jt5, jt6, jt7, jt8]
      try dsimp only [Sum.elim_inl, Sum.elim_inr, jt2, jt3, jt4, jt5, jt6, jt7, jt8]
      refine ⟨?_, ?_⟩
      · exact FK _ _ _ _ (by rw [cif_n (fun z => by rcases z with z | z | z; { exact N1 (Or.inl z) }; { exact N1 (Or.inr z) }; { omega })]; omega) ok3 -- o10 e1.1
      · exact fr3 -- o11 e1.2
    · skip
      try simp (disch := omega) only [jst_eq, jst_ne, jst_ni, jI_i, jcmp_lt, jcmp_gt, w32_id, jcpy_out, Sum.elim_inl, Sum.elim_inr, jt2, jt3, jt4, jt5, jt6, jt7, jt8] at c2
      refine OK_mono (vX14_law_j68 (B := B) (n := n) (q := q) (la := la) (i := i) (m := m) (N := N) (D := D) (ks := ks) (E := E) (Rf := Rf) _ _ _ _ (by exact hB) (by exact lr) (by exact ms) (by exact rm) (by exact w2) (by exact a2e)) (fun r r4 => ?_)
      obtain ⟨y3, y4⟩ := r
      try dsimp only [Sum.elim_inl, Sum.elim_inr, jt2, jt3, jt4, jt5, jt6, jt7, jt8] at r4
      obtain ⟨ok4, fr4⟩ := r4
      try simp (disch := omega) only [jst_eq, jst_ne, jst_ni, jI_i, jcmp_lt, jcmp_gt, w32_id, jcpy_out, Sum.elim_inl, Sum.elim_inr, jt2, jt3, jt4, jt5, jt6, jt7, jt8] at ok4
      try simp (disch := omega) only [jst_eq, jst_ne, jst_ni, jI_i, jcmp_lt, jcmp_gt, w32_id, jcpy_out, Sum.elim_inl, Sum.elim_inr, jt2, jt3, jt4, jt5, jt6, jt7, jt8] at fr4
      try dsimp only [Sum.elim_inl, Sum.elim_inr, jt2, jt3, jt4, jt5, jt6, jt7, jt8]
      try dsimp only [Sum.elim_inl, Sum.elim_inr, jt2, jt3, jt4, jt5, jt6, jt7, jt8]
      refine ⟨?_, ?_⟩
      · exact FK _ _ _ _ (by rw [cif_p (show lw6 ks la from Or.inr (Or.inr (by omega)))]) ok4 -- o18 e2.1
      · exact fr4 -- o19 e2.2
  · skip
    try simp (disch := omega) only [jst_eq, jst_ne, jst_ni, jI_i, jcmp_lt, jcmp_gt, w32_id, jcpy_out, Sum.elim_inl, Sum.elim_inr, jt2, jt3, jt4, jt5, jt6, jt7, jt8] at c1
    refine OK_mono (vX14_law_j68 (B := B) (n := n) (q := q) (la := la) (i := i) (m := m) (N := N) (D := D) (ks := ks) (E := E) (Rf := Rf) _ _ _ _ (by exact hB) (by exact lr) (by exact ms) (by exact rm) (by exact w2) (by exact a2e)) (fun r r5 => ?_)
    obtain ⟨y5, y6⟩ := r
    try dsimp only [Sum.elim_inl, Sum.elim_inr, jt2, jt3, jt4, jt5, jt6, jt7, jt8] at r5
    obtain ⟨ok5, fr5⟩ := r5
    try simp (disch := omega) only [jst_eq, jst_ne, jst_ni, jI_i, jcmp_lt, jcmp_gt, w32_id, jcpy_out, Sum.elim_inl, Sum.elim_inr, jt2, jt3, jt4, jt5, jt6, jt7, jt8] at ok5
    try simp (disch := omega) only [jst_eq, jst_ne, jst_ni, jI_i, jcmp_lt, jcmp_gt, w32_id, jcpy_out, Sum.elim_inl, Sum.elim_inr, jt2, jt3, jt4, jt5, jt6, jt7, jt8] at fr5
    try dsimp only [Sum.elim_inl, Sum.elim_inr, jt2, jt3, jt4, jt5, jt6, jt7, jt8]
    try dsimp only [Sum.elim_inl, Sum.elim_inr, jt2, jt3, jt4, jt5, jt6, jt7, jt8]
    refine ⟨?_, ?_⟩
    · exact FK _ _ _ _ (by rw [cif_p (show lw6 ks la from by rcases v1.2.mp (by omega) with z | z; { exact Or.inl z }; { exact Or.inr (Or.inl z) })]) ok5 -- o26 e3.1
    · exact fr5 -- o27 e3.2
theorem vX14_law_j19 (a1 : Int) (a2 : Int) {h : AH} {B : Int → Int} {n q la i m N D : Int} {ks : List Int} {E : EV} {Rf : Int → TR} (hB : ∀ i, 0 ≤ i → i < n → 0 ≤ B i ∧ B i < 256) (lr : lmR B n a1 ks la i m E Rf h) (ms : MS B n q h) (w2 : h 454 17 = N ∧ 0 ≤ D ∧ D ≤ 1100 ∧ D ≤ N ∧ 2 * (N - D) ≤ q ∧ m ≤ 4000 ∧ tO B n q ≠ 0) (a2e : a2 = tS B n q) (ar : h (a1 + 1) (-2) = 101 ∧ h (a1 + 1) (-1) = 3) : OK (gX14_law_j19 a1 a2 h) (fun r => jt2 r fun t h' => (lmG B n a1 ks la i m E Rf (if m < 4 then 1 else 0) N D (fun r => min (min (MK h) (cif (lw6 ks la) (a2 * 8 + 6) 1000000)) (lwK0 B n E ks la r)) (pLaw B n q) t h') ∧ (frLW a1 m N D h h')) := by
  have M12 : h a1 12 = m := lr.2.1.1
  unfold gX14_law_j19
  refine OK_jlx (fun x5 ex5 => ?_)
  try simp (disch := omega) only [jst_eq, jst_ne, jst_ni, jI_i, jcmp_lt, jcmp_gt, w32_id, jcpy_out, Sum.elim_inl, Sum.elim_inr, jt2, jt3, jt4, jt5, jt6, jt7, jt8] at ex5
  refine OK_if (fun c1 => ?_) (fun c1 => ?_)
  · skip
    try simp (disch := omega) only [jst_eq, jst_ne, jst_ni, jI_i, jcmp_lt, jcmp_gt, w32_id, jcpy_out, Sum.elim_inl, Sum.elim_inr, jt2, jt3, jt4, jt5, jt6, jt7, jt8] at c1
    refine OK_mono (vX14_law_j41 (B := B) (n := n) (q := q) (la := la) (i := i) (m := m) (N := N) (D := D) (ks := ks) (E := E) (Rf := Rf) _ _ _ _ (by exact hB) (by exact lr) (by exact ms) (by exact ⟨Or.inl rfl, fun z => by omega⟩) (by exact w2) (by exact a2e) (by exact ar)) (fun r r1 => ?_)
    obtain ⟨y1, y2⟩ := r
    try dsimp only [Sum.elim_inl, Sum.elim_inr, jt2, jt3, jt4, jt5, jt6, jt7, jt8] at r1
    obtain ⟨ok1, fr1⟩ := r1
    try simp (disch := omega) only [jst_eq, jst_ne, jst_ni, jI_i, jcmp_lt, jcmp_gt, w32_id, jcpy_out, Sum.elim_inl, Sum.elim_inr, jt2, jt3, jt4, jt5, jt6, jt7, jt8] at ok1
    try simp (disch := omega) only [jst_eq, jst_ne, jst_ni, jI_i, jcmp_lt, jcmp_gt, w32_id, jcpy_out, Sum.elim_inl, Sum.elim_inr, jt2, jt3, jt4, jt5, jt6, jt7, jt8] at fr1
    try dsimp only [Sum.elim_inl, Sum.elim_inr, jt2, jt3, jt4, jt5, jt6, jt7, jt8]
    try dsimp only [Sum.elim_inl, Sum.elim_inr, jt2, jt3, jt4, jt5, jt6, jt7, jt8]
    refine ⟨?_, ?_⟩
    · (rw [if_neg (show ¬ m < 4 by omega)]; exact ok1) -- o8 e1.1
    · (first | assumption | omega | ((try dsimp only [jt2, jt3, jt4]); first | omega | (simp (disch := omega) only [jst_eq, jst_ne, jst_ni, jst_o, jI_i, jcpy_out, w32_id, jdiv_nn, jshr_k, jand_255] <;> first | done | omega | assumption)) | (intros; simp (disch := omega) only [jst_eq, jst_ne, jst_ni, jst_o, jI_i, jcpy_out, w32_id, jdiv_nn, *] <;> first | done | omega) | (intros; simp (disch := omega) only [jst_eq, jst_ne, jst_ni, jst_o, jI_i, jcpy_out, w32_id, jdiv_nn] at * <;> first | done | omega | assumption) | (intros; first | rfl | (exfalso; omega) | ((repeat' apply And.intro) <;> first | assumption | rfl | omega | trivial))) -- o9 e1.2
  · skip
    try simp (disch := omega) only [jst_eq, jst_ne, jst_ni, jI_i, jcmp_lt, jcmp_gt, w32_id, jcpy_out, Sum.elim_inl, Sum.elim_inr, jt2, jt3, jt4, jt5, jt6, jt7, jt8] at c1
    refine OK_mono (vX14_law_j41 (B := B) (n := n) (q := q) (la := la) (i := i) (m := m) (N := N) (D := D) (ks := ks) (E := E) (Rf := Rf) _ _ _ _ (by exact hB) (by exact lr) (by exact ms) (by exact ⟨Or.inr rfl, fun _ => by omega⟩) (by exact w2) (by exact a2e) (by exact ar)) (fun r r2 => ?_)
    obtain ⟨y3, y4⟩ := r
    try dsimp only [Sum.elim_inl, Sum.elim_inr, jt2, jt3, jt4, jt5, jt6, jt7, jt8] at r2
    obtain ⟨ok2, fr2⟩ := r2
    try simp (disch := omega) only [jst_eq, jst_ne, jst_ni, jI_i, jcmp_lt, jcmp_gt, w32_id, jcpy_out, Sum.elim_inl, Sum.elim_inr, jt2, jt3, jt4, jt5, jt6, jt7, jt8] at ok2
    try simp (disch := omega) only [jst_eq, jst_ne, jst_ni, jI_i, jcmp_lt, jcmp_gt, w32_id, jcpy_out, Sum.elim_inl, Sum.elim_inr, jt2, jt3, jt4, jt5, jt6, jt7, jt8] at fr2
    try dsimp only [Sum.elim_inl, Sum.elim_inr, jt2, jt3, jt4, jt5, jt6, jt7, jt8]
    try dsimp only [Sum.elim_inl, Sum.elim_inr, jt2, jt3, jt4, jt5, jt6, jt7, jt8]
    refine ⟨?_, ?_⟩
    · (rw [if_pos (show m < 4 by omega)]; exact ok2) -- o17 e2.1
    · (first | assumption | omega | ((try dsimp only [jt2, jt3, jt4]); first | omega | (simp (disch := omega) only [jst_eq, jst_ne, jst_ni, jst_o, jI_i, jcpy_out, w32_id, jdiv_nn, jshr_k, jand_255] <;> first | done | omega | assumption)) | (intros; simp (disch := omega) only [jst_eq, jst_ne, jst_ni, jst_o, jI_i, jcpy_out, w32_id, jdiv_nn, *] <;> first | done | omega) | (intros; simp (disch := omega) only [jst_eq, jst_ne, jst_ni, jst_o, jI_i, jcpy_out, w32_id, jdiv_nn] at * <;> first | done | omega | assumption) | (intros; first | rfl | (exfalso; omega) | ((repeat' apply And.intro) <;> first | assumption | rfl | omega | trivial))) -- o18 e2.2
theorem vX14_law (a1 : Int) {h : AH} {B : Int → Int} {n q la i m N D : Int} {ks : List Int} {E : EV} {Rf : Int → TR} (hB : ∀ i, 0 ≤ i → i < n → 0 ≤ B i ∧ B i < 256) (lr : lmR B n a1 ks la i m E Rf h) (ms : MS B n q h) (w2 : h 454 17 = N ∧ 0 ≤ D ∧ D ≤ 1100 ∧ D ≤ N ∧ 2 * (N - D) ≤ q ∧ m ≤ 4000 ∧ tO B n q ≠ 0) (ar : h (a1 + 1) (-2) = 101 ∧ h (a1 + 1) (-1) = 3) (un : 4 < m → MK h ≤ tS B n q * 8 + 5) : OK (gX14_law a1 h) (fun r => jt2 r fun t h' => (lmG B n a1 ks la i m E Rf (if m < 4 then 1 else 0) N D (fun r => min (MK h) (lwK B n E ks la m q r)) (pLaw B n q) t h') ∧ (frLW a1 m N D h h')) := by
  have LA : a1 = 476 ∨ a1 = 615 := lr.1.2.2.1
  have M12 : h a1 12 = m := lr.2.1.1
  have SR := tS_r (B := B) ms.2.2.2
  have qb := ms.2
  have n2 := lr.1.1.2.2.1
  have Q29 : h 454 29 = tS B n q := ms.1.1
  have mk := MK_r lr.1.2.1
  unfold gX14_law
  refine OK_jlx (fun x1 ex1 => ?_)
  try simp (disch := omega) only [jst_eq, jst_ne, jst_ni, jI_i, jcmp_lt, jcmp_gt, w32_id, jcpy_out, Sum.elim_inl, Sum.elim_inr, jt2, jt3, jt4, jt5, jt6, jt7, jt8] at ex1
  refine OK_if (fun c1 => ?_) (fun c1 => ?_)
  · skip
    try simp (disch := omega) only [jst_eq, jst_ne, jst_ni, jI_i, jcmp_lt, jcmp_gt, w32_id, jcpy_out, Sum.elim_inl, Sum.elim_inr, jt2, jt3, jt4, jt5, jt6, jt7, jt8] at c1
    refine OK_jb (vX14_note _ _ (by exact lr.1.2.1) (by omega)) (fun h4 r1 => ?_)
    try dsimp only [Sum.elim_inl, Sum.elim_inr, jt2, jt3, jt4, jt5, jt6, jt7, jt8] at r1
    obtain ⟨m1, k1, fr1⟩ := r1
    try simp (disch := omega) only [jst_eq, jst_ne, jst_ni, jI_i, jcmp_lt, jcmp_gt, w32_id, jcpy_out, Sum.elim_inl, Sum.elim_inr, jt2, jt3, jt4, jt5, jt6, jt7, jt8] at m1
    try simp (disch := omega) only [jst_eq, jst_ne, jst_ni, jI_i, jcmp_lt, jcmp_gt, w32_id, jcpy_out, Sum.elim_inl, Sum.elim_inr, jt2, jt3, jt4, jt5, jt6, jt7, jt8] at k1
    try simp (disch := omega) only [jst_eq, jst_ne, jst_ni, jI_i, jcmp_lt, jcmp_gt, w32_id, jcpy_out, Sum.elim_inl, Sum.elim_inr, jt2, jt3, jt4, jt5, jt6, jt7, jt8] at fr1
    refine OK_mono (vX14_law_j19 (B := B) (n := n) (q := q) (la := la) (i := i) (m := m) (N := N) (D := D) (ks := ks) (E := E) (Rf := Rf) _ _ (by exact hB) (by exact lmR_30 lr fr1 m1) (by exact MS_fr ms (fun s s0 s1 => fr1 _ _ (by omega))) (by (rw [fr1 _ _ (by omega)]; exact w2)) (by omega) (by (rw [fr1 _ _ (by omega), fr1 _ _ (by omega)]; exact ar))) (fun r r2 => ?_)
    obtain ⟨y1, y2⟩ := r
    try dsimp only [Sum.elim_inl, Sum.elim_inr, jt2, jt3, jt4, jt5, jt6, jt7, jt8] at r2
    obtain ⟨ok2, fr2⟩ := r2
    try simp (disch := omega) only [jst_eq, jst_ne, jst_ni, jI_i, jcmp_lt, jcmp_gt, w32_id, jcpy_out, Sum.elim_inl, Sum.elim_inr, jt2, jt3, jt4, jt5, jt6, jt7, jt8] at ok2
    try simp (disch := omega) only [jst_eq, jst_ne, jst_ni, jI_i, jcmp_lt, jcmp_gt, w32_id, jcpy_out, Sum.elim_inl, Sum.elim_inr, jt2, jt3, jt4, jt5, jt6, jt7, jt8] at fr2
    try dsimp only [Sum.elim_inl, Sum.elim_inr, jt2, jt3, jt4, jt5, jt6, jt7, jt8]
    have X1 : x1 = tS B n q := by omega
    try dsimp only [Sum.elim_inl, Sum.elim_inr, jt2, jt3, jt4, jt5, jt6, jt7, jt8]
    refine ⟨?_, ?_⟩
    · (refine lmG_k (fun r q' _ => ?_) ok2; rw [k1, X1]; show _ = min (MK h) (min (if 4 ≤ m then tS B n q * 8 + 5 else 1000000) (min (cif (lw6 ks la) (tS B n q * 8 + 6) 1000000) (lwK0 B n E ks la r))); rw [if_pos (show 4 ≤ m by omega)]; generalize lwK0 B n E ks la r = z; generalize cif (lw6 ks la) (tS B n q * 8 + 6) 1000000 = c; omega) -- o9 e1.1
    · exact frLW_30 fr1 fr2 -- o10 e1.2
  · skip
    try simp (disch := omega) only [jst_eq, jst_ne, jst_ni, jI_i, jcmp_lt, jcmp_gt, w32_id, jcpy_out, Sum.elim_inl, Sum.elim_inr, jt2, jt3, jt4, jt5, jt6, jt7, jt8] at c1
    refine OK_mono (vX14_law_j19 (B := B) (n := n) (q := q) (la := la) (i := i) (m := m) (N := N) (D := D) (ks := ks) (E := E) (Rf := Rf) _ _ (by exact hB) (by exact lr) (by exact ms) (by exact w2) (by omega) (by exact ar)) (fun r r3 => ?_)
    obtain ⟨y3, y4⟩ := r
    try dsimp only [Sum.elim_inl, Sum.elim_inr, jt2, jt3, jt4, jt5, jt6, jt7, jt8] at r3
    obtain ⟨ok3, fr3⟩ := r3
    try simp (disch := omega) only [jst_eq, jst_ne, jst_ni, jI_i, jcmp_lt, jcmp_gt, w32_id, jcpy_out, Sum.elim_inl, Sum.elim_inr, jt2, jt3, jt4, jt5, jt6, jt7, jt8] at ok3
    try simp (disch := omega) only [jst_eq, jst_ne, jst_ni, jI_i, jcmp_lt, jcmp_gt, w32_id, jcpy_out, Sum.elim_inl, Sum.elim_inr, jt2, jt3, jt4, jt5, jt6, jt7, jt8] at fr3
    try dsimp only [Sum.elim_inl, Sum.elim_inr, jt2, jt3, jt4, jt5, jt6, jt7, jt8]
    have X1 : x1 = tS B n q := by omega
    try dsimp only [Sum.elim_inl, Sum.elim_inr, jt2, jt3, jt4, jt5, jt6, jt7, jt8]
    refine ⟨?_, ?_⟩
    · (refine lmG_k (fun r q' _ => ?_) ok3; rw [X1]; show _ = min (MK h) (min (if 4 ≤ m then tS B n q * 8 + 5 else 1000000) (min (cif (lw6 ks la) (tS B n q * 8 + 6) 1000000) (lwK0 B n E ks la r))); generalize lwK0 B n E ks la r = z; generalize cif (lw6 ks la) (tS B n q * 8 + 6) 1000000 = c; by_cases g : 4 ≤ m; { rw [if_pos g]; have := un (by omega); omega }; { rw [if_neg g]; omega }) -- o17 e2.1
    · exact fr3 -- o18 e2.2

