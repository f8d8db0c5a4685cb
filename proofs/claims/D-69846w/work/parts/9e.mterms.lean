/-! m: terms by commas are read -/
theorem szL_1 (l : List TR) (t : TR) : szL (l ++ [t]) = szL l + sz t := by
  rw [szL_app]; show szL l + (sz t + 0) = szL l + sz t; omega
/-- terms that were read at m from node D on, the first four in the cells of a -/
def tmsM (h : AH) (a D : Int) (l : List TR) : Prop := ∀ i : Nat, i < 4 → ∀ t, l[i]? = some t → h a i = D + szL (l.take i) ∧ rawM h t (h a i) 0 (h a i + 1) (-1)
theorem szL_0 : ∀ l : List TR, 0 ≤ szL l
  | [] => Int.le_refl _
  | t :: l => by
    have a := szL_0 l
    have b := sz_pos t
    show 0 ≤ sz t + szL l
    omega
theorem szL_tk : ∀ (l : List TR) (i : Nat) (t : TR), l[i]? = some t → szL (l.take i) + sz t ≤ szL l
  | [], i, t, e => by cases e
  | u :: l, 0, t, e => by
    cases e
    have a := szL_0 l
    show 0 + sz u ≤ sz u + szL l
    omega
  | u :: l, i + 1, t, e => by
    have a := szL_tk l i t e
    show sz u + szL (l.take i) + sz t ≤ sz u + szL l
    omega
theorem tmsM_f {h h' : AH} {a D : Int} {l : List TR} (x : tmsM h a D l) (ea : ∀ i, 0 ≤ i → i < 4 → h' a i = h a i) (f : agM D (D + szL l) h h') : tmsM h' a D l := fun i i4 t e => by
  obtain ⟨x1, x2⟩ := x i i4 t e
  have k := szL_tk l i t e
  have st := sz_pos t
  have s0 := szL_0 (l.take i)
  rw [ea i (by omega) (by omega)]
  exact ⟨x1, rawM_ag (h := h) f (Int.le_refl _) (by omega) (by omega) (by omega) (by omega) x2⟩
theorem tmsM_a {h : AH} {a D : Int} {l : List TR} {t : TR} (x : tmsM h a D l) (e : l.length < 4 → h a l.length = D + szL l) (r : rawM h t (D + szL l) 0 (D + szL l + 1) (-1)) : tmsM h a D (l ++ [t]) := fun i i4 u eu => by
  rcases app_ix eu with ⟨y1, y2⟩ | ⟨y1, y2⟩
  · have e2 : (l ++ [t]).take i = l.take i := by rw [List.take_append_of_le_length (by omega)]
    rw [e2]; exact x i i4 u y2
  · subst y2
    have e2 : (l ++ [u]).take i = l := by rw [y1, List.take_append_of_le_length (Nat.le_refl _), List.take_of_length_le (Nat.le_refl _)]
    rw [e2, y1, e (by omega)]
    exact ⟨rfl, r⟩
/-- what of m changes while terms are read -/
def frMa (a N : Int) (h h' : AH) : Prop := ∀ b s, ¬ (b = 454 ∧ (s = 17 ∨ (26 ≤ s ∧ s ≤ 29))) → ¬ (b = 472 ∧ (s = 6 ∨ s = 7)) → ¬ (460 ≤ b ∧ b ≤ 470 ∧ b ≠ 464 ∧ N ≤ s ∧ s < h' 454 17) → ¬ (b = 464 ∧ 3 * N ≤ s ∧ s < 3 * h' 454 17) → ¬ (b = a ∧ 0 ≤ s ∧ s < 4) → h' b s = h b s
theorem frMa_r {a N : Int} {h : AH} : frMa a N h h := fun _ _ _ _ _ _ _ => rfl
theorem frMa_t {a N N' : Int} {h h1 h2 : AH} (n : N ≤ N') (t : h1 454 17 ≤ h2 454 17) (x : frMa a N h h1) (y : frMa a N' h1 h2) : frMa a N h h2 := fun b s y1 y2 y3 y4 y5 => (y b s y1 y2 (by omega) (by omega) y5).trans (x b s y1 y2 (by omega) (by omega) y5)
theorem frMa_m {a N : Int} {h h' : AH} (f : frM N h h') : frMa a N h h' := fun b s y1 y2 y3 y4 _ => f b s y1 y2 y3 y4
theorem frMa_o {a N : Int} {h h' : AH} (f : ∀ b s, ¬ (b = 454 ∧ (26 ≤ s ∧ s ≤ 29)) → ¬ (b = 472 ∧ (s = 6 ∨ s = 7)) → ¬ (b = a ∧ 0 ≤ s ∧ s < 4) → h' b s = h b s) : frMa a N h h' := fun b s y1 y2 _ _ y5 => f b s (by omega) y2 y5
abbrev isA4 (a : Int) : Prop := a = 808 ∨ a = 809 ∨ a = 813 ∨ a = 814
theorem vX14_terms_j18_2 (a1 : Int) (a2 : Int) {h : AH} {B : Int → Int} {n q : Int} (t : TM B n h) (hB : ∀ i, 0 ≤ i → i < n → 0 ≤ B i ∧ B i < 256) (m : MS B n q h) (a0 : 0 ≤ a2 ∧ a2 ≤ 3000) : OK (gX14_terms_j18_2 a1 a2 h) (Sum.elim (fun r => jt2 r fun y h' => (y = a2 + 1) ∧ (comma B n q ∧ ∃ q2, nx B n q = .inr q2 ∧ MS B n q2 h') ∧ (∀ a s, ¬ (a = 454 ∧ 26 ≤ s ∧ s ≤ 29) → ¬ (a = 472 ∧ (s = 6 ∨ s = 7)) → h' a s = h a s)) (Sum.elim (fun r => jt2 r fun y h' => y = a2 + 1 ∧ ¬ comma B n q ∧ h' = h) (fun r => jt2 r fun t h' => (comma B n q ∧ t = 472 ∧ ∃ z, nx B n q = .inl z ∧ MF z h') ∧ (∀ a s, ¬ (a = 454 ∧ 26 ≤ s ∧ s ≤ 29) → ¬ (a = 472 ∧ (s = 6 ∨ s = 7)) → h' a s = h a s)))) := by
  unfold gX14_terms_j18_2
  refine OK_jlx (fun x16 ex16 => ?_)
  try simp (disch := omega) only [jst_eq, jst_ne, jst_ni, jI_i, jcmp_lt, jcmp_gt, w32_id, jcpy_out, Sum.elim_inl, Sum.elim_inr, jt2, jt3, jt4, jt5, jt6, jt7, jt8] at ex16
  refine OK_jb3 (vX14_skipSign (B := B) (n := n) (q := q) _ (by (first | assumption | omega | ((try dsimp only [jt2, jt3, jt4]); first | omega | (simp (disch := omega) only [jst_eq, jst_ne, jst_ni, jst_o, jI_i, jcpy_out, w32_id, jdiv_nn, jshr_k, jand_255] <;> first | done | omega | assumption)) | (intros; simp (disch := omega) only [jst_eq, jst_ne, jst_ni, jst_o, jI_i, jcpy_out, w32_id, jdiv_nn, *] <;> first | done | omega) | (intros; simp (disch := omega) only [jst_eq, jst_ne, jst_ni, jst_o, jI_i, jcpy_out, w32_id, jdiv_nn] at * <;> first | done | omega | assumption) | (intros; first | rfl | (exfalso; omega) | ((repeat' apply And.intro) <;> first | assumption | rfl | omega | trivial)))) (by (first | assumption | omega | ((try dsimp only [jt2, jt3, jt4]); first | omega | (simp (disch := omega) only [jst_eq, jst_ne, jst_ni, jst_o, jI_i, jcpy_out, w32_id, jdiv_nn, jshr_k, jand_255] <;> first | done | omega | assumption)) | (intros; simp (disch := omega) only [jst_eq, jst_ne, jst_ni, jst_o, jI_i, jcpy_out, w32_id, jdiv_nn, *] <;> first | done | omega) | (intros; simp (disch := omega) only [jst_eq, jst_ne, jst_ni, jst_o, jI_i, jcpy_out, w32_id, jdiv_nn] at * <;> first | done | omega | assumption) | (intros; first | rfl | (exfalso; omega) | ((repeat' apply And.intro) <;> first | assumption | rfl | omega | trivial)))) (by (first | assumption | omega | ((try dsimp only [jt2, jt3, jt4]); first | omega | (simp (disch := omega) only [jst_eq, jst_ne, jst_ni, jst_o, jI_i, jcpy_out, w32_id, jdiv_nn, jshr_k, jand_255] <;> first | done | omega | assumption)) | (intros; simp (disch := omega) only [jst_eq, jst_ne, jst_ni, jst_o, jI_i, jcpy_out, w32_id, jdiv_nn, *] <;> first | done | omega) | (intros; simp (disch := omega) only [jst_eq, jst_ne, jst_ni, jst_o, jI_i, jcpy_out, w32_id, jdiv_nn] at * <;> first | done | omega | assumption) | (intros; first | rfl | (exfalso; omega) | ((repeat' apply And.intro) <;> first | assumption | rfl | omega | trivial))))) (fun t18 v19 h20 r1 => ?_)
  try dsimp only [Sum.elim_inl, Sum.elim_inr, jt2, jt3, jt4, jt5, jt6, jt7, jt8] at r1
  obtain ⟨no1, r1, v11, fr1⟩ := r1
  try simp (disch := omega) only [jst_eq, jst_ne, jst_ni, jI_i, jcmp_lt, jcmp_gt, w32_id, jcpy_out, Sum.elim_inl, Sum.elim_inr, jt2, jt3, jt4, jt5, jt6, jt7, jt8] at no1
  try simp (disch := omega) only [jst_eq, jst_ne, jst_ni, jI_i, jcmp_lt, jcmp_gt, w32_id, jcpy_out, Sum.elim_inl, Sum.elim_inr, jt2, jt3, jt4, jt5, jt6, jt7, jt8] at r1
  try simp (disch := omega) only [jst_eq, jst_ne, jst_ni, jI_i, jcmp_lt, jcmp_gt, w32_id, jcpy_out, Sum.elim_inl, Sum.elim_inr, jt2, jt3, jt4, jt5, jt6, jt7, jt8] at v11
  try simp (disch := omega) only [jst_eq, jst_ne, jst_ni, jI_i, jcmp_lt, jcmp_gt, w32_id, jcpy_out, Sum.elim_inl, Sum.elim_inr, jt2, jt3, jt4, jt5, jt6, jt7, jt8] at fr1
  have EY : x16 = a2 + 1 := by first | omega | (rw [ex16]; exact w32_id (by omega) (by omega))
  refine OK_jq (fun c1 => ?_) (fun c1 => ?_)
  · skip
    refine OK_some ?_
    try dsimp only [Sum.elim_inl, Sum.elim_inr, jt2, jt3, jt4, jt5, jt6, jt7, jt8]
    try dsimp only [Sum.elim_inl, Sum.elim_inr, jt2, jt3, jt4, jt5, jt6, jt7, jt8]
    refine ⟨?_, ?_⟩
    · (have g : isSg B n q 44 := Classical.byContradiction (fun z => c1 (no1 z).1); obtain ⟨z, e, t1, mf⟩ := rM_l (r1 g) c1; exact ⟨g, t1, z, e, mf⟩) -- o4 e1.1
    · exact fr1 -- o5 e1.2
  · skip
    refine OK_if (fun c2 => ?_) (fun c2 => ?_)
    · skip
      try simp (disch := omega) only [jst_eq, jst_ne, jst_ni, jI_i, jcmp_lt, jcmp_gt, w32_id, jcpy_out, Sum.elim_inl, Sum.elim_inr, jt2, jt3, jt4, jt5, jt6, jt7, jt8] at c2
      refine OK_some ?_
      try dsimp only [Sum.elim_inl, Sum.elim_inr, jt2, jt3, jt4, jt5, jt6, jt7, jt8]
      (have g : ¬ isSg B n q 44 := (fun z => by have := v11 z c1; omega); exact ⟨EY, g, (no1 g).2.2⟩) -- o6 e2
    · skip
      try simp (disch := omega) only [jst_eq, jst_ne, jst_ni, jI_i, jcmp_lt, jcmp_gt, w32_id, jcpy_out, Sum.elim_inl, Sum.elim_inr, jt2, jt3, jt4, jt5, jt6, jt7, jt8] at c2
      refine OK_some ?_
      try dsimp only [Sum.elim_inl, Sum.elim_inr, jt2, jt3, jt4, jt5, jt6, jt7, jt8]
      try dsimp only [Sum.elim_inl, Sum.elim_inr, jt2, jt3, jt4, jt5, jt6, jt7, jt8]
      refine ⟨?_, ?_, ?_⟩
      · exact EY -- o7 e3.1
      · (have g : isSg B n q 44 := Classical.byContradiction (fun z => c2 (no1 z).2.1); obtain ⟨q2, e, ms⟩ := rM_r (r1 g) c1; exact ⟨g, q2, e, ms⟩) -- o8 e3.2
      · exact fr1 -- o9 e3.3
/-- behind terms that were read -/
def bkT (q D a : Int) (l : List TR) (y q2 : Int) (h : AH) : Prop := h 454 17 = D + szL l ∧ 2 * szL l ≤ q2 - q + 1 ∧ tmsM h a D l ∧ (l.length : Int) = y ∧ y ≤ q2 - q
theorem bkT_f {q D a y q2 : Int} {l : List TR} {h h' : AH} (b : bkT q D a l y q2 h) (ha : a ≠ 454 ∧ a ≠ 472) (f : ∀ b s, ¬ (b = 454 ∧ 26 ≤ s ∧ s ≤ 29) → ¬ (b = 472 ∧ (s = 6 ∨ s = 7)) → h' b s = h b s) : bkT q D a l y q2 h' := by
  obtain ⟨b1, b2, b3, b4, b5⟩ := b
  exact ⟨by rw [f _ _ (by omega) (by omega)]; exact b1, b2, tmsM_f b3 (fun i i0 i1 => f _ _ (by omega) (by omega)) ⟨fun b s _ _ _ _ _ _ => f _ _ (by omega) (by omega), fun s _ _ => f _ _ (by omega) (by omega), fun s _ _ => f _ _ (by omega) (by omega)⟩, b4, b5⟩
theorem frMa_3 {a N : Int} {h h1 h2 : AH} (x : frMa a N h h1) (e : h2 454 17 = h1 454 17) (f : ∀ b s, ¬ (b = 454 ∧ 26 ≤ s ∧ s ≤ 29) → ¬ (b = 472 ∧ (s = 6 ∨ s = 7)) → ¬ (b = a ∧ 0 ≤ s ∧ s < 4) → h2 b s = h1 b s) : frMa a N h h2 := fun b s y1 y2 y3 y4 y5 => by
  rw [f b s (by omega) y2 y5]
  exact x b s y1 y2 (by omega) (by omega) y5
theorem vX14_terms_l2 (i1 : Int) (a20 : Int) {h0 : AH} {B : Int → Int} {n q D : Int} (hB : ∀ i, 0 ≤ i → i < n → 0 ≤ B i ∧ B i < 256) (t : TM B n h0) (m : MS B n q h0) (ar : isA4 i1 ∧ h0 i1 (-2) = 101 ∧ h0 i1 (-1) = 4) (d0 : h0 454 17 = D ∧ 0 ≤ D ∧ D ≤ 5000) (h1 : a20 = 0) : OK (gX14_terms_l2 i1 a20 h0) (Sum.elim (fun r => jt2 r fun y h' => (∃ l q2, pTs B n q = .inr (l, q2) ∧ MS B n q2 h' ∧ bkT q D i1 l y q2 h') ∧ (frMa i1 D h0 h')) (fun r => jt2 r fun t h' => (∃ z, pTs B n q = .inl z ∧ t = 472 ∧ MF z h') ∧ (frMa i1 D h0 h' ∧ D ≤ h' 454 17 ∧ 2 * (h' 454 17 - D) ≤ n - q + 2))) := by
  have LA : i1 = 808 ∨ i1 = 809 ∨ i1 = 813 ∨ i1 = 814 := ar.1
  have n2 := t.2.2.1
  have m0 := m.2.2.1
  unfold gX14_terms_l2
  refine OK_jit (I := (fun (s : Int × AH) => jt2 s fun a2 h => (0 ≤ a2) ∧ (∃ (q' : Int) (l : List TR) (k : Nat), MS B n q' h ∧ pTs B n q = pKs B n (pT B n false 13) k l q' ∧ 2002 ≤ (k : Int) + q' ∧ (h 454 17 = D + szL l ∧ 2 * szL l ≤ q' - q ∧ tmsM h i1 D l ∧ (l.length : Int) = a2 ∧ a2 ≤ q' - q)) ∧ (frMa i1 D h0 h))) (m := (fun (s : Int × AH) => jt2 s fun a2 h => (3000 - a2).toNat)) ?_ ?_
  · intro s hs
    obtain ⟨a2, h⟩ := s
    dsimp only [Sum.elim_inl, Sum.elim_inr, jt2, jt3, jt4, jt5, jt6, jt7, jt8] at hs
    obtain ⟨q0, q1, fr⟩ := hs
    unfold gX14_terms_b2
    refine OK_jt2 ?_
    obtain ⟨q', l, k, M1, W1, U1, H1, H2, H3, H4, H5⟩ := q1
    have S0 := szL_0 l
    have M1n := M1.2.2
    have T1 : TM B n h := TM_fr t (fr _ _ (by omega) (by omega) (by omega) (by omega) (by omega)) (fun s => fr _ _ (by omega) (by omega) (by omega) (by omega) (by omega))
    have A1 : h i1 (-2) = 101 ∧ h i1 (-1) = 4 := by { rw [fr _ _ (by omega) (by omega) (by omega) (by omega) (by omega), fr _ _ (by omega) (by omega) (by omega) (by omega) (by omega)]; exact ar.2 }
    have PS := pks_s (R1 := .inr q') (k := k) (l := l) W1 (fun x e => by cases e; omega)
    refine OK_jb3 (vX14_takeTerm (B := B) (n := n) (q := q') (sk := false) _ _ (by (first | assumption | omega | ((try dsimp only [jt2, jt3, jt4]); first | omega | (simp (disch := omega) only [jst_eq, jst_ne, jst_ni, jst_o, jI_i, jcpy_out, w32_id, jdiv_nn, jshr_k, jand_255] <;> first | done | omega | assumption)) | (intros; simp (disch := omega) only [jst_eq, jst_ne, jst_ni, jst_o, jI_i, jcpy_out, w32_id, jdiv_nn, *] <;> first | done | omega) | (intros; simp (disch := omega) only [jst_eq, jst_ne, jst_ni, jst_o, jI_i, jcpy_out, w32_id, jdiv_nn] at * <;> first | done | omega | assumption) | (intros; first | rfl | (exfalso; omega) | ((repeat' apply And.intro) <;> first | assumption | rfl | omega | trivial)))) (by exact ⟨rfl, rfl⟩) (by (first | assumption | omega | ((try dsimp only [jt2, jt3, jt4]); first | omega | (simp (disch := omega) only [jst_eq, jst_ne, jst_ni, jst_o, jI_i, jcpy_out, w32_id, jdiv_nn, jshr_k, jand_255] <;> first | done | omega | assumption)) | (intros; simp (disch := omega) only [jst_eq, jst_ne, jst_ni, jst_o, jI_i, jcpy_out, w32_id, jdiv_nn, *] <;> first | done | omega) | (intros; simp (disch := omega) only [jst_eq, jst_ne, jst_ni, jst_o, jI_i, jcpy_out, w32_id, jdiv_nn] at * <;> first | done | omega | assumption) | (intros; first | rfl | (exfalso; omega) | ((repeat' apply And.intro) <;> first | assumption | rfl | omega | trivial)))) (by (first | assumption | omega | ((try dsimp only [jt2, jt3, jt4]); first | omega | (simp (disch := omega) only [jst_eq, jst_ne, jst_ni, jst_o, jI_i, jcpy_out, w32_id, jdiv_nn, jshr_k, jand_255] <;> first | done | omega | assumption)) | (intros; simp (disch := omega) only [jst_eq, jst_ne, jst_ni, jst_o, jI_i, jcpy_out, w32_id, jdiv_nn, *] <;> first | done | omega) | (intros; simp (disch := omega) only [jst_eq, jst_ne, jst_ni, jst_o, jI_i, jcpy_out, w32_id, jdiv_nn] at * <;> first | done | omega | assumption) | (intros; first | rfl | (exfalso; omega) | ((repeat' apply And.intro) <;> first | assumption | rfl | omega | trivial)))) (by omega)) (fun t10 v11 h12 r1 => ?_)
    try dsimp only [Sum.elim_inl, Sum.elim_inr, jt2, jt3, jt4, jt5, jt6, jt7, jt8] at r1
    have pm1 := r1
    clear r1
    try simp (disch := omega) only [jst_eq, jst_ne, jst_ni, jI_i, jcmp_lt, jcmp_gt, w32_id, jcpy_out, Sum.elim_inl, Sum.elim_inr, jt2, jt3, jt4, jt5, jt6, jt7, jt8] at pm1
    refine OK_jq (fun c1 => ?_) (fun c1 => ?_)
    · skip
      refine OK_ir ?_
      try dsimp only [Sum.elim_inl, Sum.elim_inr, jt2, jt3, jt4, jt5, jt6, jt7, jt8]
      refine ⟨?_, ?_⟩
      · (obtain ⟨z, e, t1, t2, _⟩ := pm_l pm1 c1; exact ⟨z, PS.1 z e, t1, t2⟩) -- o6 e1.1
      · (obtain ⟨z, e, t1, t2, f, g1, g2⟩ := pm_l pm1 c1; exact ⟨frMa_t (by omega) (by omega) fr (frMa_m f), by omega, by omega⟩) -- o7 e1.2
    · skip
      obtain ⟨T, q2, eT, p1, p2, p3, p4, p5, p6, p7⟩ := pm_r pm1 c1
      have PT := PS.2 T q2 eT
      clear pm1 PS
      have st := sz_pos T
      have S1 := szL_1 l T
      have F12 : frMa i1 D h0 h12 := frMa_t (by omega) (by omega) fr (frMa_m p1)
      have T12 : TM B n h12 := TM_fr T1 (p1 _ _ (by omega) (by omega) (by omega) (by omega)) (fun s => p1 _ _ (by omega) (by omega) (by omega) (by omega))
      have A12 : h12 i1 (-2) = 101 ∧ h12 i1 (-1) = 4 := by { rw [p1 _ _ (by omega) (by omega) (by omega) (by omega), p1 _ _ (by omega) (by omega) (by omega) (by omega)]; exact A1 }
      have V12 : v11 = D + szL l := by omega
      have LN : ((l ++ [T]).length : Int) = a2 + 1 := by { rw [List.length_append]; show ((l.length + 1 : Nat) : Int) = a2 + 1; omega }
      have X12 : tmsM h12 i1 D l := tmsM_f H3 (fun i i0 i4 => p1 _ _ (by omega) (by omega) (by omega) (by omega)) ⟨fun a s _ _ _ _ _ _ => p1 _ _ (by omega) (by omega) (by omega) (by omega), fun s _ _ => p1 _ _ (by omega) (by omega) (by omega) (by omega), fun s _ _ => p1 _ _ (by omega) (by omega) (by omega) (by omega)⟩
      rw [V12] at p7
      refine OK_if (fun c2 => ?_) (fun c2 => ?_)
      · skip
        try simp (disch := omega) only [jst_eq, jst_ne, jst_ni, jI_i, jcmp_lt, jcmp_gt, w32_id, jcpy_out, Sum.elim_inl, Sum.elim_inr, jt2, jt3, jt4, jt5, jt6, jt7, jt8] at c2
        have BK : bkT q D i1 (l ++ [T]) (a2 + 1) q2 h12 := ⟨by omega, by omega, tmsM_a X12 (fun z => by omega) p7, LN, by omega⟩
        refine OK_mono (vX14_terms_j18_2 (B := B) (n := n) (q := q2) _ _ (by exact T12) (by (first | assumption | omega | ((try dsimp only [jt2, jt3, jt4]); first | omega | (simp (disch := omega) only [jst_eq, jst_ne, jst_ni, jst_o, jI_i, jcpy_out, w32_id, jdiv_nn, jshr_k, jand_255] <;> first | done | omega | assumption)) | (intros; simp (disch := omega) only [jst_eq, jst_ne, jst_ni, jst_o, jI_i, jcpy_out, w32_id, jdiv_nn, *] <;> first | done | omega) | (intros; simp (disch := omega) only [jst_eq, jst_ne, jst_ni, jst_o, jI_i, jcpy_out, w32_id, jdiv_nn] at * <;> first | done | omega | assumption) | (intros; first | rfl | (exfalso; omega) | ((repeat' apply And.intro) <;> first | assumption | rfl | omega | trivial)))) (by exact p2) (by (first | assumption | omega | ((try dsimp only [jt2, jt3, jt4]); first | omega | (simp (disch := omega) only [jst_eq, jst_ne, jst_ni, jst_o, jI_i, jcpy_out, w32_id, jdiv_nn, jshr_k, jand_255] <;> first | done | omega | assumption)) | (intros; simp (disch := omega) only [jst_eq, jst_ne, jst_ni, jst_o, jI_i, jcpy_out, w32_id, jdiv_nn, *] <;> first | done | omega) | (intros; simp (disch := omega) only [jst_eq, jst_ne, jst_ni, jst_o, jI_i, jcpy_out, w32_id, jdiv_nn] at * <;> first | done | omega | assumption) | (intros; first | rfl | (exfalso; omega) | ((repeat' apply And.intro) <;> first | assumption | rfl | omega | trivial))))) (fun r r2 => ?_)
        rcases r with r | r
        · skip
          have r3 := r2; clear r2; dsimp only [Sum.elim_inl, Sum.elim_inr] at r3
          obtain ⟨y1, y2⟩ := r
          try dsimp only [Sum.elim_inl, Sum.elim_inr, jt2, jt3, jt4, jt5, jt6, jt7, jt8] at r3
          obtain ⟨cc2, ms2, fr2⟩ := r3
          try simp (disch := omega) only [jst_eq, jst_ne, jst_ni, jI_i, jcmp_lt, jcmp_gt, w32_id, jcpy_out, Sum.elim_inl, Sum.elim_inr, jt2, jt3, jt4, jt5, jt6, jt7, jt8] at cc2
          try simp (disch := omega) only [jst_eq, jst_ne, jst_ni, jI_i, jcmp_lt, jcmp_gt, w32_id, jcpy_out, Sum.elim_inl, Sum.elim_inr, jt2, jt3, jt4, jt5, jt6, jt7, jt8] at ms2
          try simp (disch := omega) only [jst_eq, jst_ne, jst_ni, jI_i, jcmp_lt, jcmp_gt, w32_id, jcpy_out, Sum.elim_inl, Sum.elim_inr, jt2, jt3, jt4, jt5, jt6, jt7, jt8] at fr2
          try dsimp only [Sum.elim_inl, Sum.elim_inr, jt2, jt3, jt4, jt5, jt6, jt7, jt8]
          refine ⟨?_, ?_⟩
          · try dsimp only [Sum.elim_inl, Sum.elim_inr, jt2, jt3, jt4, jt5, jt6, jt7, jt8]
            refine ⟨?_, ?_, ?_⟩
            · (first | assumption | omega | ((try dsimp only [jt2, jt3, jt4]); first | omega | (simp (disch := omega) only [jst_eq, jst_ne, jst_ni, jst_o, jI_i, jcpy_out, w32_id, jdiv_nn, jshr_k, jand_255] <;> first | done | omega | assumption)) | (intros; simp (disch := omega) only [jst_eq, jst_ne, jst_ni, jst_o, jI_i, jcpy_out, w32_id, jdiv_nn, *] <;> first | done | omega) | (intros; simp (disch := omega) only [jst_eq, jst_ne, jst_ni, jst_o, jI_i, jcpy_out, w32_id, jdiv_nn] at * <;> first | done | omega | assumption) | (intros; first | rfl | (exfalso; omega) | ((repeat' apply And.intro) <;> first | assumption | rfl | omega | trivial))) -- o12 e2i.1
            · (obtain ⟨cm, q3, en, ms⟩ := ms2; have nr := nx_r hB (by omega) p2.2.2.2 p2.2.1 (by rw [cm.1]; decide) en; obtain ⟨b1, b2, b3, b4, b5⟩ := bkT_f BK (by omega) fr2; exact ⟨q3, l ++ [T], k - 1, ms, by rw [PT.1 cm, en]; rfl, by omega, b1, by omega, b3, by omega, by omega⟩) -- o13 e2i.2
            · exact frMa_3 F12 (fr2 _ _ (by omega) (by omega)) (fun b s y1 y2 _ => fr2 b s y1 y2) -- o14 e2i.3
          · omega -- o15 e2m
        · skip
          have r4 := r2; clear r2; dsimp only [Sum.elim_inl, Sum.elim_inr] at r4
          rcases r with r | r
          · skip
            have r5 := r4; clear r4; dsimp only [Sum.elim_inl, Sum.elim_inr] at r5
            obtain ⟨y3, y4⟩ := r
            try dsimp only [Sum.elim_inl, Sum.elim_inr, jt2, jt3, jt4, jt5, jt6, jt7, jt8] at r5
            have cc3 := r5
            clear r5
            try simp (disch := omega) only [jst_eq, jst_ne, jst_ni, jI_i, jcmp_lt, jcmp_gt, w32_id, jcpy_out, Sum.elim_inl, Sum.elim_inr, jt2, jt3, jt4, jt5, jt6, jt7, jt8] at cc3
            try dsimp only [Sum.elim_inl, Sum.elim_inr, jt2, jt3, jt4, jt5, jt6, jt7, jt8]
            try dsimp only [Sum.elim_inl, Sum.elim_inr, jt2, jt3, jt4, jt5, jt6, jt7, jt8]
            refine ⟨?_, ?_⟩
            · (obtain ⟨cy, cn, ch⟩ := cc3; rw [ch, cy]; exact ⟨l ++ [T], q2, PT.2 cn, p2, BK⟩) -- o16 e3.1
            · (rw [cc3.2.2]; exact F12) -- o17 e3.2
          · skip
            have r6 := r4; clear r4; dsimp only [Sum.elim_inl, Sum.elim_inr] at r6
            obtain ⟨y5, y6⟩ := r
            try dsimp only [Sum.elim_inl, Sum.elim_inr, jt2, jt3, jt4, jt5, jt6, jt7, jt8] at r6
            obtain ⟨ms4, fr4⟩ := r6
            try simp (disch := omega) only [jst_eq, jst_ne, jst_ni, jI_i, jcmp_lt, jcmp_gt, w32_id, jcpy_out, Sum.elim_inl, Sum.elim_inr, jt2, jt3, jt4, jt5, jt6, jt7, jt8] at ms4
            try simp (disch := omega) only [jst_eq, jst_ne, jst_ni, jI_i, jcmp_lt, jcmp_gt, w32_id, jcpy_out, Sum.elim_inl, Sum.elim_inr, jt2, jt3, jt4, jt5, jt6, jt7, jt8] at fr4
            try dsimp only [Sum.elim_inl, Sum.elim_inr, jt2, jt3, jt4, jt5, jt6, jt7, jt8]
            try dsimp only [Sum.elim_inl, Sum.elim_inr, jt2, jt3, jt4, jt5, jt6, jt7, jt8]
            refine ⟨?_, ?_⟩
            · (obtain ⟨cm, t1, z, en, mf⟩ := ms4; exact ⟨z, by rw [PT.1 cm, en]; rfl, t1, mf⟩) -- o18 e4.1
            · (have e17 := fr4 454 17 (by omega) (by omega); obtain ⟨b1, b2, _⟩ := BK; have p22 := p2.2.2; have sl := szL_0 (l ++ [T]); exact ⟨frMa_3 F12 e17 (fun b s y1 y2 _ => fr4 b s y1 y2), by omega, by omega⟩) -- o19 e4.2
      · skip
        try simp (disch := omega) only [jst_eq, jst_ne, jst_ni, jI_i, jcmp_lt, jcmp_gt, w32_id, jcpy_out, Sum.elim_inl, Sum.elim_inr, jt2, jt3, jt4, jt5, jt6, jt7, jt8] at c2
        refine OK_jg (by (first | assumption | omega | ((try dsimp only [jt2, jt3, jt4]); first | omega | (simp (disch := omega) only [jst_eq, jst_ne, jst_ni, jst_o, jI_i, jcpy_out, w32_id, jdiv_nn, jshr_k, jand_255] <;> first | done | omega | assumption)) | (intros; simp (disch := omega) only [jst_eq, jst_ne, jst_ni, jst_o, jI_i, jcpy_out, w32_id, jdiv_nn, *] <;> first | done | omega) | (intros; simp (disch := omega) only [jst_eq, jst_ne, jst_ni, jst_o, jI_i, jcpy_out, w32_id, jdiv_nn] at * <;> first | done | omega | assumption) | (intros; first | rfl | (exfalso; omega) | ((repeat' apply And.intro) <;> first | assumption | rfl | omega | trivial)))) ?_ -- o20
        refine OK_jl ?_
        have F15 : ∀ a s, ¬ (a = i1 ∧ s = a2) → jst h12 i1 a2 v11 a s = h12 a s := fun a s y => jst_o y
        have V15 : jst h12 i1 a2 v11 i1 a2 = v11 := jst_eq
        generalize jst h12 i1 a2 v11 = g15 at *
        have E17 : g15 454 17 = h12 454 17 := F15 _ _ (by omega)
        have AG : ∀ lo hi, agM lo hi h12 g15 := fun lo hi => ⟨fun a s _ _ _ _ _ _ => F15 _ _ (by omega), fun s _ _ => F15 _ _ (by omega), fun s _ _ => F15 _ _ (by omega)⟩
        have X15 : tmsM g15 i1 D l := fun i i4 t e => by { obtain ⟨x1, x2⟩ := X12 i i4 t e; have il : i < l.length := (List.getElem?_eq_some_iff.mp e).1; have kk := szL_tk l i t e; have s1 := sz_pos t; have s0 := szL_0 (l.take i); rw [F15 i1 i (by omega)]; exact ⟨x1, rawM_ag (h := h12) (AG D (D + szL l)) (Int.le_refl _) (by omega) (by omega) (by omega) (by omega) x2⟩ }
        have BK : bkT q D i1 (l ++ [T]) (a2 + 1) q2 g15 := ⟨by omega, by omega, tmsM_a X15 (fun z => by rw [H4]; omega) (rawM_ag (h := h12) (AG (D + szL l) (D + szL l + sz T)) (Int.le_refl _) (Int.le_refl _) (by omega) (by omega) (by omega) p7), LN, by omega⟩
        have M15 : MS B n q2 g15 := MS_fr p2 (fun s s0 s1 => F15 _ _ (by omega))
        have T15 : TM B n g15 := TM_fr T12 (F15 _ _ (by omega)) (fun s => F15 _ _ (by omega))
        have F25 : frMa i1 D h0 g15 := frMa_3 F12 E17 (fun b s _ _ y => F15 b s (by omega))
        refine OK_mono (vX14_terms_j18_2 (B := B) (n := n) (q := q2) _ _ (by (first | assumption | omega | ((try dsimp only [jt2, jt3, jt4]); first | omega | (simp (disch := omega) only [jst_eq, jst_ne, jst_ni, jst_o, jI_i, jcpy_out, w32_id, jdiv_nn, jshr_k, jand_255] <;> first | done | omega | assumption)) | (intros; simp (disch := omega) only [jst_eq, jst_ne, jst_ni, jst_o, jI_i, jcpy_out, w32_id, jdiv_nn, *] <;> first | done | omega) | (intros; simp (disch := omega) only [jst_eq, jst_ne, jst_ni, jst_o, jI_i, jcpy_out, w32_id, jdiv_nn] at * <;> first | done | omega | assumption) | (intros; first | rfl | (exfalso; omega) | ((repeat' apply And.intro) <;> first | assumption | rfl | omega | trivial)))) (by (first | assumption | omega | ((try dsimp only [jt2, jt3, jt4]); first | omega | (simp (disch := omega) only [jst_eq, jst_ne, jst_ni, jst_o, jI_i, jcpy_out, w32_id, jdiv_nn, jshr_k, jand_255] <;> first | done | omega | assumption)) | (intros; simp (disch := omega) only [jst_eq, jst_ne, jst_ni, jst_o, jI_i, jcpy_out, w32_id, jdiv_nn, *] <;> first | done | omega) | (intros; simp (disch := omega) only [jst_eq, jst_ne, jst_ni, jst_o, jI_i, jcpy_out, w32_id, jdiv_nn] at * <;> first | done | omega | assumption) | (intros; first | rfl | (exfalso; omega) | ((repeat' apply And.intro) <;> first | assumption | rfl | omega | trivial)))) (by exact M15) (by (first | assumption | omega | ((try dsimp only [jt2, jt3, jt4]); first | omega | (simp (disch := omega) only [jst_eq, jst_ne, jst_ni, jst_o, jI_i, jcpy_out, w32_id, jdiv_nn, jshr_k, jand_255] <;> first | done | omega | assumption)) | (intros; simp (disch := omega) only [jst_eq, jst_ne, jst_ni, jst_o, jI_i, jcpy_out, w32_id, jdiv_nn, *] <;> first | done | omega) | (intros; simp (disch := omega) only [jst_eq, jst_ne, jst_ni, jst_o, jI_i, jcpy_out, w32_id, jdiv_nn] at * <;> first | done | omega | assumption) | (intros; first | rfl | (exfalso; omega) | ((repeat' apply And.intro) <;> first | assumption | rfl | omega | trivial))))) (fun r r7 => ?_)
        rcases r with r | r
        · skip
          have r8 := r7; clear r7; dsimp only [Sum.elim_inl, Sum.elim_inr] at r8
          obtain ⟨y7, y8⟩ := r
          try dsimp only [Sum.elim_inl, Sum.elim_inr, jt2, jt3, jt4, jt5, jt6, jt7, jt8] at r8
          obtain ⟨cc5, ms5, fr5⟩ := r8
          try simp (disch := omega) only [jst_eq, jst_ne, jst_ni, jI_i, jcmp_lt, jcmp_gt, w32_id, jcpy_out, Sum.elim_inl, Sum.elim_inr, jt2, jt3, jt4, jt5, jt6, jt7, jt8] at cc5
          try simp (disch := omega) only [jst_eq, jst_ne, jst_ni, jI_i, jcmp_lt, jcmp_gt, w32_id, jcpy_out, Sum.elim_inl, Sum.elim_inr, jt2, jt3, jt4, jt5, jt6, jt7, jt8] at ms5
          try simp (disch := omega) only [jst_eq, jst_ne, jst_ni, jI_i, jcmp_lt, jcmp_gt, w32_id, jcpy_out, Sum.elim_inl, Sum.elim_inr, jt2, jt3, jt4, jt5, jt6, jt7, jt8] at fr5
          try dsimp only [Sum.elim_inl, Sum.elim_inr, jt2, jt3, jt4, jt5, jt6, jt7, jt8]
          refine ⟨?_, ?_⟩
          · try dsimp only [Sum.elim_inl, Sum.elim_inr, jt2, jt3, jt4, jt5, jt6, jt7, jt8]
            refine ⟨?_, ?_, ?_⟩
            · (first | assumption | omega | ((try dsimp only [jt2, jt3, jt4]); first | omega | (simp (disch := omega) only [jst_eq, jst_ne, jst_ni, jst_o, jI_i, jcpy_out, w32_id, jdiv_nn, jshr_k, jand_255] <;> first | done | omega | assumption)) | (intros; simp (disch := omega) only [jst_eq, jst_ne, jst_ni, jst_o, jI_i, jcpy_out, w32_id, jdiv_nn, *] <;> first | done | omega) | (intros; simp (disch := omega) only [jst_eq, jst_ne, jst_ni, jst_o, jI_i, jcpy_out, w32_id, jdiv_nn] at * <;> first | done | omega | assumption) | (intros; first | rfl | (exfalso; omega) | ((repeat' apply And.intro) <;> first | assumption | rfl | omega | trivial))) -- o25 e5i.1
            · (obtain ⟨cm, q3, en, ms⟩ := ms5; have nr := nx_r hB (by omega) p2.2.2.2 p2.2.1 (by rw [cm.1]; decide) en; obtain ⟨b1, b2, b3, b4, b5⟩ := bkT_f BK (by omega) fr5; exact ⟨q3, l ++ [T], k - 1, ms, by rw [PT.1 cm, en]; rfl, by omega, b1, by omega, b3, by omega, by omega⟩) -- o26 e5i.2
            · exact frMa_3 F25 (fr5 _ _ (by omega) (by omega)) (fun b s y1 y2 _ => fr5 b s y1 y2) -- o27 e5i.3
          · omega -- o28 e5m
        · skip
          have r9 := r7; clear r7; dsimp only [Sum.elim_inl, Sum.elim_inr] at r9
          rcases r with r | r
          · skip
            have r10 := r9; clear r9; dsimp only [Sum.elim_inl, Sum.elim_inr] at r10
            obtain ⟨y9, y10⟩ := r
            try dsimp only [Sum.elim_inl, Sum.elim_inr, jt2, jt3, jt4, jt5, jt6, jt7, jt8] at r10
            have cc6 := r10
            clear r10
            try simp (disch := omega) only [jst_eq, jst_ne, jst_ni, jI_i, jcmp_lt, jcmp_gt, w32_id, jcpy_out, Sum.elim_inl, Sum.elim_inr, jt2, jt3, jt4, jt5, jt6, jt7, jt8] at cc6
            try dsimp only [Sum.elim_inl, Sum.elim_inr, jt2, jt3, jt4, jt5, jt6, jt7, jt8]
            try dsimp only [Sum.elim_inl, Sum.elim_inr, jt2, jt3, jt4, jt5, jt6, jt7, jt8]
            refine ⟨?_, ?_⟩
            · (obtain ⟨cy, cn, ch⟩ := cc6; rw [ch, cy]; exact ⟨l ++ [T], q2, PT.2 cn, M15, BK⟩) -- o29 e6.1
            · (rw [cc6.2.2]; exact F25) -- o30 e6.2
          · skip
            have r11 := r9; clear r9; dsimp only [Sum.elim_inl, Sum.elim_inr] at r11
            obtain ⟨y11, y12⟩ := r
            try dsimp only [Sum.elim_inl, Sum.elim_inr, jt2, jt3, jt4, jt5, jt6, jt7, jt8] at r11
            obtain ⟨ms7, fr7⟩ := r11
            try simp (disch := omega) only [jst_eq, jst_ne, jst_ni, jI_i, jcmp_lt, jcmp_gt, w32_id, jcpy_out, Sum.elim_inl, Sum.elim_inr, jt2, jt3, jt4, jt5, jt6, jt7, jt8] at ms7
            try simp (disch := omega) only [jst_eq, jst_ne, jst_ni, jI_i, jcmp_lt, jcmp_gt, w32_id, jcpy_out, Sum.elim_inl, Sum.elim_inr, jt2, jt3, jt4, jt5, jt6, jt7, jt8] at fr7
            try dsimp only [Sum.elim_inl, Sum.elim_inr, jt2, jt3, jt4, jt5, jt6, jt7, jt8]
            try dsimp only [Sum.elim_inl, Sum.elim_inr, jt2, jt3, jt4, jt5, jt6, jt7, jt8]
            refine ⟨?_, ?_⟩
            · (obtain ⟨cm, t1, z, en, mf⟩ := ms7; exact ⟨z, by rw [PT.1 cm, en]; rfl, t1, mf⟩) -- o31 e7.1
            · (have e17 := fr7 454 17 (by omega) (by omega); obtain ⟨b1, b2, _⟩ := BK; have p22 := p2.2.2; have sl := szL_0 (l ++ [T]); exact ⟨frMa_3 F25 e17 (fun b s y1 y2 _ => fr7 b s y1 y2), by omega, by omega⟩) -- o32 e7.2
  · try dsimp only [Sum.elim_inl, Sum.elim_inr, jt2, jt3, jt4, jt5, jt6, jt7, jt8]
    refine ⟨?_, ?_, ?_⟩
    · (first | assumption | omega | ((try dsimp only [jt2, jt3, jt4]); first | omega | (simp (disch := omega) only [jst_eq, jst_ne, jst_ni, jst_o, jI_i, jcpy_out, w32_id, jdiv_nn, jshr_k, jand_255] <;> first | done | omega | assumption)) | (intros; simp (disch := omega) only [jst_eq, jst_ne, jst_ni, jst_o, jI_i, jcpy_out, w32_id, jdiv_nn, *] <;> first | done | omega) | (intros; simp (disch := omega) only [jst_eq, jst_ne, jst_ni, jst_o, jI_i, jcpy_out, w32_id, jdiv_nn] at * <;> first | done | omega | assumption) | (intros; first | rfl | (exfalso; omega) | ((repeat' apply And.intro) <;> first | assumption | rfl | omega | trivial))) -- o33 init.1
    · (rw [h1]; exact ⟨q, [], 2002, m, rfl, by omega, (by show h0 454 17 = D + 0; omega), (by show 2 * 0 ≤ q - q; omega), (fun i i4 t e => by cases e), rfl, by omega⟩) -- o34 init.2
    · exact frMa_r -- o35 init.3
theorem vX14_terms (a1 : Int) {h : AH} {B : Int → Int} {n q : Int} (hB : ∀ i, 0 ≤ i → i < n → 0 ≤ B i ∧ B i < 256) (t : TM B n h) (m : MS B n q h) (ar : isA4 a1 ∧ h a1 (-2) = 101 ∧ h a1 (-1) = 4) (d0 : 0 ≤ h 454 17 ∧ h 454 17 ≤ 5000) : OK (gX14_terms a1 h) (fun r => jt3 r fun t y h' => ((t = 0 ∧ ∃ l q2, pTs B n q = .inr (l, q2) ∧ MS B n q2 h' ∧ bkT q (h 454 17) a1 l y q2 h') ∨ (t = 472 ∧ ∃ z, pTs B n q = .inl z ∧ MF z h')) ∧ (frMa a1 (h 454 17) h h' ∧ h 454 17 ≤ h' 454 17 ∧ 2 * (h' 454 17 - h 454 17) ≤ n - q + 2)) := by
  unfold gX14_terms
  refine OK_jb (vX14_terms_l2 (B := B) (n := n) (q := q) (D := h 454 17) _ _ (by (first | assumption | omega | ((try dsimp only [jt2, jt3, jt4]); first | omega | (simp (disch := omega) only [jst_eq, jst_ne, jst_ni, jst_o, jI_i, jcpy_out, w32_id, jdiv_nn, jshr_k, jand_255] <;> first | done | omega | assumption)) | (intros; simp (disch := omega) only [jst_eq, jst_ne, jst_ni, jst_o, jI_i, jcpy_out, w32_id, jdiv_nn, *] <;> first | done | omega) | (intros; simp (disch := omega) only [jst_eq, jst_ne, jst_ni, jst_o, jI_i, jcpy_out, w32_id, jdiv_nn] at * <;> first | done | omega | assumption) | (intros; first | rfl | (exfalso; omega) | ((repeat' apply And.intro) <;> first | assumption | rfl | omega | trivial)))) (by (first | assumption | omega | ((try dsimp only [jt2, jt3, jt4]); first | omega | (simp (disch := omega) only [jst_eq, jst_ne, jst_ni, jst_o, jI_i, jcpy_out, w32_id, jdiv_nn, jshr_k, jand_255] <;> first | done | omega | assumption)) | (intros; simp (disch := omega) only [jst_eq, jst_ne, jst_ni, jst_o, jI_i, jcpy_out, w32_id, jdiv_nn, *] <;> first | done | omega) | (intros; simp (disch := omega) only [jst_eq, jst_ne, jst_ni, jst_o, jI_i, jcpy_out, w32_id, jdiv_nn] at * <;> first | done | omega | assumption) | (intros; first | rfl | (exfalso; omega) | ((repeat' apply And.intro) <;> first | assumption | rfl | omega | trivial)))) (by (first | assumption | omega | ((try dsimp only [jt2, jt3, jt4]); first | omega | (simp (disch := omega) only [jst_eq, jst_ne, jst_ni, jst_o, jI_i, jcpy_out, w32_id, jdiv_nn, jshr_k, jand_255] <;> first | done | omega | assumption)) | (intros; simp (disch := omega) only [jst_eq, jst_ne, jst_ni, jst_o, jI_i, jcpy_out, w32_id, jdiv_nn, *] <;> first | done | omega) | (intros; simp (disch := omega) only [jst_eq, jst_ne, jst_ni, jst_o, jI_i, jcpy_out, w32_id, jdiv_nn] at * <;> first | done | omega | assumption) | (intros; first | rfl | (exfalso; omega) | ((repeat' apply And.intro) <;> first | assumption | rfl | omega | trivial)))) (by (first | assumption | omega | ((try dsimp only [jt2, jt3, jt4]); first | omega | (simp (disch := omega) only [jst_eq, jst_ne, jst_ni, jst_o, jI_i, jcpy_out, w32_id, jdiv_nn, jshr_k, jand_255] <;> first | done | omega | assumption)) | (intros; simp (disch := omega) only [jst_eq, jst_ne, jst_ni, jst_o, jI_i, jcpy_out, w32_id, jdiv_nn, *] <;> first | done | omega) | (intros; simp (disch := omega) only [jst_eq, jst_ne, jst_ni, jst_o, jI_i, jcpy_out, w32_id, jdiv_nn] at * <;> first | done | omega | assumption) | (intros; first | rfl | (exfalso; omega) | ((repeat' apply And.intro) <;> first | assumption | rfl | omega | trivial)))) (by exact ⟨rfl, d0.1, d0.2⟩) (by (first | assumption | omega | ((try dsimp only [jt2, jt3, jt4]); first | omega | (simp (disch := omega) only [jst_eq, jst_ne, jst_ni, jst_o, jI_i, jcpy_out, w32_id, jdiv_nn, jshr_k, jand_255] <;> first | done | omega | assumption)) | (intros; simp (disch := omega) only [jst_eq, jst_ne, jst_ni, jst_o, jI_i, jcpy_out, w32_id, jdiv_nn, *] <;> first | done | omega) | (intros; simp (disch := omega) only [jst_eq, jst_ne, jst_ni, jst_o, jI_i, jcpy_out, w32_id, jdiv_nn] at * <;> first | done | omega | assumption) | (intros; first | rfl | (exfalso; omega) | ((repeat' apply And.intro) <;> first | assumption | rfl | omega | trivial))))) (fun o1 r1 => ?_)
  rcases o1 with o3 | o4
  · skip
    have r2 := r1; clear r1
    dsimp only [Sum.elim_inl, Sum.elim_inr] at r2
    refine OK_jml ?_
    obtain ⟨y5, h6⟩ := o3
    refine OK_jt2 ?_
    try dsimp only [Sum.elim_inl, Sum.elim_inr, jt2, jt3, jt4, jt5, jt6, jt7, jt8] at r2
    obtain ⟨ok1, fr1⟩ := r2
    try simp (disch := omega) only [jst_eq, jst_ne, jst_ni, jI_i, jcmp_lt, jcmp_gt, w32_id, jcpy_out, Sum.elim_inl, Sum.elim_inr, jt2, jt3, jt4, jt5, jt6, jt7, jt8] at ok1
    try simp (disch := omega) only [jst_eq, jst_ne, jst_ni, jI_i, jcmp_lt, jcmp_gt, w32_id, jcpy_out, Sum.elim_inl, Sum.elim_inr, jt2, jt3, jt4, jt5, jt6, jt7, jt8] at fr1
    refine OK_some ?_
    try dsimp only [Sum.elim_inl, Sum.elim_inr, jt2, jt3, jt4, jt5, jt6, jt7, jt8]
    try dsimp only [Sum.elim_inl, Sum.elim_inr, jt2, jt3, jt4, jt5, jt6, jt7, jt8]
    refine ⟨?_, ?_⟩
    · exact Or.inl ⟨rfl, ok1⟩ -- o7 e1.1
    · (obtain ⟨l, q2, e, ms, b1, b2, _⟩ := ok1; have := ms.2.2.2; have := szL_0 l; exact ⟨fr1, by omega, by omega⟩) -- o8 e1.2
  · skip
    have r3 := r1; clear r1
    dsimp only [Sum.elim_inl, Sum.elim_inr] at r3
    refine OK_jmr ?_
    obtain ⟨y7, h8⟩ := o4
    refine OK_jt2 ?_
    try dsimp only [Sum.elim_inl, Sum.elim_inr, jt2, jt3, jt4, jt5, jt6, jt7, jt8] at r3
    obtain ⟨bz2, fr2⟩ := r3
    try simp (disch := omega) only [jst_eq, jst_ne, jst_ni, jI_i, jcmp_lt, jcmp_gt, w32_id, jcpy_out, Sum.elim_inl, Sum.elim_inr, jt2, jt3, jt4, jt5, jt6, jt7, jt8] at bz2
    try simp (disch := omega) only [jst_eq, jst_ne, jst_ni, jI_i, jcmp_lt, jcmp_gt, w32_id, jcpy_out, Sum.elim_inl, Sum.elim_inr, jt2, jt3, jt4, jt5, jt6, jt7, jt8] at fr2
    refine OK_jg (by (first | assumption | omega | ((try dsimp only [jt2, jt3, jt4]); first | omega | (simp (disch := omega) only [jst_eq, jst_ne, jst_ni, jst_o, jI_i, jcpy_out, w32_id, jdiv_nn, jshr_k, jand_255] <;> first | done | omega | assumption)) | (intros; simp (disch := omega) only [jst_eq, jst_ne, jst_ni, jst_o, jI_i, jcpy_out, w32_id, jdiv_nn, *] <;> first | done | omega) | (intros; simp (disch := omega) only [jst_eq, jst_ne, jst_ni, jst_o, jI_i, jcpy_out, w32_id, jdiv_nn] at * <;> first | done | omega | assumption) | (intros; first | rfl | (exfalso; omega) | ((repeat' apply And.intro) <;> first | assumption | rfl | omega | trivial)))) ?_ -- o9
    refine OK_some ?_
    try dsimp only [Sum.elim_inl, Sum.elim_inr, jt2, jt3, jt4, jt5, jt6, jt7, jt8]
    try dsimp only [Sum.elim_inl, Sum.elim_inr, jt2, jt3, jt4, jt5, jt6, jt7, jt8]
    refine ⟨?_, ?_⟩
    · (obtain ⟨z, e, t1, t2⟩ := bz2; exact Or.inr ⟨t1, z, e, t2⟩) -- o10 e2.1
    · (first | assumption | omega | ((try dsimp only [jt2, jt3, jt4]); first | omega | (simp (disch := omega) only [jst_eq, jst_ne, jst_ni, jst_o, jI_i, jcpy_out, w32_id, jdiv_nn, jshr_k, jand_255] <;> first | done | omega | assumption)) | (intros; simp (disch := omega) only [jst_eq, jst_ne, jst_ni, jst_o, jI_i, jcpy_out, w32_id, jdiv_nn, *] <;> first | done | omega) | (intros; simp (disch := omega) only [jst_eq, jst_ne, jst_ni, jst_o, jI_i, jcpy_out, w32_id, jdiv_nn] at * <;> first | done | omega | assumption) | (intros; first | rfl | (exfalso; omega) | ((repeat' apply And.intro) <;> first | assumption | rfl | omega | trivial))) -- o11 e2.2

