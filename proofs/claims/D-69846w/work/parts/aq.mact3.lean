/-! m: an act comes -/
def maF (B : Int → Int) (n : Int) (E : EV) (v : Int) (h' : AH) : Prop := match bS (beg B n) (pOw B n) with
  | .inl z => v = -11 ∧ h' 454 55 = z
  | .inr (q, l, kr, T) => min (nkE B n E q) (keyE (EL E l) kr T) ≠ 1000000 ∧ v = -10 - min (nkE B n E q) (keyE (EL E l) kr T) % 8 ∧ h' 454 55 = min (nkE B n E q) (keyE (EL E l) kr T) / 8 ∧ 1 ≤ min (nkE B n E q) (keyE (EL E l) kr T) % 8 ∧ min (nkE B n E q) (keyE (EL E l) kr T) % 8 ≤ 6
def maT (B : Int → Int) (n : Int) (E : EV) (q : Int) (l : List Int) (kr : Int) (T : TR) (h : AH) : Prop := h 454 68 = (l.length : Int) ∧ (∀ k, 0 ≤ k → k < (l.length : Int) → h 794 k = kch (kL l k)) ∧ h 454 66 = kch kr ∧ h 454 69 = 4400 ∧ resM h (rsE (EL E l) T 0) 4400 0 ∧ rawS h T 4400 0 4401 (-1) ∧ sz T ≤ 1100 ∧ h 454 67 = tV B n q
theorem ma_cs {B : Int → Int} {n t : Int} {E : EV} {h : AH} (o : vMo B n E 1000000 (bS (beg B n) (pOw B n)) t h) : (t = 472 ∧ (1 ≤ h 472 6 ∧ h 472 6 ≤ 6) ∧ ∀ (v : Int) (h' : AH), v = -10 - h 472 6 → h' 454 55 = h 472 7 → maF B n E v h') ∨ (t = 0 ∧ ∃ q l kr T, xaO B n E q l kr T ∧ maT B n E q l kr T h) := by
  cases e : bS (beg B n) (pOw B n) with
  | inl z =>
    rw [e] at o
    have o : t = 472 ∧ h 472 6 = 1 ∧ h 472 7 = z := o
    refine Or.inl ⟨o.1, by omega, fun v h' w1 w2 => ?_⟩
    unfold maF; rw [e]
    show v = -11 ∧ h' 454 55 = z
    exact ⟨by omega, by omega⟩
  | inr x =>
    obtain ⟨q, l, kr, T⟩ := x
    rw [e] at o
    have o : (resK (min (min 1000000 (nkE B n E q)) (keyE (EL E l) kr T)) t h ∧ (min (min 1000000 (nkE B n E q)) (keyE (EL E l) kr T) = 1000000 → h 454 68 = (l.length : Int) ∧ (∀ k, 0 ≤ k → k < (l.length : Int) → h 794 k = kch (kL l k) ∧ 0 ≤ kL l k ∧ kL l k ≤ 2) ∧ h 454 66 = kch kr ∧ h 454 69 = 4400 ∧ resM h (rsE (EL E l) T 0) 4400 0 ∧ rawS h T 4400 0 4401 (-1) ∧ sz T ≤ 1100)) ∧ h 454 67 = tV B n q := o
    rw [Int.min_eq_right nkE_le] at o
    obtain ⟨⟨⟨r1, r2⟩, o2⟩, o3⟩ := o
    by_cases c : min (nkE B n E q) (keyE (EL E l) kr T) = 1000000
    · obtain ⟨a1, a2, a3, a4, a5, a6, a7⟩ := o2 c
      exact Or.inr ⟨r1 c, q, l, kr, T, ⟨e, c⟩, ⟨a1, fun k k0 k1 => (a2 k k0 k1).1, a3, a4, a5, a6, a7, o3⟩⟩
    · obtain ⟨t1, t2, t3, t4, t5, _⟩ := r2 c
      refine Or.inl ⟨t1, by omega, fun v h' w1 w2 => ?_⟩
      unfold maF; rw [e]
      show min (nkE B n E q) (keyE (EL E l) kr T) ≠ 1000000 ∧ v = -10 - min (nkE B n E q) (keyE (EL E l) kr T) % 8 ∧ h' 454 55 = min (nkE B n E q) (keyE (EL E l) kr T) / 8 ∧ 1 ≤ min (nkE B n E q) (keyE (EL E l) kr T) % 8 ∧ min (nkE B n E q) (keyE (EL E l) kr T) % 8 ≤ 6
      exact ⟨c, by rw [w1, t2], by rw [w2, t3], t4, t5⟩
def lgMa (B : Int → Int) (n c : Int) (h h' : AH) : Prop := h' 454 156 = h 454 156 + 3 + n ∧ h' 454 154 = h 454 154 + 1 ∧ (h' 872 (h 454 156) = c ∧ h' 872 (h 454 156 + 1) = n / 256 ∧ h' 872 (h 454 156 + 2) = n % 256) ∧ ∀ k, 0 ≤ k → k < n → h' 872 (h 454 156 + 3 + k) = B k
def nwM (E : EV) (w kr : Int) (l : List Int) (T : TR) (h' : AH) : Prop := h' 454 5 = E.1.1 + 1 ∧ h' 455 E.1.1 = w ∧ h' 456 E.1.1 = (l.length : Int) ∧ (∀ k, 0 ≤ k → k < (l.length : Int) → h' 457 (3 * E.1.1 + k) = kch (kL l k)) ∧ h' 458 E.1.1 = kch kr ∧ h' 459 E.1.1 = adN E.1.1 ∧ resQ h' (rgN (adN E.1.1) (sz T)) (rsE (EL E l) T 0) (adN E.1.1) 0
def frMr (h h' : AH) : Prop := ∀ a s, ¬ (a = 454 ∧ (s = 17 ∨ (25 ≤ s ∧ s ≤ 31) ∨ s = 34 ∨ s = 35 ∨ s = 51 ∨ s = 53 ∨ s = 55 ∨ (66 ≤ s ∧ s ≤ 69))) → ¬ (a = 472 ∧ (s = 6 ∨ s = 7)) → ¬ (a = 473 ∧ 0 ≤ s ∧ s < 2000) → ¬ (460 ≤ a ∧ a ≤ 470 ∧ a ≠ 464 ∧ 4400 ≤ s ∧ s < 5500) → ¬ (a = 464 ∧ 13200 ≤ s ∧ s < 16500) → ¬ ((a = 474 ∨ a = 475 ∨ a = 794) ∧ 0 ≤ s ∧ s < 3) → h' a s = h a s
def frMn (N z : Int) (h h' : AH) : Prop := ∀ a s, ¬ (a = 454 ∧ (s = 5 ∨ s = 17 ∨ (25 ≤ s ∧ s ≤ 31) ∨ s = 34 ∨ s = 35 ∨ s = 51 ∨ s = 53 ∨ s = 55 ∨ (66 ≤ s ∧ s ≤ 69) ∨ s = 154 ∨ s = 156)) → ¬ (a = 472 ∧ (s = 6 ∨ s = 7)) → ¬ (a = 473 ∧ 0 ≤ s ∧ s < 2000) → ¬ (460 ≤ a ∧ a ≤ 470 ∧ a ≠ 464 ∧ 4400 ≤ s ∧ s < 5500) → ¬ (a = 464 ∧ 13200 ≤ s ∧ s < 16500) → ¬ ((a = 474 ∨ a = 475 ∨ a = 794) ∧ 0 ≤ s ∧ s < 3) → ¬ (a = 872 ∧ h 454 156 ≤ s) → ¬ ((a = 455 ∨ a = 456 ∨ a = 458 ∨ a = 459) ∧ s = N) → ¬ (a = 457 ∧ 3 * N ≤ s ∧ s < 3 * N + 3) → ¬ (460 ≤ a ∧ a ≤ 469 ∧ a ≠ 464 ∧ adN N ≤ s ∧ s < adN N + z) → ¬ (a = 464 ∧ 3 * adN N ≤ s ∧ s < 3 * (adN N + z)) → h' a s = h a s
def maR (B : Int → Int) (n : Int) (E : EV) (h h' : AH) (v : Int) : Prop := (v < 0 ∧ maF B n E v h' ∧ frMr h h') ∨ ∃ q l kr T, xaO B n E q l kr T ∧ owGd E l kr T ∧ ¬ tkN E (tV B n q) ∧ ((v = -3 ∧ 200 - h 454 160 < (h 454 156 + n + 123) / 121 ∧ frMr h h') ∨ ((h 454 156 + n + 123) / 121 ≤ 200 - h 454 160 ∧ v = E.1.1 - 25 ∧ lgMa B n 1 h h' ∧ nwM E (tV B n q) kr l T h' ∧ frMn E.1.1 (sz T) h h'))
theorem frMn_mk {h h10 h19 h21 : AH} {N z : Int} (F10 : ∀ a s, ¬ (a = 454 ∧ (s = 17 ∨ (25 ≤ s ∧ s ≤ 31) ∨ s = 34 ∨ s = 35 ∨ s = 51 ∨ s = 53 ∨ (66 ≤ s ∧ s ≤ 69))) → ¬ (a = 472 ∧ (s = 6 ∨ s = 7)) → ¬ (a = 473 ∧ 0 ≤ s ∧ s < 2000) → ¬ (460 ≤ a ∧ a ≤ 470 ∧ a ≠ 464 ∧ 4400 ≤ s ∧ s < 5500) → ¬ (a = 464 ∧ 13200 ≤ s ∧ s < 16500) → ¬ ((a = 474 ∨ a = 475 ∨ a = 794) ∧ 0 ≤ s ∧ s < 3) → h10 a s = h a s) (F19 : ∀ a s, ¬ (a = 454 ∧ (s = 154 ∨ s = 156)) → ¬ (a = 872 ∧ h 454 156 ≤ s) → h19 a s = h10 a s) (f7 : ∀ b s, ¬ (b = 454 ∧ (s = 5 ∨ s = 17)) → ¬ ((b = 455 ∨ b = 456 ∨ b = 458 ∨ b = 459) ∧ s = N) → ¬ (b = 457 ∧ 3 * N ≤ s ∧ s < 3 * N + 3) → ¬ (460 ≤ b ∧ b ≤ 469 ∧ b ≠ 464 ∧ adN N ≤ s ∧ s < adN N + z) → ¬ (b = 464 ∧ 3 * adN N ≤ s ∧ s < 3 * (adN N + z)) → h21 b s = h19 b s) : frMn N z h h21 := fun a s y1 y2 y3 y4 y5 y6 y7 y8 y9 y10 y11 => (f7 a s (by clear y2 y3 y4 y5 y6 y7 y8 y9 y10 y11; omega) y8 y9 y10 y11).trans ((F19 a s (by clear y2 y3 y4 y5 y6 y7 y8 y9 y10 y11; omega) y7).trans (F10 a s (by clear y2 y3 y4 y5 y6 y7 y8 y9 y10 y11; omega) y2 y3 y4 y5 y6))
theorem vX14_act {h : AH} {B : Int → Int} {n : Int} {E : EV} {Rf : Int → TR} (hB : ∀ i, 0 ≤ i → i < n → 0 ≤ B i ∧ B i < 256) (tb : n = h 454 53 ∧ 0 ≤ n ∧ n ≤ 2000 ∧ ∀ i, 0 ≤ i → i < n → h 790 i = B i) (om : ownsM h E Rf ∧ (0 ≤ h 454 35 ∧ h 454 35 ≤ 2000)) (l0 : E.2.2.1 = 0) (ar : h 794 (-2) = 101 ∧ h 794 (-1) = 3 ∧ h 473 (-2) = 101 ∧ h 473 (-1) = 2000) (dn : h 454 54 = 0 ∨ h 454 54 = 1) (lg : 0 ≤ h 454 156 ∧ h 454 156 ≤ 24200 ∧ 0 ≤ h 454 160 ∧ h 454 160 ≤ 200 ∧ 0 ≤ h 454 154 ∧ h 454 154 ≤ 1000000) : OK (gX14_act h) (fun r => jt2 r fun v h' => (h 454 54 = 1 → v = -5 ∧ h' = jst h 454 51 0) ∧ (h 454 54 = 0 → maR B n E h h' v)) := by
  have T1 := tb.2.1
  have T2 := tb.2.2.1
  unfold gX14_act
  refine OK_jb2 (vX14_isDown (by (first | assumption | omega | ((try dsimp only [jt2, jt3, jt4]); first | omega | (simp (disch := omega) only [jst_eq, jst_ne, jst_ni, jst_o, jI_i, jcpy_out, w32_id, jdiv_nn, jshr_k, jand_255] <;> first | done | omega | assumption)) | (intros; simp (disch := omega) only [jst_eq, jst_ne, jst_ni, jst_o, jI_i, jcpy_out, w32_id, jdiv_nn, *] <;> first | done | omega) | (intros; simp (disch := omega) only [jst_eq, jst_ne, jst_ni, jst_o, jI_i, jcpy_out, w32_id, jdiv_nn] at * <;> first | done | omega | assumption) | (intros; first | rfl | (exfalso; omega) | ((repeat' apply And.intro) <;> first | assumption | rfl | omega | trivial))))) (fun v2 h3 r1 => ?_)
  try dsimp only [Sum.elim_inl, Sum.elim_inr, jt2, jt3, jt4, jt5, jt6, jt7, jt8] at r1
  obtain ⟨dv1, dh1⟩ := r1
  try simp (disch := omega) only [jst_eq, jst_ne, jst_ni, jI_i, jcmp_lt, jcmp_gt, w32_id, jcpy_out, Sum.elim_inl, Sum.elim_inr, jt2, jt3, jt4, jt5, jt6, jt7, jt8] at dv1
  try simp (disch := omega) only [jst_eq, jst_ne, jst_ni, jI_i, jcmp_lt, jcmp_gt, w32_id, jcpy_out, Sum.elim_inl, Sum.elim_inr, jt2, jt3, jt4, jt5, jt6, jt7, jt8] at dh1
  have F3 : ∀ a s, ¬ (a = 454 ∧ s = 51) → h3 a s = h a s := fun a s y => by { rw [dh1]; exact jst_o y }
  have n53 : h3 454 53 = n := by { rw [F3 _ _ (by omega)]; exact tb.1.symm }
  refine OK_if (fun c1 => ?_) (fun c1 => ?_)
  · skip
    try simp (disch := omega) only [jst_eq, jst_ne, jst_ni, jI_i, jcmp_lt, jcmp_gt, w32_id, jcpy_out, Sum.elim_inl, Sum.elim_inr, jt2, jt3, jt4, jt5, jt6, jt7, jt8] at c1
    refine OK_jb (vX14_takeTape (by (rw [n53]; exact ⟨T1, T2⟩))) (fun h6 r2 => ?_)
    try dsimp only [Sum.elim_inl, Sum.elim_inr, jt2, jt3, jt4, jt5, jt6, jt7, jt8] at r2
    obtain ⟨z2, b2, fr2⟩ := r2
    try simp (disch := omega) only [jst_eq, jst_ne, jst_ni, jI_i, jcmp_lt, jcmp_gt, w32_id, jcpy_out, Sum.elim_inl, Sum.elim_inr, jt2, jt3, jt4, jt5, jt6, jt7, jt8] at z2
    try simp (disch := omega) only [jst_eq, jst_ne, jst_ni, jI_i, jcmp_lt, jcmp_gt, w32_id, jcpy_out, Sum.elim_inl, Sum.elim_inr, jt2, jt3, jt4, jt5, jt6, jt7, jt8] at b2
    try simp (disch := omega) only [jst_eq, jst_ne, jst_ni, jI_i, jcmp_lt, jcmp_gt, w32_id, jcpy_out, Sum.elim_inl, Sum.elim_inr, jt2, jt3, jt4, jt5, jt6, jt7, jt8] at fr2
    have F6 : ∀ a s, ¬ (a = 454 ∧ (s = 25 ∨ s = 51 ∨ s = 53)) → ¬ (a = 473 ∧ 0 ≤ s ∧ s < 2000) → h6 a s = h a s := fun a s y1 y2 => by { rw [fr2 a s y1 (by omega), F3 a s (by omega)] }
    have TM6 : TM B n h6 := ⟨by { rw [z2.2.2]; exact n53 }, T1, T2, fun i i0 i1 => by { rw [b2 i i0 (by omega), F3 _ _ (by omega)]; exact tb.2.2.2 i i0 i1 }⟩
    have OM6 : ownsM h6 E Rf := ownsM_fr om.1 (F6 _ _ (by omega) (by omega)) (fun a s a0 a1 => F6 _ _ (by omega) (by omega)) ⟨fun a s a0 a1 a2 a3 a4 => F6 _ _ (by omega) (by omega), fun s s0 s1 => F6 _ _ (by omega) (by omega)⟩
    have R6 : rdM B n E Rf h6 := ⟨TM6, OM6.1, OM6.2.2.2.2, OM6.2.2.1, l0, ⟨(F6 _ _ (by omega) (by omega)).trans ar.1, (F6 _ _ (by omega) (by omega)).trans ar.2.1⟩, by { rw [F6 _ _ (by omega) (by omega)]; exact om.2 }⟩
    refine OK_jb2 (vX14_readAct (B := B) (n := n) (E := E) (Rf := Rf) (by exact hB) (by exact R6)) (fun t8 h10 r3 => ?_)
    try dsimp only [Sum.elim_inl, Sum.elim_inr, jt2, jt3, jt4, jt5, jt6, jt7, jt8] at r3
    obtain ⟨vo3, fr3, c353⟩ := r3
    try simp (disch := omega) only [jst_eq, jst_ne, jst_ni, jI_i, jcmp_lt, jcmp_gt, w32_id, jcpy_out, Sum.elim_inl, Sum.elim_inr, jt2, jt3, jt4, jt5, jt6, jt7, jt8] at vo3
    try simp (disch := omega) only [jst_eq, jst_ne, jst_ni, jI_i, jcmp_lt, jcmp_gt, w32_id, jcpy_out, Sum.elim_inl, Sum.elim_inr, jt2, jt3, jt4, jt5, jt6, jt7, jt8] at fr3
    try simp (disch := omega) only [jst_eq, jst_ne, jst_ni, jI_i, jcmp_lt, jcmp_gt, w32_id, jcpy_out, Sum.elim_inl, Sum.elim_inr, jt2, jt3, jt4, jt5, jt6, jt7, jt8] at c353
    have F10 : ∀ a s, ¬ (a = 454 ∧ (s = 17 ∨ (25 ≤ s ∧ s ≤ 31) ∨ s = 34 ∨ s = 35 ∨ s = 51 ∨ s = 53 ∨ (66 ≤ s ∧ s ≤ 69))) → ¬ (a = 472 ∧ (s = 6 ∨ s = 7)) → ¬ (a = 473 ∧ 0 ≤ s ∧ s < 2000) → ¬ (460 ≤ a ∧ a ≤ 470 ∧ a ≠ 464 ∧ 4400 ≤ s ∧ s < 5500) → ¬ (a = 464 ∧ 13200 ≤ s ∧ s < 16500) → ¬ ((a = 474 ∨ a = 475 ∨ a = 794) ∧ 0 ≤ s ∧ s < 3) → h10 a s = h a s := fun a s y1 y2 y3 y4 y5 y6 => (fr3 a s (by omega) y2 y4 y5 y6).trans (F6 a s (by omega) y3)
    have CS := ma_cs vo3
    have A26 := om.1.2.1.1
    refine OK_jq (fun c2 => ?_) (fun c2 => ?_)
    · skip
      have CS := CS.resolve_right (fun z => c2 z.1)
      refine OK_jg (by (first | assumption | omega | ((try dsimp only [jt2, jt3, jt4]); first | omega | (simp (disch := omega) only [jst_eq, jst_ne, jst_ni, jst_o, jI_i, jcpy_out, w32_id, jdiv_nn, jshr_k, jand_255] <;> first | done | omega | assumption)) | (intros; simp (disch := omega) only [jst_eq, jst_ne, jst_ni, jst_o, jI_i, jcpy_out, w32_id, jdiv_nn, *] <;> first | done | omega) | (intros; simp (disch := omega) only [jst_eq, jst_ne, jst_ni, jst_o, jI_i, jcpy_out, w32_id, jdiv_nn] at * <;> first | done | omega | assumption) | (intros; first | rfl | (exfalso; omega) | ((repeat' apply And.intro) <;> first | assumption | rfl | omega | trivial)))) ?_ -- o5
      refine OK_jb2 (vX14_faulty _ (by exact ⟨CS.1, CS.2.1.1, CS.2.1.2⟩)) (fun v13 h14 r4 => ?_)
      try dsimp only [Sum.elim_inl, Sum.elim_inr, jt2, jt3, jt4, jt5, jt6, jt7, jt8] at r4
      obtain ⟨vv4, fr4⟩ := r4
      try simp (disch := omega) only [jst_eq, jst_ne, jst_ni, jI_i, jcmp_lt, jcmp_gt, w32_id, jcpy_out, Sum.elim_inl, Sum.elim_inr, jt2, jt3, jt4, jt5, jt6, jt7, jt8] at vv4
      try simp (disch := omega) only [jst_eq, jst_ne, jst_ni, jI_i, jcmp_lt, jcmp_gt, w32_id, jcpy_out, Sum.elim_inl, Sum.elim_inr, jt2, jt3, jt4, jt5, jt6, jt7, jt8] at fr4
      refine OK_some ?_
      try dsimp only [Sum.elim_inl, Sum.elim_inr, jt2, jt3, jt4, jt5, jt6, jt7, jt8]
      try dsimp only [Sum.elim_inl, Sum.elim_inr, jt2, jt3, jt4, jt5, jt6, jt7, jt8]
      refine ⟨?_, ?_⟩
      · (first | assumption | omega | ((try dsimp only [jt2, jt3, jt4]); first | omega | (simp (disch := omega) only [jst_eq, jst_ne, jst_ni, jst_o, jI_i, jcpy_out, w32_id, jdiv_nn, jshr_k, jand_255] <;> first | done | omega | assumption)) | (intros; simp (disch := omega) only [jst_eq, jst_ne, jst_ni, jst_o, jI_i, jcpy_out, w32_id, jdiv_nn, *] <;> first | done | omega) | (intros; simp (disch := omega) only [jst_eq, jst_ne, jst_ni, jst_o, jI_i, jcpy_out, w32_id, jdiv_nn] at * <;> first | done | omega | assumption) | (intros; first | rfl | (exfalso; omega) | ((repeat' apply And.intro) <;> first | assumption | rfl | omega | trivial))) -- o7 e1.1
      · exact fun _ => Or.inl ⟨by { have := CS.2.1; omega }, CS.2.2 _ _ vv4 (by { rw [fr4]; exact jst_eq }), fun a s y1 y2 y3 y4 y5 y6 => by { rw [fr4, jst_o (by omega)]; exact F10 a s (by omega) y2 y3 y4 y5 y6 }⟩ -- o8 e1.2
    · skip
      have CS := CS.resolve_left (fun z => by { have := z.1; omega })
      obtain ⟨_, q, l, kr, T, XO, XT⟩ := CS
      have GO := xaO_G om.1.2.1 l0 om.1.2.2.2.2.2.1 hB ⟨T1, T2⟩ XO
      obtain ⟨GO, TK, O1, S0⟩ := GO
      have N25 : h10 454 25 = n := (fr3 _ _ (by omega) (by omega) (by omega) (by omega) (by omega)).trans TM6.1
      have E156 : h10 454 156 = h 454 156 := F10 _ _ (by omega) (by omega) (by omega) (by omega) (by omega) (by omega)
      have E160 : h10 454 160 = h 454 160 := F10 _ _ (by omega) (by omega) (by omega) (by omega) (by omega) (by omega)
      have E154 : h10 454 154 = h 454 154 := F10 _ _ (by omega) (by omega) (by omega) (by omega) (by omega) (by omega)
      have E5 : h10 454 5 = E.1.1 := (F10 _ _ (by omega) (by omega) (by omega) (by omega) (by omega) (by omega)).trans om.1.1.1
      rw [N25]
      refine OK_jb (vX14_hasRoom _ (by (rw [E156]; omega)) (by (rw [E160]; omega)) (by omega)) (fun v16 r5 => ?_)
      try dsimp only [Sum.elim_inl, Sum.elim_inr, jt2, jt3, jt4, jt5, jt6, jt7, jt8] at r5
      have hr5 := r5
      clear r5
      try simp (disch := omega) only [jst_eq, jst_ne, jst_ni, jI_i, jcmp_lt, jcmp_gt, w32_id, jcpy_out, Sum.elim_inl, Sum.elim_inr, jt2, jt3, jt4, jt5, jt6, jt7, jt8] at hr5
      refine OK_if (fun c3 => ?_) (fun c3 => ?_)
      · skip
        try simp (disch := omega) only [jst_eq, jst_ne, jst_ni, jI_i, jcmp_lt, jcmp_gt, w32_id, jcpy_out, Sum.elim_inl, Sum.elim_inr, jt2, jt3, jt4, jt5, jt6, jt7, jt8] at c3
        have B5 := hr5.resolve_right (fun z => by { have := z.1; omega })
        refine OK_some ?_
        try dsimp only [Sum.elim_inl, Sum.elim_inr, jt2, jt3, jt4, jt5, jt6, jt7, jt8]
        try dsimp only [Sum.elim_inl, Sum.elim_inr, jt2, jt3, jt4, jt5, jt6, jt7, jt8]
        refine ⟨?_, ?_⟩
        · (first | assumption | omega | ((try dsimp only [jt2, jt3, jt4]); first | omega | (simp (disch := omega) only [jst_eq, jst_ne, jst_ni, jst_o, jI_i, jcpy_out, w32_id, jdiv_nn, jshr_k, jand_255] <;> first | done | omega | assumption)) | (intros; simp (disch := omega) only [jst_eq, jst_ne, jst_ni, jst_o, jI_i, jcpy_out, w32_id, jdiv_nn, *] <;> first | done | omega) | (intros; simp (disch := omega) only [jst_eq, jst_ne, jst_ni, jst_o, jI_i, jcpy_out, w32_id, jdiv_nn] at * <;> first | done | omega | assumption) | (intros; first | rfl | (exfalso; omega) | ((repeat' apply And.intro) <;> first | assumption | rfl | omega | trivial))) -- o12 e2.1
        · exact fun _ => Or.inr ⟨q, l, kr, T, XO, GO, TK, Or.inl ⟨rfl, by { have y := B5.2; rw [E156, E160] at y; exact y }, fun a s y1 y2 y3 y4 y5 y6 => F10 a s (by omega) y2 y3 y4 y5 y6⟩⟩ -- o13 e2.2
      · skip
        try simp (disch := omega) only [jst_eq, jst_ne, jst_ni, jI_i, jcmp_lt, jcmp_gt, w32_id, jcpy_out, Sum.elim_inl, Sum.elim_inr, jt2, jt3, jt4, jt5, jt6, jt7, jt8] at c3
        have B5 := hr5.resolve_left (fun z => by { have := z.1; omega })
        have RM := B5.2
        clear hr5
        rw [E156, E160] at RM
        refine OK_jb (vX14_record _ _ _ _ (by exact ⟨(F10 _ _ (by omega) (by omega) (by omega) (by omega) (by omega) (by omega)).trans ar.2.2.1, by omega, by omega, by { rw [F10 _ _ (by omega) (by omega) (by omega) (by omega) (by omega) (by omega), ar.2.2.2]; exact T2 }⟩) (by (constructor; decide; decide)) (by (rw [E156]; omega)) (by (rw [E154]; omega))) (fun h19 r6 => ?_)
        try dsimp only [Sum.elim_inl, Sum.elim_inr, jt2, jt3, jt4, jt5, jt6, jt7, jt8] at r6
        obtain ⟨z6, n6, b06, b16, b26, b36, fr6⟩ := r6
        try simp (disch := omega) only [jst_eq, jst_ne, jst_ni, jI_i, jcmp_lt, jcmp_gt, w32_id, jcpy_out, Sum.elim_inl, Sum.elim_inr, jt2, jt3, jt4, jt5, jt6, jt7, jt8] at z6
        try simp (disch := omega) only [jst_eq, jst_ne, jst_ni, jI_i, jcmp_lt, jcmp_gt, w32_id, jcpy_out, Sum.elim_inl, Sum.elim_inr, jt2, jt3, jt4, jt5, jt6, jt7, jt8] at n6
        try simp (disch := omega) only [jst_eq, jst_ne, jst_ni, jI_i, jcmp_lt, jcmp_gt, w32_id, jcpy_out, Sum.elim_inl, Sum.elim_inr, jt2, jt3, jt4, jt5, jt6, jt7, jt8] at b06
        try simp (disch := omega) only [jst_eq, jst_ne, jst_ni, jI_i, jcmp_lt, jcmp_gt, w32_id, jcpy_out, Sum.elim_inl, Sum.elim_inr, jt2, jt3, jt4, jt5, jt6, jt7, jt8] at b16
        try simp (disch := omega) only [jst_eq, jst_ne, jst_ni, jI_i, jcmp_lt, jcmp_gt, w32_id, jcpy_out, Sum.elim_inl, Sum.elim_inr, jt2, jt3, jt4, jt5, jt6, jt7, jt8] at b26
        try simp (disch := omega) only [jst_eq, jst_ne, jst_ni, jI_i, jcmp_lt, jcmp_gt, w32_id, jcpy_out, Sum.elim_inl, Sum.elim_inr, jt2, jt3, jt4, jt5, jt6, jt7, jt8] at b36
        try simp (disch := omega) only [jst_eq, jst_ne, jst_ni, jI_i, jcmp_lt, jcmp_gt, w32_id, jcpy_out, Sum.elim_inl, Sum.elim_inr, jt2, jt3, jt4, jt5, jt6, jt7, jt8] at fr6
        rw [E156] at z6 b06 b16 b26 b36 fr6
        rw [E154] at n6
        obtain ⟨x68, xk, x66, x69, xr, xw, xs, x67⟩ := XT
        have G0 := GO
        obtain ⟨ll, lk, e35, tmw, krr, wt, sz1, dp1, hl0, acr⟩ := GO
        have SZ : sz (rsE (EL E l) T 0) = sz T := sz_rs _ _ _ _ _ _ T 0
        have SP := sz_pos T
        have X5 : h19 454 5 = E.1.1 := (fr6 _ _ (by omega) (by omega)).trans E5
        have X68 : h19 454 68 = (l.length : Int) := (fr6 _ _ (by omega) (by omega)).trans x68
        have X69 : h19 454 69 = 4400 := (fr6 _ _ (by omega) (by omega)).trans x69
        have RQ : resQ h10 (rgN 4400 1100) (rsE (EL E l) T 0) 4400 0 := resQ_S (Int.le_refl _) (by omega) (by omega) (by omega) (by omega) xw xr
        refine OK_jb (vX14_newAct (N := E.1.1) (L := (l.length : Int)) (R := rsE (EL E l) T 0) (Q := rgN 4400 1100) (by exact ⟨X5, A26, e35, X68, by omega, by omega⟩) (by (rw [X69]; exact resQ_fr (fun a s a0 a1 _ _ => fr6 _ _ (by omega) (by omega)) (fun s j _ _ _ => fr6 _ _ (by omega) (by omega)) RQ)) (by (intro x y; have := y.2; omega)) (by (rw [SZ]; omega))) (fun h21 r7 => ?_)
        try dsimp only [Sum.elim_inl, Sum.elim_inr, jt2, jt3, jt4, jt5, jt6, jt7, jt8] at r7
        obtain ⟨vv7, tx7, fr7⟩ := r7
        try simp (disch := omega) only [jst_eq, jst_ne, jst_ni, jI_i, jcmp_lt, jcmp_gt, w32_id, jcpy_out, Sum.elim_inl, Sum.elim_inr, jt2, jt3, jt4, jt5, jt6, jt7, jt8] at vv7
        try simp (disch := omega) only [jst_eq, jst_ne, jst_ni, jI_i, jcmp_lt, jcmp_gt, w32_id, jcpy_out, Sum.elim_inl, Sum.elim_inr, jt2, jt3, jt4, jt5, jt6, jt7, jt8] at tx7
        try simp (disch := omega) only [jst_eq, jst_ne, jst_ni, jI_i, jcmp_lt, jcmp_gt, w32_id, jcpy_out, Sum.elim_inl, Sum.elim_inr, jt2, jt3, jt4, jt5, jt6, jt7, jt8] at fr7
        rw [SZ] at tx7 fr7
        have AD : adN E.1.1 = 5500 + 130 * (E.1.1 - 26) := rfl
        have V5 : w32 (h21 454 5 - 26) = E.1.1 - 25 := by { rw [vv7.1, w32_id (by omega) (by omega)]; omega }
        have L8 : ∀ s, h21 872 s = h19 872 s := fun s => fr7 _ _ (by omega) (by omega) (by omega) (by omega) (by omega)
        have LM : lgMa B n 1 h h21 := ⟨by { rw [fr7 _ _ (by omega) (by omega) (by omega) (by omega) (by omega), z6]; omega }, by { rw [fr7 _ _ (by omega) (by omega) (by omega) (by omega) (by omega), n6] }, ⟨(L8 _).trans b06, by { rw [L8, b16]; omega }, by { rw [L8, b26]; omega }⟩, fun k k0 k1 => (L8 _).trans ((b36 k k0 (by omega)).trans ((congrArg (h10 473) (show _ = k by omega)).trans ((fr3 _ _ (by omega) (by omega) (by omega) (by omega) (by omega)).trans (TM6.2.2.2 k k0 k1))))⟩
        have NM : nwM E (tV B n q) kr l T h21 := ⟨vv7.1, vv7.2.1.trans ((fr6 _ _ (by omega) (by omega)).trans x67), vv7.2.2.1, fun k k0 k1 => (vv7.2.2.2.1 k k0 k1).trans ((fr6 _ _ (by omega) (by omega)).trans (xk k k0 k1)), vv7.2.2.2.2.1.trans ((fr6 _ _ (by omega) (by omega)).trans x66), vv7.2.2.2.2.2, tx7⟩
        have F19 : ∀ a s, ¬ (a = 454 ∧ (s = 154 ∨ s = 156)) → ¬ (a = 872 ∧ h 454 156 ≤ s) → h19 a s = h10 a s := fun a s y1 y2 => fr6 a s y1 (by omega)
        have FX : frMn E.1.1 (sz T) h h21 := frMn_mk F10 F19 fr7
        refine OK_some ?_
        try dsimp only [Sum.elim_inl, Sum.elim_inr, jt2, jt3, jt4, jt5, jt6, jt7, jt8]
        try dsimp only [Sum.elim_inl, Sum.elim_inr, jt2, jt3, jt4, jt5, jt6, jt7, jt8]
        refine ⟨?_, ?_⟩
        · (first | assumption | omega | ((try dsimp only [jt2, jt3, jt4]); first | omega | (simp (disch := omega) only [jst_eq, jst_ne, jst_ni, jst_o, jI_i, jcpy_out, w32_id, jdiv_nn, jshr_k, jand_255] <;> first | done | omega | assumption)) | (intros; simp (disch := omega) only [jst_eq, jst_ne, jst_ni, jst_o, jI_i, jcpy_out, w32_id, jdiv_nn, *] <;> first | done | omega) | (intros; simp (disch := omega) only [jst_eq, jst_ne, jst_ni, jst_o, jI_i, jcpy_out, w32_id, jdiv_nn] at * <;> first | done | omega | assumption) | (intros; first | rfl | (exfalso; omega) | ((repeat' apply And.intro) <;> first | assumption | rfl | omega | trivial))) -- o22 e3.1
        · ((first | rw [V5] | rw [show h21 454 5 - 26 = E.1.1 - 25 by omega]); exact fun _ => Or.inr ⟨q, l, kr, T, XO, G0, TK, Or.inr ⟨RM, rfl, LM, NM, FX⟩⟩) -- o23 e3.2
  · skip
    try simp (disch := omega) only [jst_eq, jst_ne, jst_ni, jI_i, jcmp_lt, jcmp_gt, w32_id, jcpy_out, Sum.elim_inl, Sum.elim_inr, jt2, jt3, jt4, jt5, jt6, jt7, jt8] at c1
    refine OK_some ?_
    try dsimp only [Sum.elim_inl, Sum.elim_inr, jt2, jt3, jt4, jt5, jt6, jt7, jt8]
    try dsimp only [Sum.elim_inl, Sum.elim_inr, jt2, jt3, jt4, jt5, jt6, jt7, jt8]
    refine ⟨?_, ?_⟩
    · (first | assumption | omega | ((try dsimp only [jt2, jt3, jt4]); first | omega | (simp (disch := omega) only [jst_eq, jst_ne, jst_ni, jst_o, jI_i, jcpy_out, w32_id, jdiv_nn, jshr_k, jand_255] <;> first | done | omega | assumption)) | (intros; simp (disch := omega) only [jst_eq, jst_ne, jst_ni, jst_o, jI_i, jcpy_out, w32_id, jdiv_nn, *] <;> first | done | omega) | (intros; simp (disch := omega) only [jst_eq, jst_ne, jst_ni, jst_o, jI_i, jcpy_out, w32_id, jdiv_nn] at * <;> first | done | omega | assumption) | (intros; first | rfl | (exfalso; omega) | ((repeat' apply And.intro) <;> first | assumption | rfl | omega | trivial))) -- o24 e4.1
    · (first | assumption | omega | ((try dsimp only [jt2, jt3, jt4]); first | omega | (simp (disch := omega) only [jst_eq, jst_ne, jst_ni, jst_o, jI_i, jcpy_out, w32_id, jdiv_nn, jshr_k, jand_255] <;> first | done | omega | assumption)) | (intros; simp (disch := omega) only [jst_eq, jst_ne, jst_ni, jst_o, jI_i, jcpy_out, w32_id, jdiv_nn, *] <;> first | done | omega) | (intros; simp (disch := omega) only [jst_eq, jst_ne, jst_ni, jst_o, jI_i, jcpy_out, w32_id, jdiv_nn] at * <;> first | done | omega | assumption) | (intros; first | rfl | (exfalso; omega) | ((repeat' apply And.intro) <;> first | assumption | rfl | omega | trivial))) -- o25 e4.2

