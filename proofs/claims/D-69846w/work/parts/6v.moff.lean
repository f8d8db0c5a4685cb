/-! m: an act is offered -/
def kdM (h : AH) (E : EV) (tp t q ac n x y : Int) : Prop := h 460 t = 2 ∧ h 461 t = kch (eK E ac (eO E ac)) ∧ h 463 t = ac ∧ h 469 t = q ∧ h 465 t = n ∧ h 464 (3 * t) = tp + x ∧ (2 ≤ n → h 464 (3 * t + 1) = tp + y) ∧ h 466 t = -1
theorem op3_n {E : EV} {T : TB} {N ac x y z : Int} (ar : arT E T N ac x y z) : nkO (op3 x y z) = eO E ac ∧ (N ≤ 199 → okO (op3 x y z)) := by
  have hx := ar.1
  unfold nkO okO
  rw [op3_0, op3_1, op3_2]
  rcases ar.2 with r | r | r
  · refine ⟨?_, fun _ => by omega⟩
    rw [if_neg (by omega), if_pos (by omega)]; omega
  · refine ⟨?_, fun _ => by omega⟩
    rw [if_neg (by omega), if_neg (by omega), if_pos (by omega)]; omega
  · refine ⟨?_, fun _ => by omega⟩
    rw [if_neg (by omega), if_neg (by omega), if_neg (by omega)]; omega
theorem nd_of {h : AH} {E : EV} {A : AD} {T0 : TB} {tp t q j ac x y z : Int} (ar : arT E T0 T0.1 ac x y z) (n : T0.1 ≤ 199) (j0 : 0 ≤ j ∧ j < A.2.2.2.1) (ja : A.2.2.2.2.1 j = ac) (jn : ac ≠ -1) (k : kdM h E tp t q ac (eO E ac) x y) (c2 : eO E ac = 3 → h 464 (3 * t + 2) = tp + z) (w : ∀ a, 0 ≤ a → a < T0.1 → 1 ≤ T0.2.2.1 a) (s : T0.2.2.1 x + wO T0 y + wO T0 z = q - A.2.2.2.2.2.2.2 j) (pr : 1 ≤ A.2.2.2.2.2.2.2 j) : ndC h E A T0 tp T0.1 t q (A.1 + j) (op3 x y z) := by
  obtain ⟨k1, k2, k3, k4, k5, k6, k7, k8⟩ := k
  obtain ⟨o1, o2⟩ := op3_n ar
  have hx := ar.1
  have w0 : ∀ v, 0 ≤ wO T0 v ∨ T0.1 ≤ v := fun v => by
    unfold wO
    by_cases q : 0 ≤ v
    · rw [if_pos q]
      by_cases l : v < T0.1
      · have := w v q l; omega
      · omega
    · rw [if_neg q]; omega
  have b := arT_b ar
  have wx := w x hx.1 hx.2.1
  have wy := w0 y
  have wz := w0 z
  refine ⟨⟨k4, k8⟩, by rw [o1]; exact k5, fun i i0 i1 => ?_, Or.inr (Or.inr ⟨j, j0.1, j0.2, rfl, by rw [ja]; exact jn, k1, by rw [ja]; exact k2, by rw [ja]; exact k3, by rw [ja]; exact o1⟩), o2 n⟩
  rw [o1] at i1
  rcases (show i = 0 ∨ i = 1 ∨ i = 2 by have := ar.2; omega) with e | e | e
  · rw [e, op3_0]; exact ⟨by rw [show 3 * t + 0 = 3 * t by omega]; exact k6, hx.1, hx.2.1, by omega⟩
  · rw [e, op3_1]
    have hy : 0 ≤ y ∧ y < T0.1 := by rcases ar.2 with r | r | r <;> omega
    have e2 : wO T0 y = T0.2.2.1 y := wO_0 hy.1
    exact ⟨k7 (by omega), hy.1, hy.2, by omega⟩
  · rw [e, op3_2]
    have hz : 0 ≤ z ∧ z < T0.1 := by rcases ar.2 with r | r | r <;> omega
    have e2 : wO T0 z = T0.2.2.1 z := wO_0 hz.1
    have e3 : eO E ac = 3 := by rcases ar.2 with r | r | r <;> omega
    exact ⟨c2 e3, hz.1, hz.2, by omega⟩
def jaM (E : EV) (A : AD) (T0 : TB) (q j ac x y z : Int) : Prop := arT E T0 T0.1 ac x y z ∧ (0 ≤ j ∧ j < A.2.2.2.1) ∧ A.2.2.2.2.1 j = ac ∧ ac ≠ -1 ∧ (0 ≤ ac ∧ ac < E.1.1) ∧ T0.2.2.1 x + wO T0 y + wO T0 z = q - A.2.2.2.2.2.2.2 j ∧ 1 ≤ A.2.2.2.2.2.2.2 j ∧ T0.1 ≤ 121
theorem ja_lg {E : EV} {W : Int → Int → Int → VW} {pts : Int} {A : AD} {T0 : TB} {q j ac x y z : Int} (a : jaM E A T0 q j ac x y z) : lgO E W pts A T0 T0.1 q (eK E ac (eO E ac)) (A.1 + j) (op3 x y z) (mkV E W T0.2.2.2.2.2 ac x y z) := by
  obtain ⟨a1, a2, a3, a4, a5, a6, a7, a8⟩ := a
  exact Or.inr (Or.inr ⟨j, x, y, z, a2.1, a2.2, rfl, by rw [a3]; exact a4, by rw [a3], rfl, by rw [a3]; exact a1, by omega, by rw [a3]; exact eqV_r _⟩)
theorem QM_c {h : AH} {E : EV} {W : Int → Int → Int → VW} {A : AD} {pts tp : Int} {T0 : TB} {q : Int} {F F' : TB} {B B' : Int} (x : QM h E W A pts tp T0 q F B) (n : 120 < h 454 40) (e : extT F F') (b : B ≤ B') : QM h E W A pts tp T0 q F' B' := by
  obtain ⟨T, s, xm, nT, c⟩ := x
  refine ⟨T, SB_m s b, xm, nT, Or.inr ?_⟩
  have := e.1
  rcases c with c | c
  · rw [c.1] at nT; omega
  · exact ⟨c.1, by omega⟩
theorem vX14_offer_j116 (a5 : Int) (a7 : Int) {h : AH} {E : EV} {Rf : Int → TR} {W : Int → Int → Int → VW} {A : AD} {pts tp q j ac x y B : Int} {T0 F : TB} (g : seM h E Rf W A pts tp) (qm : QM h E W A pts tp T0 q F B) (gt : GT E W pts A (q - 1) T0 ∧ 1 ≤ q ∧ q ≤ 12) (n0 : h (h 454 38) 20 = T0.1) (ja : jaM E A T0 q j ac x y a5) (nd : a7 = tp + h 454 40 ∧ kdM h E tp a7 q ac (if y < 0 then 1 else 2) x y) (bk : B ≤ kyO (A.1 + j) (op3 x y a5)) (cc : ∀ p, 0 ≤ p → p < pts → h 754 p = mkV E W T0.2.2.2.2.2 ac x y a5 p) : OK (gX14_offer_j116 a5 a7 h) (fun h' => (QM h' E W A pts tp T0 q (mkT E W pts A T0 q j ac x y a5 F) (kyO (A.1 + j) (op3 x y a5) + 1)) ∧ (fM (h 454 38) h h' ∧ seM h' E Rf W A pts tp)) := by
  have Q0 := qm
  obtain ⟨T, sb, xm, nT, cs⟩ := Q0
  have tpr := g.2.2.2.2
  have ac0 := g.1.2.1.2.1
  have ja5 := ja.2.2.2.2.1
  have ec := ac0.2.2.1 ac ja5.1 ja5.2
  have ek := ec.2.2.2 (eO E ac) (by omega) (Int.le_refl _)
  have ar := ja.1
  have x1 := xm.1
  have t0 := xm.2.1.2.2.2.2.1
  have l0 := sb.1.1
  have xx : h 454 38 = 476 ∨ h 454 38 = 615 := g.1.1
  have wp : ∀ a, 0 ≤ a → a < T0.1 → 1 ≤ T0.2.2.1 a := fun a a0 a1 => (gt.1.2.1 a a0 a1).1
  obtain ⟨t7, q1, q2, q3, q4, q5, q6, q7, q8⟩ := nd
  unfold gX14_offer_j116
  refine OK_if (fun c1 => ?_) (fun c1 => ?_)
  · skip
    try simp (disch := omega) only [jst_eq, jst_ne, jst_ni, jI_i, jcmp_lt, jcmp_gt, w32_id, jcpy_out, Sum.elim_inl, Sum.elim_inr, jt2, jt3, jt4, jt5, jt6, jt7, jt8] at c1
    have N1 : eO E ac = (if y < 0 then 1 else 2) := by { rcases ar.2 with r | r | r; { rw [if_pos (by omega)]; omega }; { rw [if_neg (by omega)]; omega }; { omega } }
    unfold gX14_offer_j137
    refine OK_jb (vX14_accept (E := E) (Rf := Rf) (W := W) (A := A) (pts := pts) (tp := tp) (q := q) (k := eK E ac (eO E ac)) (d := A.1 + j) (B := B) (o := op3 x y a5) (u := mkV E W T0.2.2.2.2.2 ac x y a5) (T0 := T0) (F := F) _ (by exact g) (by exact qm) (by exact gt) (by exact n0) (by exact ⟨t7, q2, ek, nd_of ar (by omega) ja.2.1 ja.2.2.1 ja.2.2.2.1 ⟨q1, q2, q3, q4, by rw [N1]; exact q5, q6, fun z => q7 (by rw [N1] at z; exact z), q8⟩ (fun z => by rcases ar.2 with r | r | r <;> omega) wp ja.2.2.2.2.2.1 ja.2.2.2.2.2.2.1, bk⟩) (by exact ja_lg ja) (by exact cc)) (fun h20 r1 => ?_)
    try dsimp only [Sum.elim_inl, Sum.elim_inr, jt2, jt3, jt4, jt5, jt6, jt7, jt8] at r1
    obtain ⟨qm1, fs1⟩ := r1
    try simp (disch := omega) only [jst_eq, jst_ne, jst_ni, jI_i, jcmp_lt, jcmp_gt, w32_id, jcpy_out, Sum.elim_inl, Sum.elim_inr, jt2, jt3, jt4, jt5, jt6, jt7, jt8] at qm1
    try simp (disch := omega) only [jst_eq, jst_ne, jst_ni, jI_i, jcmp_lt, jcmp_gt, w32_id, jcpy_out, Sum.elim_inl, Sum.elim_inr, jt2, jt3, jt4, jt5, jt6, jt7, jt8] at fs1
    refine OK_some ?_
    try dsimp only [Sum.elim_inl, Sum.elim_inr, jt2, jt3, jt4, jt5, jt6, jt7, jt8]
    try dsimp only [Sum.elim_inl, Sum.elim_inr, jt2, jt3, jt4, jt5, jt6, jt7, jt8]
    refine ⟨?_, ?_⟩
    · (first | assumption | omega | ((try dsimp only [jt2, jt3, jt4]); first | omega | (simp (disch := omega) only [jst_eq, jst_ne, jst_ni, jst_o, jI_i, jcpy_out, w32_id, jdiv_nn, jshr_k, jand_255] <;> first | done | omega | assumption)) | (intros; simp (disch := omega) only [jst_eq, jst_ne, jst_ni, jst_o, jI_i, jcpy_out, w32_id, jdiv_nn, *] <;> first | done | omega) | (intros; simp (disch := omega) only [jst_eq, jst_ne, jst_ni, jst_o, jI_i, jcpy_out, w32_id, jdiv_nn] at * <;> first | done | omega | assumption) | (intros; first | rfl | (exfalso; omega) | ((repeat' apply And.intro) <;> first | assumption | rfl | omega | trivial))) -- o8 e1.1
    · (first | assumption | omega | ((try dsimp only [jt2, jt3, jt4]); first | omega | (simp (disch := omega) only [jst_eq, jst_ne, jst_ni, jst_o, jI_i, jcpy_out, w32_id, jdiv_nn, jshr_k, jand_255] <;> first | done | omega | assumption)) | (intros; simp (disch := omega) only [jst_eq, jst_ne, jst_ni, jst_o, jI_i, jcpy_out, w32_id, jdiv_nn, *] <;> first | done | omega) | (intros; simp (disch := omega) only [jst_eq, jst_ne, jst_ni, jst_o, jI_i, jcpy_out, w32_id, jdiv_nn] at * <;> first | done | omega | assumption) | (intros; first | rfl | (exfalso; omega) | ((repeat' apply And.intro) <;> first | assumption | rfl | omega | trivial))) -- o9 e1.2
  · skip
    try simp (disch := omega) only [jst_eq, jst_ne, jst_ni, jI_i, jcmp_lt, jcmp_gt, w32_id, jcpy_out, Sum.elim_inl, Sum.elim_inr, jt2, jt3, jt4, jt5, jt6, jt7, jt8] at c1
    have A3 : eO E ac = 3 ∧ (0 ≤ y ∧ y < T0.1) ∧ (0 ≤ a5 ∧ a5 < T0.1) := by { rcases ar.2 with r | r | r; { omega }; { omega }; { exact ⟨r.1, ⟨r.2.1.1, r.2.1.2.1⟩, r.2.2.1, r.2.2.2.1⟩ } }
    rw [if_neg (by omega)] at q5 q7
    have q7 := q7 (by decide)
    have nk := (xm.2.1.2.2.2.2.2.2 a5 A3.2.2.1 (by omega)).2.2.1
    dsimp only at nk
    refine OK_jg (by (first | assumption | omega | ((try dsimp only [jt2, jt3, jt4]); first | omega | (simp (disch := omega) only [jst_eq, jst_ne, jst_ni, jst_o, jI_i, jcpy_out, w32_id, jdiv_nn, jshr_k, jand_255] <;> first | done | omega | assumption)) | (intros; simp (disch := omega) only [jst_eq, jst_ne, jst_ni, jst_o, jI_i, jcpy_out, w32_id, jdiv_nn, *] <;> first | done | omega) | (intros; simp (disch := omega) only [jst_eq, jst_ne, jst_ni, jst_o, jI_i, jcpy_out, w32_id, jdiv_nn] at * <;> first | done | omega | assumption) | (intros; first | rfl | (exfalso; omega) | ((repeat' apply And.intro) <;> first | assumption | rfl | omega | trivial)))) ?_ -- o10
    refine OK_jg (by (first | assumption | omega | ((try dsimp only [jt2, jt3, jt4]); first | omega | (simp (disch := omega) only [jst_eq, jst_ne, jst_ni, jst_o, jI_i, jcpy_out, w32_id, jdiv_nn, jshr_k, jand_255] <;> first | done | omega | assumption)) | (intros; simp (disch := omega) only [jst_eq, jst_ne, jst_ni, jst_o, jI_i, jcpy_out, w32_id, jdiv_nn, *] <;> first | done | omega) | (intros; simp (disch := omega) only [jst_eq, jst_ne, jst_ni, jst_o, jI_i, jcpy_out, w32_id, jdiv_nn] at * <;> first | done | omega | assumption) | (intros; first | rfl | (exfalso; omega) | ((repeat' apply And.intro) <;> first | assumption | rfl | omega | trivial)))) ?_ -- o11
    refine OK_jb (vX14_addKid _ _ (by (first | assumption | omega | ((try dsimp only [jt2, jt3, jt4]); first | omega | (simp (disch := omega) only [jst_eq, jst_ne, jst_ni, jst_o, jI_i, jcpy_out, w32_id, jdiv_nn, jshr_k, jand_255] <;> first | done | omega | assumption)) | (intros; simp (disch := omega) only [jst_eq, jst_ne, jst_ni, jst_o, jI_i, jcpy_out, w32_id, jdiv_nn, *] <;> first | done | omega) | (intros; simp (disch := omega) only [jst_eq, jst_ne, jst_ni, jst_o, jI_i, jcpy_out, w32_id, jdiv_nn] at * <;> first | done | omega | assumption) | (intros; first | rfl | (exfalso; omega) | ((repeat' apply And.intro) <;> first | assumption | rfl | omega | trivial))))) (fun h18 r2 => ?_)
    try dsimp only [Sum.elim_inl, Sum.elim_inr, jt2, jt3, jt4, jt5, jt6, jt7, jt8] at r2
    obtain ⟨n2, k2, x2, fr2⟩ := r2
    try simp (disch := omega) only [jst_eq, jst_ne, jst_ni, jI_i, jcmp_lt, jcmp_gt, w32_id, jcpy_out, Sum.elim_inl, Sum.elim_inr, jt2, jt3, jt4, jt5, jt6, jt7, jt8] at n2
    try simp (disch := omega) only [jst_eq, jst_ne, jst_ni, jI_i, jcmp_lt, jcmp_gt, w32_id, jcpy_out, Sum.elim_inl, Sum.elim_inr, jt2, jt3, jt4, jt5, jt6, jt7, jt8] at k2
    try simp (disch := omega) only [jst_eq, jst_ne, jst_ni, jI_i, jcmp_lt, jcmp_gt, w32_id, jcpy_out, Sum.elim_inl, Sum.elim_inr, jt2, jt3, jt4, jt5, jt6, jt7, jt8] at x2
    try simp (disch := omega) only [jst_eq, jst_ne, jst_ni, jI_i, jcmp_lt, jcmp_gt, w32_id, jcpy_out, Sum.elim_inl, Sum.elim_inr, jt2, jt3, jt4, jt5, jt6, jt7, jt8] at fr2
    have kk := k2 (by omega)
    have FT : fT a7 h h18 := fun a s y1 y2 y3 y4 => by { refine fr2 a s (by omega) (by omega) (by omega) (by omega) }
    have G18 := seM_M g rfl (fT_M (by omega) FT) ⟨by rw [fr2 _ _ (by omega) (by omega) (by omega) (by omega)]; exact g.2.1.1, by unfold b20; rw [fr2 _ _ (by omega) (by omega) (by omega) (by omega)]; exact g.2.1.2⟩
    have e38 : h18 454 38 = h 454 38 := fr2 _ _ (by omega) (by omega) (by omega) (by omega)
    have e40 : h18 454 40 = h 454 40 := fr2 _ _ (by omega) (by omega) (by omega) (by omega)
    unfold gX14_offer_j137
    refine OK_jb (vX14_accept (E := E) (Rf := Rf) (W := W) (A := A) (pts := pts) (tp := tp) (q := q) (k := eK E ac (eO E ac)) (d := A.1 + j) (B := B) (o := op3 x y a5) (u := mkV E W T0.2.2.2.2.2 ac x y a5) (T0 := T0) (F := F) _ (by exact G18) (by exact QM_T qm t7 FT) (by exact gt) (by (rw [e38, fr2 _ _ (by omega) (by omega) (by omega) (by omega)]; exact n0)) (by exact ⟨by omega, by rw [fr2 _ _ (by omega) (by omega) (by omega) (by omega)]; exact q2, ek, nd_of ar (by omega) ja.2.1 ja.2.2.1 ja.2.2.2.1 ⟨by rw [fr2 _ _ (by omega) (by omega) (by omega) (by omega)]; exact q1, by rw [fr2 _ _ (by omega) (by omega) (by omega) (by omega)]; exact q2, by rw [fr2 _ _ (by omega) (by omega) (by omega) (by omega)]; exact q3, by rw [fr2 _ _ (by omega) (by omega) (by omega) (by omega)]; exact q4, by omega, by rw [fr2 _ _ (by omega) (by omega) (by omega) (by omega)]; exact q6, fun _ => by rw [fr2 _ _ (by omega) (by omega) (by omega) (by omega)]; exact q7, by rw [fr2 _ _ (by omega) (by omega) (by omega) (by omega)]; exact q8⟩ (fun z => by rw [q5] at kk; rw [kk.1]; exact nk) wp ja.2.2.2.2.2.1 ja.2.2.2.2.2.2.1, bk⟩) (by exact ja_lg ja) (by exact fun p p0 p1 => by rw [fr2 _ _ (by omega) (by omega) (by omega) (by omega)]; exact cc p p0 p1)) (fun h20 r3 => ?_)
    try dsimp only [Sum.elim_inl, Sum.elim_inr, jt2, jt3, jt4, jt5, jt6, jt7, jt8] at r3
    obtain ⟨qm3, fs3⟩ := r3
    try simp (disch := omega) only [jst_eq, jst_ne, jst_ni, jI_i, jcmp_lt, jcmp_gt, w32_id, jcpy_out, Sum.elim_inl, Sum.elim_inr, jt2, jt3, jt4, jt5, jt6, jt7, jt8] at qm3
    try simp (disch := omega) only [jst_eq, jst_ne, jst_ni, jI_i, jcmp_lt, jcmp_gt, w32_id, jcpy_out, Sum.elim_inl, Sum.elim_inr, jt2, jt3, jt4, jt5, jt6, jt7, jt8] at fs3
    refine OK_some ?_
    try dsimp only [Sum.elim_inl, Sum.elim_inr, jt2, jt3, jt4, jt5, jt6, jt7, jt8]
    try dsimp only [Sum.elim_inl, Sum.elim_inr, jt2, jt3, jt4, jt5, jt6, jt7, jt8]
    refine ⟨?_, ?_⟩
    · (first | assumption | omega | ((try dsimp only [jt2, jt3, jt4]); first | omega | (simp (disch := omega) only [jst_eq, jst_ne, jst_ni, jst_o, jI_i, jcpy_out, w32_id, jdiv_nn, jshr_k, jand_255] <;> first | done | omega | assumption)) | (intros; simp (disch := omega) only [jst_eq, jst_ne, jst_ni, jst_o, jI_i, jcpy_out, w32_id, jdiv_nn, *] <;> first | done | omega) | (intros; simp (disch := omega) only [jst_eq, jst_ne, jst_ni, jst_o, jI_i, jcpy_out, w32_id, jdiv_nn] at * <;> first | done | omega | assumption) | (intros; first | rfl | (exfalso; omega) | ((repeat' apply And.intro) <;> first | assumption | rfl | omega | trivial))) -- o20 e2.1
    · (rw [e38] at fs3; exact ⟨fM_t (fT_M (by omega) FT) fs3.1, fs3.2⟩) -- o21 e2.2
theorem vX14_offer (a1 : Int) (a2 : Int) (a3 : Int) (a4 : Int) (a5 : Int) {h : AH} {E : EV} {Rf : Int → TR} {W : Int → Int → Int → VW} {A : AD} {pts tp ac B : Int} {T0 F : TB} (g : seM h E Rf W A pts tp) (qm : QM h E W A pts tp T0 a2 F B) (gt : GT E W pts A (a2 - 1) T0 ∧ 1 ≤ a2 ∧ a2 ≤ 12) (n0 : h (h 454 38) 20 = T0.1) (ty : tyV pts T0) (ja : jaM E A T0 a2 a1 ac a3 a4 a5) (bk : B ≤ kyO (A.1 + a1) (op3 a3 a4 a5)) : OK (gX14_offer a1 a2 a3 a4 a5 h) (fun h' => (QM h' E W A pts tp T0 a2 (mkT E W pts A T0 a2 a1 ac a3 a4 a5 F) (kyO (A.1 + a1) (op3 a3 a4 a5) + 1)) ∧ (fM (h 454 38) h h' ∧ seM h' E Rf W A pts tp)) := by
  have Q0 := qm
  obtain ⟨T, sb, xm, nT, cs⟩ := Q0
  have tpr := g.2.2.2.2
  have tpe := g.2.2.2.1
  have x1 := xm.1
  have t0 := xm.2.1.2.2.2.2.1
  have l0 := sb.1.1
  have ar := ja.1
  have ab := arT_b ar
  have xx : h 454 38 = 476 ∨ h 454 38 = 615 := g.1.1
  have pc := g.2.2.1.2.2.1.2.2.2 a1 ja.2.1.1 ja.2.1.2
  have np := g.2.2.1.2.2.1.2.2.1
  have j2 := ja.2.1
  have j3 := ja.2.2.1
  have j5 := ja.2.2.2.2.1
  have am := g.1.2.1.1
  have a58 := (am.2.2.2 ac j5.1 j5.2).2.2.2.2.2.1
  have eac := am.2.2.1
  unfold gX14_offer
  refine OK_if (fun c1 => ?_) (fun c1 => ?_)
  · skip
    try simp (disch := omega) only [jst_eq, jst_ne, jst_ni, jI_i, jcmp_lt, jcmp_gt, w32_id, jcpy_out, Sum.elim_inl, Sum.elim_inr, jt2, jt3, jt4, jt5, jt6, jt7, jt8] at c1
    refine OK_jg (by (first | ((first | exact g.1.1 | (rw [e38]; exact g.1.1) | (rw [e10]; exact g.1.1) | (rw [q38]; exact g.1.1))) | ((show 0 ≤ a3 ∧ a3 < 122; have z1 := ar.1; have z2 := ja.2.2.2.2.2.2.2; omega)) | (first | assumption | omega | ((try dsimp only [jt2, jt3, jt4]); first | omega | (simp (disch := omega) only [jst_eq, jst_ne, jst_ni, jst_o, jI_i, jcpy_out, w32_id, jdiv_nn, jshr_k, jand_255] <;> first | done | omega | assumption)) | (intros; simp (disch := omega) only [jst_eq, jst_ne, jst_ni, jst_o, jI_i, jcpy_out, w32_id, jdiv_nn, *] <;> first | done | omega) | (intros; simp (disch := omega) only [jst_eq, jst_ne, jst_ni, jst_o, jI_i, jcpy_out, w32_id, jdiv_nn] at * <;> first | done | omega | assumption) | (intros; first | rfl | (exfalso; omega) | ((repeat' apply And.intro) <;> first | assumption | rfl | omega | trivial))))) ?_ -- o1
    refine OK_jg (by (first | ((first | exact g.1.1 | (rw [e38]; exact g.1.1) | (rw [e10]; exact g.1.1) | (rw [q38]; exact g.1.1))) | ((show 0 ≤ a3 ∧ a3 < 122; have z1 := ar.1; have z2 := ja.2.2.2.2.2.2.2; omega)) | (first | assumption | omega | ((try dsimp only [jt2, jt3, jt4]); first | omega | (simp (disch := omega) only [jst_eq, jst_ne, jst_ni, jst_o, jI_i, jcpy_out, w32_id, jdiv_nn, jshr_k, jand_255] <;> first | done | omega | assumption)) | (intros; simp (disch := omega) only [jst_eq, jst_ne, jst_ni, jst_o, jI_i, jcpy_out, w32_id, jdiv_nn, *] <;> first | done | omega) | (intros; simp (disch := omega) only [jst_eq, jst_ne, jst_ni, jst_o, jI_i, jcpy_out, w32_id, jdiv_nn] at * <;> first | done | omega | assumption) | (intros; first | rfl | (exfalso; omega) | ((repeat' apply And.intro) <;> first | assumption | rfl | omega | trivial))))) ?_ -- o2
    refine OK_jlx (fun x2 ex2 => ?_)
    try simp (disch := omega) only [jst_eq, jst_ne, jst_ni, jI_i, jcmp_lt, jcmp_gt, w32_id, jcpy_out, Sum.elim_inl, Sum.elim_inr, jt2, jt3, jt4, jt5, jt6, jt7, jt8] at ex2
    have x2e : x2 = ac := by omega
    subst x2e
    refine OK_jb (vX14_together (E := E) (Rf := Rf) (W := W) (f := fun _ _ _ => 0) (w := -1) (N := T.1) (pts := pts) (kd := T.2.1) (wt := T.2.2.1) (nd := fun a => tp + a) (vl := T.2.2.2.2.2) _ _ _ _ (by exact xm.2.1) (by exact seM_en g _) (by exact g.2.1.1) (by (have := ar.1; omega)) (by exact fun p p0 p1 => GVP_of ty sb.1 j5 ar p0 p1) (by exact g.2.1.2)) (fun h4 r1 => ?_)
    try dsimp only [Sum.elim_inl, Sum.elim_inr, jt2, jt3, jt4, jt5, jt6, jt7, jt8] at r1
    obtain ⟨mk1, fs1, bs1⟩ := r1
    try simp (disch := omega) only [jst_eq, jst_ne, jst_ni, jI_i, jcmp_lt, jcmp_gt, w32_id, jcpy_out, Sum.elim_inl, Sum.elim_inr, jt2, jt3, jt4, jt5, jt6, jt7, jt8] at mk1
    try simp (disch := omega) only [jst_eq, jst_ne, jst_ni, jI_i, jcmp_lt, jcmp_gt, w32_id, jcpy_out, Sum.elim_inl, Sum.elim_inr, jt2, jt3, jt4, jt5, jt6, jt7, jt8] at fs1
    try simp (disch := omega) only [jst_eq, jst_ne, jst_ni, jI_i, jcmp_lt, jcmp_gt, w32_id, jcpy_out, Sum.elim_inl, Sum.elim_inr, jt2, jt3, jt4, jt5, jt6, jt7, jt8] at bs1
    have M4 : ∀ p, 0 ≤ p → p < pts → h4 754 p = mkV E W T0.2.2.2.2.2 x2 a3 a4 a5 p := fun p p0 p1 => by { rw [mk1 p p0 p1]; exact mkV_e sb.1 (by omega) }
    have e38 : h4 454 38 = h 454 38 := fs1 _ _ (by omega) (by omega)
    have e40 : h4 454 40 = h 454 40 := fs1 _ _ (by omega) (by omega)
    have W17 : w32 (h4 (h4 454 38) 1 + h4 454 40) = tp + h 454 40 := by { rw [e38, fs1 _ 1 (by omega) (by omega), e40, tpe]; exact w32_id (by omega) (by omega) }
    rw [W17]
    refine OK_jg (by (first | ((first | exact g.1.1 | (rw [e38]; exact g.1.1) | (rw [e10]; exact g.1.1) | (rw [q38]; exact g.1.1))) | ((show 0 ≤ a3 ∧ a3 < 122; have z1 := ar.1; have z2 := ja.2.2.2.2.2.2.2; omega)) | (first | assumption | omega | ((try dsimp only [jt2, jt3, jt4]); first | omega | (simp (disch := omega) only [jst_eq, jst_ne, jst_ni, jst_o, jI_i, jcpy_out, w32_id, jdiv_nn, jshr_k, jand_255] <;> first | done | omega | assumption)) | (intros; simp (disch := omega) only [jst_eq, jst_ne, jst_ni, jst_o, jI_i, jcpy_out, w32_id, jdiv_nn, *] <;> first | done | omega) | (intros; simp (disch := omega) only [jst_eq, jst_ne, jst_ni, jst_o, jI_i, jcpy_out, w32_id, jdiv_nn] at * <;> first | done | omega | assumption) | (intros; first | rfl | (exfalso; omega) | ((repeat' apply And.intro) <;> first | assumption | rfl | omega | trivial))))) ?_ -- o9
    refine OK_jl ?_
    have F5 : ∀ a s, ¬ (a = 454 ∧ s = 17) → jst h4 454 17 (tp + h 454 40) a s = h4 a s := fun a s y => jst_o y
    have K5 : jst h4 454 17 (tp + h 454 40) 454 17 = tp + h 454 40 := jst_eq
    generalize e5 : jst h4 454 17 (tp + h 454 40) = hq at *
    refine OK_jg (by (first | ((first | exact g.1.1 | (rw [e38]; exact g.1.1) | (rw [e10]; exact g.1.1) | (rw [q38]; exact g.1.1))) | ((show 0 ≤ a3 ∧ a3 < 122; have z1 := ar.1; have z2 := ja.2.2.2.2.2.2.2; omega)) | (first | assumption | omega | ((try dsimp only [jt2, jt3, jt4]); first | omega | (simp (disch := omega) only [jst_eq, jst_ne, jst_ni, jst_o, jI_i, jcpy_out, w32_id, jdiv_nn, jshr_k, jand_255] <;> first | done | omega | assumption)) | (intros; simp (disch := omega) only [jst_eq, jst_ne, jst_ni, jst_o, jI_i, jcpy_out, w32_id, jdiv_nn, *] <;> first | done | omega) | (intros; simp (disch := omega) only [jst_eq, jst_ne, jst_ni, jst_o, jI_i, jcpy_out, w32_id, jdiv_nn] at * <;> first | done | omega | assumption) | (intros; first | rfl | (exfalso; omega) | ((repeat' apply And.intro) <;> first | assumption | rfl | omega | trivial))))) ?_ -- o10
    refine OK_jb2 (vX14_node _ _ _ (by (first | ((first | exact g.1.1 | (rw [e38]; exact g.1.1) | (rw [e10]; exact g.1.1) | (rw [q38]; exact g.1.1))) | ((show 0 ≤ a3 ∧ a3 < 122; have z1 := ar.1; have z2 := ja.2.2.2.2.2.2.2; omega)) | (first | assumption | omega | ((try dsimp only [jt2, jt3, jt4]); first | omega | (simp (disch := omega) only [jst_eq, jst_ne, jst_ni, jst_o, jI_i, jcpy_out, w32_id, jdiv_nn, jshr_k, jand_255] <;> first | done | omega | assumption)) | (intros; simp (disch := omega) only [jst_eq, jst_ne, jst_ni, jst_o, jI_i, jcpy_out, w32_id, jdiv_nn, *] <;> first | done | omega) | (intros; simp (disch := omega) only [jst_eq, jst_ne, jst_ni, jst_o, jI_i, jcpy_out, w32_id, jdiv_nn] at * <;> first | done | omega | assumption) | (intros; first | rfl | (exfalso; omega) | ((repeat' apply And.intro) <;> first | assumption | rfl | omega | trivial)))))) (fun v7 h8 r2 => ?_)
    try dsimp only [Sum.elim_inl, Sum.elim_inr, jt2, jt3, jt4, jt5, jt6, jt7, jt8] at r2
    obtain ⟨nv2, na2, fr2⟩ := r2
    try simp (disch := omega) only [jst_eq, jst_ne, jst_ni, jI_i, jcmp_lt, jcmp_gt, w32_id, jcpy_out, Sum.elim_inl, Sum.elim_inr, jt2, jt3, jt4, jt5, jt6, jt7, jt8] at nv2
    try simp (disch := omega) only [jst_eq, jst_ne, jst_ni, jI_i, jcmp_lt, jcmp_gt, w32_id, jcpy_out, Sum.elim_inl, Sum.elim_inr, jt2, jt3, jt4, jt5, jt6, jt7, jt8] at na2
    try simp (disch := omega) only [jst_eq, jst_ne, jst_ni, jI_i, jcmp_lt, jcmp_gt, w32_id, jcpy_out, Sum.elim_inl, Sum.elim_inr, jt2, jt3, jt4, jt5, jt6, jt7, jt8] at fr2
    obtain ⟨nv1, nv2⟩ := nv2
    rw [K5] at nv1 fr2
    have F8 : ∀ a s, ¬ (a = 454 ∧ (s = 17 ∨ s = 20)) → ¬ (460 ≤ a ∧ a ≤ 469 ∧ a ≠ 464 ∧ s = tp + h 454 40) → ¬ (a = 754 ∧ 0 ≤ s) → h8 a s = h a s := fun a s y1 y2 y3 => by { rw [fr2 a s (by omega) (by omega), F5 a s (by omega)]; exact fs1 a s (by omega) (by omega) }
    have B8 : b20 h8 := by { unfold b20; rw [fr2 _ _ (by omega) (by omega), F5 _ _ (by omega)]; exact bs1 }
    have M8 : ∀ p, 0 ≤ p → p < pts → h8 754 p = mkV E W T0.2.2.2.2.2 x2 a3 a4 a5 p := fun p p0 p1 => by { rw [fr2 _ _ (by omega) (by omega), F5 _ _ (by omega)]; exact M4 p p0 p1 }
    have k58 : hq 458 x2 = kch (eK E x2 (eO E x2)) := by { rw [F5 _ _ (by omega), fs1 _ _ (by omega) (by omega), show eK E x2 (eO E x2) = E.1.2.2.2.2 x2 (E.1.2.2.1 x2) by unfold eK eO; rw [if_neg (by omega), if_neg (by omega), if_neg (by omega)]]; exact a58 }
    refine OK_jg (by (first | ((first | exact g.1.1 | (rw [e38]; exact g.1.1) | (rw [e10]; exact g.1.1) | (rw [q38]; exact g.1.1))) | ((show 0 ≤ a3 ∧ a3 < 122; have z1 := ar.1; have z2 := ja.2.2.2.2.2.2.2; omega)) | (first | assumption | omega | ((try dsimp only [jt2, jt3, jt4]); first | omega | (simp (disch := omega) only [jst_eq, jst_ne, jst_ni, jst_o, jI_i, jcpy_out, w32_id, jdiv_nn, jshr_k, jand_255] <;> first | done | omega | assumption)) | (intros; simp (disch := omega) only [jst_eq, jst_ne, jst_ni, jst_o, jI_i, jcpy_out, w32_id, jdiv_nn, *] <;> first | done | omega) | (intros; simp (disch := omega) only [jst_eq, jst_ne, jst_ni, jst_o, jI_i, jcpy_out, w32_id, jdiv_nn] at * <;> first | done | omega | assumption) | (intros; first | rfl | (exfalso; omega) | ((repeat' apply And.intro) <;> first | assumption | rfl | omega | trivial))))) ?_ -- o12
    refine OK_jl ?_
    refine OK_jl ?_
    have F10 : ∀ a s, ¬ ((a = 463 ∨ a = 469) ∧ s = tp + h 454 40) → jst (jst h8 463 v7 x2) 469 v7 a2 a s = h8 a s := fun a s y => by { rw [jst_o (by omega), jst_o (by omega)] }
    have K10 : jst (jst h8 463 v7 x2) 469 v7 a2 463 v7 = x2 := by { rw [jst_o (by omega), jst_eq] }
    have L10 : jst (jst h8 463 v7 x2) 469 v7 a2 469 v7 = a2 := jst_eq
    generalize e10 : jst (jst h8 463 v7 x2) 469 v7 a2 = hr at *
    have e10 : hr 454 38 = h 454 38 := by { rw [F10 _ _ (by omega), F8 _ _ (by omega) (by omega) (by omega)] }
    have nd3 : hr (h 454 38 + 13) a3 = tp + a3 := by { rw [F10 _ _ (by omega), F8 _ _ (by omega) (by omega) (by omega)]; exact (xm.2.1.2.2.2.2.2.2 a3 ar.1.1 (by omega)).2.2.1 }
    have s5 : hr 465 v7 = 0 := by { rw [F10 _ _ (by omega)]; exact na2.2.2.2.1 }
    refine OK_jg (by (first | ((first | exact g.1.1 | (rw [e38]; exact g.1.1) | (rw [e10]; exact g.1.1) | (rw [q38]; exact g.1.1))) | ((show 0 ≤ a3 ∧ a3 < 122; have z1 := ar.1; have z2 := ja.2.2.2.2.2.2.2; omega)) | (first | assumption | omega | ((try dsimp only [jt2, jt3, jt4]); first | omega | (simp (disch := omega) only [jst_eq, jst_ne, jst_ni, jst_o, jI_i, jcpy_out, w32_id, jdiv_nn, jshr_k, jand_255] <;> first | done | omega | assumption)) | (intros; simp (disch := omega) only [jst_eq, jst_ne, jst_ni, jst_o, jI_i, jcpy_out, w32_id, jdiv_nn, *] <;> first | done | omega) | (intros; simp (disch := omega) only [jst_eq, jst_ne, jst_ni, jst_o, jI_i, jcpy_out, w32_id, jdiv_nn] at * <;> first | done | omega | assumption) | (intros; first | rfl | (exfalso; omega) | ((repeat' apply And.intro) <;> first | assumption | rfl | omega | trivial))))) ?_ -- o13
    refine OK_jg (by (first | ((first | exact g.1.1 | (rw [e38]; exact g.1.1) | (rw [e10]; exact g.1.1) | (rw [q38]; exact g.1.1))) | ((show 0 ≤ a3 ∧ a3 < 122; have z1 := ar.1; have z2 := ja.2.2.2.2.2.2.2; omega)) | (first | assumption | omega | ((try dsimp only [jt2, jt3, jt4]); first | omega | (simp (disch := omega) only [jst_eq, jst_ne, jst_ni, jst_o, jI_i, jcpy_out, w32_id, jdiv_nn, jshr_k, jand_255] <;> first | done | omega | assumption)) | (intros; simp (disch := omega) only [jst_eq, jst_ne, jst_ni, jst_o, jI_i, jcpy_out, w32_id, jdiv_nn, *] <;> first | done | omega) | (intros; simp (disch := omega) only [jst_eq, jst_ne, jst_ni, jst_o, jI_i, jcpy_out, w32_id, jdiv_nn] at * <;> first | done | omega | assumption) | (intros; first | rfl | (exfalso; omega) | ((repeat' apply And.intro) <;> first | assumption | rfl | omega | trivial))))) ?_ -- o14
    refine OK_jb (vX14_addKid _ _ (by (rw [e10, nd3]; have := ar.1; omega))) (fun h12 r3 => ?_)
    try dsimp only [Sum.elim_inl, Sum.elim_inr, jt2, jt3, jt4, jt5, jt6, jt7, jt8] at r3
    obtain ⟨n3, k3, x3, fr3⟩ := r3
    try simp (disch := omega) only [jst_eq, jst_ne, jst_ni, jI_i, jcmp_lt, jcmp_gt, w32_id, jcpy_out, Sum.elim_inl, Sum.elim_inr, jt2, jt3, jt4, jt5, jt6, jt7, jt8] at n3
    try simp (disch := omega) only [jst_eq, jst_ne, jst_ni, jI_i, jcmp_lt, jcmp_gt, w32_id, jcpy_out, Sum.elim_inl, Sum.elim_inr, jt2, jt3, jt4, jt5, jt6, jt7, jt8] at k3
    try simp (disch := omega) only [jst_eq, jst_ne, jst_ni, jI_i, jcmp_lt, jcmp_gt, w32_id, jcpy_out, Sum.elim_inl, Sum.elim_inr, jt2, jt3, jt4, jt5, jt6, jt7, jt8] at x3
    try simp (disch := omega) only [jst_eq, jst_ne, jst_ni, jI_i, jcmp_lt, jcmp_gt, w32_id, jcpy_out, Sum.elim_inl, Sum.elim_inr, jt2, jt3, jt4, jt5, jt6, jt7, jt8] at fr3
    rw [e10, nd3] at k3
    have kk := k3 (by omega)
    have F12 : ∀ a s, ¬ (a = 454 ∧ (s = 17 ∨ s = 20)) → ¬ (460 ≤ a ∧ a ≤ 469 ∧ a ≠ 464 ∧ s = tp + h 454 40) → ¬ (a = 464 ∧ s = 3 * v7) → ¬ (a = 754 ∧ 0 ≤ s) → h12 a s = h a s := fun a s y1 y2 y3 y4 => by { rw [fr3 a s (by omega) (by omega) (by omega) (by omega), F10 a s (by omega)]; exact F8 a s y1 y2 y4 }
    have T12 : fT v7 h h12 := fun a s y1 y2 y3 y4 => F12 a s (by omega) (by omega) (by omega) (by omega)
    have K12 : h12 460 v7 = 2 ∧ h12 461 v7 = kch (eK E x2 (eO E x2)) ∧ h12 463 v7 = x2 ∧ h12 469 v7 = a2 ∧ h12 465 v7 = 1 ∧ h12 464 (3 * v7) = tp + a3 ∧ h12 466 v7 = -1 := by { refine ⟨?_, ?_, ?_, ?_, ?_, ?_, ?_⟩; { rw [fr3 _ _ (by omega) (by omega) (by omega) (by omega), F10 _ _ (by omega)]; exact na2.1 }; { rw [fr3 _ _ (by omega) (by omega) (by omega) (by omega), F10 _ _ (by omega), ← k58]; exact na2.2.1 }; { rw [fr3 _ _ (by omega) (by omega) (by omega) (by omega)]; exact K10 }; { rw [fr3 _ _ (by omega) (by omega) (by omega) (by omega)]; exact L10 }; { omega }; { rw [s5, show 3 * v7 + 0 = 3 * v7 by omega] at kk; exact kk.1 }; { rw [fr3 _ _ (by omega) (by omega) (by omega) (by omega), F10 _ _ (by omega)]; exact na2.2.2.2.2 } }
    have G12 := seM_M g rfl (fT_M (by omega) T12) ⟨by rw [F12 _ _ (by omega) (by omega) (by omega) (by omega)]; exact g.2.1.1, by unfold b20; rw [fr3 _ _ (by omega) (by omega) (by omega) (by omega), F10 _ _ (by omega)]; exact B8⟩
    have M12 : ∀ p, 0 ≤ p → p < pts → h12 754 p = mkV E W T0.2.2.2.2.2 x2 a3 a4 a5 p := fun p p0 p1 => by { rw [fr3 _ _ (by omega) (by omega) (by omega) (by omega), F10 _ _ (by omega)]; exact M8 p p0 p1 }
    have q38 : h12 454 38 = h 454 38 := F12 _ _ (by omega) (by omega) (by omega) (by omega)
    have q40 : h12 454 40 = h 454 40 := F12 _ _ (by omega) (by omega) (by omega) (by omega)
    have Q12 := QM_T qm (show v7 = tp + h 454 40 by omega) T12
    refine OK_if (fun c2 => ?_) (fun c2 => ?_)
    · skip
      try simp (disch := omega) only [jst_eq, jst_ne, jst_ni, jI_i, jcmp_lt, jcmp_gt, w32_id, jcpy_out, Sum.elim_inl, Sum.elim_inr, jt2, jt3, jt4, jt5, jt6, jt7, jt8] at c2
      refine OK_mono (vX14_offer_j116 (E := E) (Rf := Rf) (W := W) (A := A) (pts := pts) (tp := tp) (q := a2) (j := a1) (ac := x2) (x := a3) (y := a4) (B := B) (T0 := T0) (F := F) _ _ (by exact G12) (by exact Q12) (by exact gt) (by (rw [q38, F12 _ _ (by omega) (by omega) (by omega) (by omega)]; exact n0)) (by exact ja) (by exact ⟨by omega, K12.1, K12.2.1, K12.2.2.1, K12.2.2.2.1, by rw [if_pos (by omega)]; exact K12.2.2.2.2.1, K12.2.2.2.2.2.1, fun z => by rw [if_pos (by omega)] at z; omega, K12.2.2.2.2.2.2⟩) (by exact bk) (by exact M12)) (fun r r4 => ?_)
      try dsimp only [Sum.elim_inl, Sum.elim_inr, jt2, jt3, jt4, jt5, jt6, jt7, jt8] at r4
      obtain ⟨qm4, fs4⟩ := r4
      try simp (disch := omega) only [jst_eq, jst_ne, jst_ni, jI_i, jcmp_lt, jcmp_gt, w32_id, jcpy_out, Sum.elim_inl, Sum.elim_inr, jt2, jt3, jt4, jt5, jt6, jt7, jt8] at qm4
      try simp (disch := omega) only [jst_eq, jst_ne, jst_ni, jI_i, jcmp_lt, jcmp_gt, w32_id, jcpy_out, Sum.elim_inl, Sum.elim_inr, jt2, jt3, jt4, jt5, jt6, jt7, jt8] at fs4
      try dsimp only [Sum.elim_inl, Sum.elim_inr, jt2, jt3, jt4, jt5, jt6, jt7, jt8]
      try dsimp only [Sum.elim_inl, Sum.elim_inr, jt2, jt3, jt4, jt5, jt6, jt7, jt8]
      refine ⟨?_, ?_⟩
      · (first | ((first | exact g.1.1 | (rw [e38]; exact g.1.1) | (rw [e10]; exact g.1.1) | (rw [q38]; exact g.1.1))) | ((show 0 ≤ a3 ∧ a3 < 122; have z1 := ar.1; have z2 := ja.2.2.2.2.2.2.2; omega)) | (first | assumption | omega | ((try dsimp only [jt2, jt3, jt4]); first | omega | (simp (disch := omega) only [jst_eq, jst_ne, jst_ni, jst_o, jI_i, jcpy_out, w32_id, jdiv_nn, jshr_k, jand_255] <;> first | done | omega | assumption)) | (intros; simp (disch := omega) only [jst_eq, jst_ne, jst_ni, jst_o, jI_i, jcpy_out, w32_id, jdiv_nn, *] <;> first | done | omega) | (intros; simp (disch := omega) only [jst_eq, jst_ne, jst_ni, jst_o, jI_i, jcpy_out, w32_id, jdiv_nn] at * <;> first | done | omega | assumption) | (intros; first | rfl | (exfalso; omega) | ((repeat' apply And.intro) <;> first | assumption | rfl | omega | trivial)))) -- o24 e1.1
      · (rw [q38] at fs4; exact ⟨fM_t (fT_M (by omega) T12) fs4.1, fs4.2⟩) -- o25 e1.2
    · skip
      try simp (disch := omega) only [jst_eq, jst_ne, jst_ni, jI_i, jcmp_lt, jcmp_gt, w32_id, jcpy_out, Sum.elim_inl, Sum.elim_inr, jt2, jt3, jt4, jt5, jt6, jt7, jt8] at c2
      have hy : 0 ≤ a4 ∧ a4 < T0.1 := by omega
      have nd4 : h12 (h 454 38 + 13) a4 = tp + a4 := by { rw [F12 _ _ (by omega) (by omega) (by omega) (by omega)]; exact (xm.2.1.2.2.2.2.2.2 a4 hy.1 (by omega)).2.2.1 }
      refine OK_jg (by (first | ((first | exact g.1.1 | (rw [e38]; exact g.1.1) | (rw [e10]; exact g.1.1) | (rw [q38]; exact g.1.1))) | ((show 0 ≤ a3 ∧ a3 < 122; have z1 := ar.1; have z2 := ja.2.2.2.2.2.2.2; omega)) | (first | assumption | omega | ((try dsimp only [jt2, jt3, jt4]); first | omega | (simp (disch := omega) only [jst_eq, jst_ne, jst_ni, jst_o, jI_i, jcpy_out, w32_id, jdiv_nn, jshr_k, jand_255] <;> first | done | omega | assumption)) | (intros; simp (disch := omega) only [jst_eq, jst_ne, jst_ni, jst_o, jI_i, jcpy_out, w32_id, jdiv_nn, *] <;> first | done | omega) | (intros; simp (disch := omega) only [jst_eq, jst_ne, jst_ni, jst_o, jI_i, jcpy_out, w32_id, jdiv_nn] at * <;> first | done | omega | assumption) | (intros; first | rfl | (exfalso; omega) | ((repeat' apply And.intro) <;> first | assumption | rfl | omega | trivial))))) ?_ -- o26
      refine OK_jg (by (first | ((first | exact g.1.1 | (rw [e38]; exact g.1.1) | (rw [e10]; exact g.1.1) | (rw [q38]; exact g.1.1))) | ((show 0 ≤ a3 ∧ a3 < 122; have z1 := ar.1; have z2 := ja.2.2.2.2.2.2.2; omega)) | (first | assumption | omega | ((try dsimp only [jt2, jt3, jt4]); first | omega | (simp (disch := omega) only [jst_eq, jst_ne, jst_ni, jst_o, jI_i, jcpy_out, w32_id, jdiv_nn, jshr_k, jand_255] <;> first | done | omega | assumption)) | (intros; simp (disch := omega) only [jst_eq, jst_ne, jst_ni, jst_o, jI_i, jcpy_out, w32_id, jdiv_nn, *] <;> first | done | omega) | (intros; simp (disch := omega) only [jst_eq, jst_ne, jst_ni, jst_o, jI_i, jcpy_out, w32_id, jdiv_nn] at * <;> first | done | omega | assumption) | (intros; first | rfl | (exfalso; omega) | ((repeat' apply And.intro) <;> first | assumption | rfl | omega | trivial))))) ?_ -- o27
      refine OK_jb (vX14_addKid _ _ (by (rw [q38, nd4]; omega))) (fun h15 r5 => ?_)
      try dsimp only [Sum.elim_inl, Sum.elim_inr, jt2, jt3, jt4, jt5, jt6, jt7, jt8] at r5
      obtain ⟨n5, k5, x5, fr5⟩ := r5
      try simp (disch := omega) only [jst_eq, jst_ne, jst_ni, jI_i, jcmp_lt, jcmp_gt, w32_id, jcpy_out, Sum.elim_inl, Sum.elim_inr, jt2, jt3, jt4, jt5, jt6, jt7, jt8] at n5
      try simp (disch := omega) only [jst_eq, jst_ne, jst_ni, jI_i, jcmp_lt, jcmp_gt, w32_id, jcpy_out, Sum.elim_inl, Sum.elim_inr, jt2, jt3, jt4, jt5, jt6, jt7, jt8] at k5
      try simp (disch := omega) only [jst_eq, jst_ne, jst_ni, jI_i, jcmp_lt, jcmp_gt, w32_id, jcpy_out, Sum.elim_inl, Sum.elim_inr, jt2, jt3, jt4, jt5, jt6, jt7, jt8] at x5
      try simp (disch := omega) only [jst_eq, jst_ne, jst_ni, jI_i, jcmp_lt, jcmp_gt, w32_id, jcpy_out, Sum.elim_inl, Sum.elim_inr, jt2, jt3, jt4, jt5, jt6, jt7, jt8] at fr5
      rw [q38, nd4] at k5
      have kq := k5 (by omega)
      have T15 : fT v7 h12 h15 := fun a s y1 y2 y3 y4 => fr5 a s (by omega) (by omega) (by omega) (by omega)
      have R15 := fun a s y1 y2 => fr5 a s (show ¬ (a = 465 ∧ s = v7) from y1) (by omega) (by omega) (show ¬ (a = 464 ∧ s = 3 * v7 + h12 465 v7 ∧ h12 465 v7 < 3) from y2)
      have G15 := seM_M G12 rfl (fT_M (by omega) T15) ⟨by rw [R15 _ _ (by omega) (by omega)]; exact G12.2.1.1, by unfold b20; rw [R15 _ _ (by omega) (by omega)]; exact G12.2.1.2⟩
      have r38 : h15 454 38 = h 454 38 := by { rw [R15 _ _ (by omega) (by omega)]; exact q38 }
      have r40 : h15 454 40 = h 454 40 := by { rw [R15 _ _ (by omega) (by omega)]; exact q40 }
      refine OK_mono (vX14_offer_j116 (E := E) (Rf := Rf) (W := W) (A := A) (pts := pts) (tp := tp) (q := a2) (j := a1) (ac := x2) (x := a3) (y := a4) (B := B) (T0 := T0) (F := F) _ _ (by exact G15) (by exact QM_T Q12 (by omega) T15) (by exact gt) (by (rw [r38, R15 _ _ (by omega) (by omega), F12 _ _ (by omega) (by omega) (by omega) (by omega)]; exact n0)) (by exact ja) (by (refine ⟨by omega, ?_, ?_, ?_, ?_, ?_, ?_, fun z => ?_, ?_⟩; { rw [R15 _ _ (by omega) (by omega)]; exact K12.1 }; { rw [R15 _ _ (by omega) (by omega)]; exact K12.2.1 }; { rw [R15 _ _ (by omega) (by omega)]; exact K12.2.2.1 }; { rw [R15 _ _ (by omega) (by omega)]; exact K12.2.2.2.1 }; { rw [if_neg (by omega)]; omega }; { rw [R15 _ _ (by omega) (by omega)]; exact K12.2.2.2.2.2.1 }; { rw [K12.2.2.2.2.1] at kq; exact kq.1 }; { rw [R15 _ _ (by omega) (by omega)]; exact K12.2.2.2.2.2.2 })) (by exact bk) (by exact fun p p0 p1 => by rw [R15 _ _ (by omega) (by omega)]; exact M12 p p0 p1)) (fun r r6 => ?_)
      try dsimp only [Sum.elim_inl, Sum.elim_inr, jt2, jt3, jt4, jt5, jt6, jt7, jt8] at r6
      obtain ⟨qm6, fs6⟩ := r6
      try simp (disch := omega) only [jst_eq, jst_ne, jst_ni, jI_i, jcmp_lt, jcmp_gt, w32_id, jcpy_out, Sum.elim_inl, Sum.elim_inr, jt2, jt3, jt4, jt5, jt6, jt7, jt8] at qm6
      try simp (disch := omega) only [jst_eq, jst_ne, jst_ni, jI_i, jcmp_lt, jcmp_gt, w32_id, jcpy_out, Sum.elim_inl, Sum.elim_inr, jt2, jt3, jt4, jt5, jt6, jt7, jt8] at fs6
      try dsimp only [Sum.elim_inl, Sum.elim_inr, jt2, jt3, jt4, jt5, jt6, jt7, jt8]
      try dsimp only [Sum.elim_inl, Sum.elim_inr, jt2, jt3, jt4, jt5, jt6, jt7, jt8]
      refine ⟨?_, ?_⟩
      · (first | ((first | exact g.1.1 | (rw [e38]; exact g.1.1) | (rw [e10]; exact g.1.1) | (rw [q38]; exact g.1.1))) | ((show 0 ≤ a3 ∧ a3 < 122; have z1 := ar.1; have z2 := ja.2.2.2.2.2.2.2; omega)) | (first | assumption | omega | ((try dsimp only [jt2, jt3, jt4]); first | omega | (simp (disch := omega) only [jst_eq, jst_ne, jst_ni, jst_o, jI_i, jcpy_out, w32_id, jdiv_nn, jshr_k, jand_255] <;> first | done | omega | assumption)) | (intros; simp (disch := omega) only [jst_eq, jst_ne, jst_ni, jst_o, jI_i, jcpy_out, w32_id, jdiv_nn, *] <;> first | done | omega) | (intros; simp (disch := omega) only [jst_eq, jst_ne, jst_ni, jst_o, jI_i, jcpy_out, w32_id, jdiv_nn] at * <;> first | done | omega | assumption) | (intros; first | rfl | (exfalso; omega) | ((repeat' apply And.intro) <;> first | assumption | rfl | omega | trivial)))) -- o37 e2.1
      · (rw [r38] at fs6; exact ⟨fM_t (fT_M (by omega) T12) (fM_t (fT_M (by omega) T15) fs6.1), fs6.2⟩) -- o38 e2.2
  · skip
    try simp (disch := omega) only [jst_eq, jst_ne, jst_ni, jI_i, jcmp_lt, jcmp_gt, w32_id, jcpy_out, Sum.elim_inl, Sum.elim_inr, jt2, jt3, jt4, jt5, jt6, jt7, jt8] at c1
    refine OK_some ?_
    try dsimp only [Sum.elim_inl, Sum.elim_inr, jt2, jt3, jt4, jt5, jt6, jt7, jt8]
    try dsimp only [Sum.elim_inl, Sum.elim_inr, jt2, jt3, jt4, jt5, jt6, jt7, jt8]
    refine ⟨?_, ?_⟩
    · exact QM_c qm (by omega) ext_mk (by omega) -- o39 e3.1
    · exact ⟨fM_r _, g⟩ -- o40 e3.2

