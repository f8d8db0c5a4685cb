/-! m: what terms answer, whole -/
theorem vX14_answer_j344 {F : Int → Int → Int → Int → Int → AH → Option (Int × AH)} (a5 : Int) (a10 : Int) {h : AH} (g : h a5 (-2) = 101 ∧ 0 ≤ a10 ∧ a10 < h a5 (-1)) : OK (gX14_answer_j344 F a5 a10 h) (fun r => jt2 r fun v h' => (v = h a5 a10) ∧ (h' = h)) := by
  unfold gX14_answer_j344
  refine OK_jg (by (first | assumption | omega | ((try dsimp only [jt2, jt3, jt4]); first | omega | (simp (disch := omega) only [jst_eq, jst_ne, jst_ni, jst_o, jI_i, jcpy_out, w32_id, jdiv_nn, jshr_k, jand_255] <;> first | done | omega | assumption)) | (intros; simp (disch := omega) only [jst_eq, jst_ne, jst_ni, jst_o, jI_i, jcpy_out, w32_id, jdiv_nn, *] <;> first | done | omega) | (intros; simp (disch := omega) only [jst_eq, jst_ne, jst_ni, jst_o, jI_i, jcpy_out, w32_id, jdiv_nn] at * <;> first | done | omega | assumption) | (intros; first | rfl | (exfalso; omega) | ((repeat' apply And.intro) <;> first | assumption | rfl | omega | trivial)))) ?_ -- o1
  refine OK_some ?_
  try dsimp only [Sum.elim_inl, Sum.elim_inr, jt2, jt3, jt4, jt5, jt6, jt7, jt8]
  try dsimp only [Sum.elim_inl, Sum.elim_inr, jt2, jt3, jt4, jt5, jt6, jt7, jt8]
  refine ⟨?_, ?_⟩
  · (first | assumption | omega | ((try dsimp only [jt2, jt3, jt4]); first | omega | (simp (disch := omega) only [jst_eq, jst_ne, jst_ni, jst_o, jI_i, jcpy_out, w32_id, jdiv_nn, jshr_k, jand_255] <;> first | done | omega | assumption)) | (intros; simp (disch := omega) only [jst_eq, jst_ne, jst_ni, jst_o, jI_i, jcpy_out, w32_id, jdiv_nn, *] <;> first | done | omega) | (intros; simp (disch := omega) only [jst_eq, jst_ne, jst_ni, jst_o, jI_i, jcpy_out, w32_id, jdiv_nn] at * <;> first | done | omega | assumption) | (intros; first | rfl | (exfalso; omega) | ((repeat' apply And.intro) <;> first | assumption | rfl | omega | trivial))) -- o2 e1.1
  · (first | assumption | omega | ((try dsimp only [jt2, jt3, jt4]); first | omega | (simp (disch := omega) only [jst_eq, jst_ne, jst_ni, jst_o, jI_i, jcpy_out, w32_id, jdiv_nn, jshr_k, jand_255] <;> first | done | omega | assumption)) | (intros; simp (disch := omega) only [jst_eq, jst_ne, jst_ni, jst_o, jI_i, jcpy_out, w32_id, jdiv_nn, *] <;> first | done | omega) | (intros; simp (disch := omega) only [jst_eq, jst_ne, jst_ni, jst_o, jI_i, jcpy_out, w32_id, jdiv_nn] at * <;> first | done | omega | assumption) | (intros; first | rfl | (exfalso; omega) | ((repeat' apply And.intro) <;> first | assumption | rfl | omega | trivial))) -- o3 e1.2
/-- the point so far -/
theorem vX14_answer_j314 {F : Int → Int → Int → Int → Int → AH → Option (Int × AH)} (a1 : Int) (a5 : Int) (a9 : Int) (a10 : Int) {h : AH} {E : EV} {f : Int → Int → Int → Int} {x y z : Int} (sg : sgM h E f a5) (n : 0 ≤ a1 ∧ a1 < 8800 ∧ h 465 a1 = eO E (-2) ∧ 1 ≤ eO E (-2) ∧ eO E (-2) ≤ 3) (tx : vlR (eK E (-2) 0) x ∧ (2 ≤ eO E (-2) → vlR (eK E (-2) 1) y) ∧ (3 ≤ eO E (-2) → vlR (eK E (-2) 2) z)) (ps : (eO E (-2) ≤ 1 → a10 = x) ∧ (2 ≤ eO E (-2) → a10 = x * bsK (eK E (-2) 1) + y) ∧ (3 ≤ eO E (-2) → a9 = z)) (kz : ∀ k, 0 ≤ k → k < eO E (-2) → 0 ≤ eK E (-2) k) : OK (gX14_answer_j314 F a1 a5 a9 a10 h) (fun r => jt2 r fun v h' => (v = f x y z) ∧ (h' = h)) := by
  obtain ⟨g1, g2, g3, g4, g5⟩ := sg
  have pt := g5 x y z tx.1 tx.2.1 tx.2.2
  have b1 := bsK_r (eK E (-2) 1)
  have b2 := bsK_r (eK E (-2) 2)
  have v0 : 0 ≤ x ∧ x < bsK (eK E (-2) 0) := vl_bs tx.1 (kz 0 (by omega) (by omega)) (g2 0 (by omega) (by omega)).2
  have b0 := bsK_r (eK E (-2) 0)
  have v1 : 2 ≤ eO E (-2) → 0 ≤ y ∧ y < bsK (eK E (-2) 1) := fun q => vl_bs (tx.2.1 q) (kz 1 (by omega) (by omega)) (g2 1 (by omega) (by omega)).2
  have v2 : 3 ≤ eO E (-2) → 0 ≤ z ∧ z < bsK (eK E (-2) 2) := fun q => vl_bs (tx.2.2 q) (kz 2 (by omega) (by omega)) (g2 2 (by omega) (by omega)).2
  have m1 : 0 ≤ x * bsK (eK E (-2) 1) ∧ x * bsK (eK E (-2) 1) ≤ 240 := ⟨Int.mul_nonneg v0.1 (by omega), by { have := Int.mul_le_mul (show x ≤ 15 by omega) b1.2 (by omega) (by decide : (0 : Int) ≤ 15); omega }⟩
  unfold gX14_answer_j314
  refine OK_jg (by (first | assumption | omega | ((try dsimp only [jt2, jt3, jt4]); first | omega | (simp (disch := omega) only [jst_eq, jst_ne, jst_ni, jst_o, jI_i, jcpy_out, w32_id, jdiv_nn, jshr_k, jand_255] <;> first | done | omega | assumption)) | (intros; simp (disch := omega) only [jst_eq, jst_ne, jst_ni, jst_o, jI_i, jcpy_out, w32_id, jdiv_nn, *] <;> first | done | omega) | (intros; simp (disch := omega) only [jst_eq, jst_ne, jst_ni, jst_o, jI_i, jcpy_out, w32_id, jdiv_nn] at * <;> first | done | omega | assumption) | (intros; first | rfl | (exfalso; omega) | ((repeat' apply And.intro) <;> first | assumption | rfl | omega | trivial)))) ?_ -- o1
  refine OK_if (fun c1 => ?_) (fun c1 => ?_)
  · skip
    try simp (disch := omega) only [jst_eq, jst_ne, jst_ni, jI_i, jcmp_lt, jcmp_gt, w32_id, jcpy_out, Sum.elim_inl, Sum.elim_inr, jt2, jt3, jt4, jt5, jt6, jt7, jt8] at c1
    have pe : a10 = ptE E x y z := by { unfold ptE; by_cases q : eO E (-2) ≤ 1; { rw [if_pos q]; exact ps.1 q }; { rw [if_neg q, if_pos (by omega)]; exact ps.2.1 (by omega) } }
    have p0 : 0 ≤ a10 := by { by_cases q : eO E (-2) ≤ 1; { have := ps.1 q; omega }; { have := ps.2.1 (by omega); have := v1 (by omega); omega } }
    refine OK_mono (vX14_answer_j344 _ _ (by exact ⟨g3, p0, by omega⟩)) (fun r r1 => ?_)
    obtain ⟨y1, y2⟩ := r
    try dsimp only [Sum.elim_inl, Sum.elim_inr, jt2, jt3, jt4, jt5, jt6, jt7, jt8] at r1
    obtain ⟨vv1, hh1⟩ := r1
    try simp (disch := omega) only [jst_eq, jst_ne, jst_ni, jI_i, jcmp_lt, jcmp_gt, w32_id, jcpy_out, Sum.elim_inl, Sum.elim_inr, jt2, jt3, jt4, jt5, jt6, jt7, jt8] at vv1
    try simp (disch := omega) only [jst_eq, jst_ne, jst_ni, jI_i, jcmp_lt, jcmp_gt, w32_id, jcpy_out, Sum.elim_inl, Sum.elim_inr, jt2, jt3, jt4, jt5, jt6, jt7, jt8] at hh1
    try dsimp only [Sum.elim_inl, Sum.elim_inr, jt2, jt3, jt4, jt5, jt6, jt7, jt8]
    try dsimp only [Sum.elim_inl, Sum.elim_inr, jt2, jt3, jt4, jt5, jt6, jt7, jt8]
    refine ⟨?_, ?_⟩
    · (rw [vv1, pe]; exact pt.2) -- o3 e1.1
    · (first | assumption | omega | ((try dsimp only [jt2, jt3, jt4]); first | omega | (simp (disch := omega) only [jst_eq, jst_ne, jst_ni, jst_o, jI_i, jcpy_out, w32_id, jdiv_nn, jshr_k, jand_255] <;> first | done | omega | assumption)) | (intros; simp (disch := omega) only [jst_eq, jst_ne, jst_ni, jst_o, jI_i, jcpy_out, w32_id, jdiv_nn, *] <;> first | done | omega) | (intros; simp (disch := omega) only [jst_eq, jst_ne, jst_ni, jst_o, jI_i, jcpy_out, w32_id, jdiv_nn] at * <;> first | done | omega | assumption) | (intros; first | rfl | (exfalso; omega) | ((repeat' apply And.intro) <;> first | assumption | rfl | omega | trivial))) -- o4 e1.2
  · skip
    try simp (disch := omega) only [jst_eq, jst_ne, jst_ni, jI_i, jcmp_lt, jcmp_gt, w32_id, jcpy_out, Sum.elim_inl, Sum.elim_inr, jt2, jt3, jt4, jt5, jt6, jt7, jt8] at c1
    have h3 : 3 ≤ eO E (-2) := by omega
    have q1 := ps.2.1 (by omega)
    have q2 := ps.2.2 h3
    have w1 := v1 (by omega)
    have w2 := v2 h3
    have m2 : 0 ≤ a10 * bsK (eK E (-2) 2) ∧ a10 * bsK (eK E (-2) 2) ≤ 4096 := ⟨Int.mul_nonneg (by omega) (by omega), by { have := Int.mul_le_mul (show a10 ≤ 256 by omega) b2.2 (by omega) (by decide : (0 : Int) ≤ 256); omega }⟩
    have pe : a10 * bsK (eK E (-2) 2) + a9 = ptE E x y z := by { unfold ptE; rw [if_neg (by omega), if_neg (by omega), q1, q2] }
    refine OK_jg (by (first | assumption | omega | ((try dsimp only [jt2, jt3, jt4]); first | omega | (simp (disch := omega) only [jst_eq, jst_ne, jst_ni, jst_o, jI_i, jcpy_out, w32_id, jdiv_nn, jshr_k, jand_255] <;> first | done | omega | assumption)) | (intros; simp (disch := omega) only [jst_eq, jst_ne, jst_ni, jst_o, jI_i, jcpy_out, w32_id, jdiv_nn, *] <;> first | done | omega) | (intros; simp (disch := omega) only [jst_eq, jst_ne, jst_ni, jst_o, jI_i, jcpy_out, w32_id, jdiv_nn] at * <;> first | done | omega | assumption) | (intros; first | rfl | (exfalso; omega) | ((repeat' apply And.intro) <;> first | assumption | rfl | omega | trivial)))) ?_ -- o5
    refine OK_jb (vX14_base (k := eK E (-2) 2) _ (by exact (g2 2 (by omega) (by omega)).1)) (fun v38 r2 => ?_)
    try dsimp only [Sum.elim_inl, Sum.elim_inr, jt2, jt3, jt4, jt5, jt6, jt7, jt8] at r2
    have bv2 := r2
    clear r2
    try simp (disch := omega) only [jst_eq, jst_ne, jst_ni, jI_i, jcmp_lt, jcmp_gt, w32_id, jcpy_out, Sum.elim_inl, Sum.elim_inr, jt2, jt3, jt4, jt5, jt6, jt7, jt8] at bv2
    refine OK_jlx (fun x39 ex39 => ?_)
    try simp (disch := omega) only [jst_eq, jst_ne, jst_ni, jI_i, jcmp_lt, jcmp_gt, w32_id, jcpy_out, Sum.elim_inl, Sum.elim_inr, jt2, jt3, jt4, jt5, jt6, jt7, jt8] at ex39
    have e39 : x39 = ptE E x y z := by { rw [ex39, bv2, w32_id (x := a10 * _) (by omega) (by omega), w32_id (by omega) (by omega)]; exact pe }
    refine OK_mono (vX14_answer_j344 _ _ (by exact ⟨g3, by omega, by omega⟩)) (fun r r3 => ?_)
    obtain ⟨y3, y4⟩ := r
    try dsimp only [Sum.elim_inl, Sum.elim_inr, jt2, jt3, jt4, jt5, jt6, jt7, jt8] at r3
    obtain ⟨vv3, hh3⟩ := r3
    try simp (disch := omega) only [jst_eq, jst_ne, jst_ni, jI_i, jcmp_lt, jcmp_gt, w32_id, jcpy_out, Sum.elim_inl, Sum.elim_inr, jt2, jt3, jt4, jt5, jt6, jt7, jt8] at vv3
    try simp (disch := omega) only [jst_eq, jst_ne, jst_ni, jI_i, jcmp_lt, jcmp_gt, w32_id, jcpy_out, Sum.elim_inl, Sum.elim_inr, jt2, jt3, jt4, jt5, jt6, jt7, jt8] at hh3
    try dsimp only [Sum.elim_inl, Sum.elim_inr, jt2, jt3, jt4, jt5, jt6, jt7, jt8]
    try dsimp only [Sum.elim_inl, Sum.elim_inr, jt2, jt3, jt4, jt5, jt6, jt7, jt8]
    refine ⟨?_, ?_⟩
    · (rw [vv3, e39]; exact pt.2) -- o8 e2.1
    · (first | assumption | omega | ((try dsimp only [jt2, jt3, jt4]); first | omega | (simp (disch := omega) only [jst_eq, jst_ne, jst_ni, jst_o, jI_i, jcpy_out, w32_id, jdiv_nn, jshr_k, jand_255] <;> first | done | omega | assumption)) | (intros; simp (disch := omega) only [jst_eq, jst_ne, jst_ni, jst_o, jI_i, jcpy_out, w32_id, jdiv_nn, *] <;> first | done | omega) | (intros; simp (disch := omega) only [jst_eq, jst_ne, jst_ni, jst_o, jI_i, jcpy_out, w32_id, jdiv_nn] at * <;> first | done | omega | assumption) | (intros; first | rfl | (exfalso; omega) | ((repeat' apply And.intro) <;> first | assumption | rfl | omega | trivial))) -- o9 e2.2
def evX (E : EV) (W : Int → Int → Int → VW) (f : Int → Int → Int → Int) (i : NI) (x y z : Int) : VW := if x = -1 ∨ y = -1 ∨ z = -1 then (-1, 0) else if i.1 = 4 then (f x y z, 0) else W i.2.1 x y
/-- what is known of a node with an act -/
def NDP (h : AH) (E : EV) (R : TR) (d : Int) : Prop := 0 ≤ d ∧ d < 8800 ∧ h 465 d = nk R ∧ ((inf R).1 = 2 → h 460 d = 2 ∧ h 463 d = (inf R).2.1 ∧ 0 ≤ (inf R).2.1 ∧ (inf R).2.1 < E.1.1) ∧ ((inf R).1 = 4 → h 460 d = 2 ∧ h 463 d = -1 ∧ E.2.2.1 = 1) ∧ ((inf R).1 = 2 ∨ (inf R).1 = 4) ∧ nk R = eO E (acI (inf R)) ∧ 1 ≤ nk R ∧ nk R ≤ 3
theorem vX14_answer_j232 {F : Int → Int → Int → Int → Int → AH → Option (Int × AH)} (a1 : Int) (a5 : Int) (a7 : Int) (a8 : Int) (t0 : Int) {h : AH} {E : EV} {Rf : Int → TR} {W : Int → Int → Int → VW} {f : Int → Int → Int → Int} {w wv np k : Int} {kp hl : Int → Int} {R : TR} {a b c : Int} (hF : CWA F k) (q : preV h E Rf W f w wv np kp a b c a5 R a1) (nd : NDP h E R a1) (nc : (inf R).1 = 2 → (inf R).2.1 ≠ 15 ∧ (inf R).2.1 ≠ 16) (dk : dpE E.1.2.2.2.1 R ≤ k) (vx : a7 = (gv (evK W f (p3 a b c) hl R) 0).1 ∧ a8 = (gv (evK W f (p3 a b c) hl R) 1).1 ∧ t0 = (gv (evK W f (p3 a b c) hl R) 2).1) (hh : ∀ c, 0 ≤ c → c ≤ 2 → 0 ≤ hl c ∧ hl c ≤ 15) : OK (gX14_answer_j232 F a1 a5 a7 a8 t0 h) (fun r => jt2 r fun v h' => (v = (evX E W f (inf R) a7 a8 t0).1) ∧ (posV h h' (evX E W f (inf R) a7 a8 t0).2)) := by
  obtain ⟨n1, n2, n3, n4, n5, n6, n7, n8, n9⟩ := nd
  have ac := q.1.2.1
  have hA := ac.2.1
  have b20 := q.2.2.2.2.2.2.2.2.2
  have KT := evK_ty (W := W) (f := f) (p := p3 a b c) (hl := hl) ac (wOK_ty q.1.2.2.1) q.1.2.2.2.1 q.2.2.2.2.2.1 hh R 0 q.2.2.1
  have VT : ∀ m : Nat, (m : Int) < nk R → okV (eK E (acI (inf R)) m) (gv (evK W f (p3 a b c) hl R) m).1 := fun m m1 => by { have z := KT m m1; rw [Int.zero_add] at z; exact z }
  have Z : ∀ m : Nat, nk R ≤ (m : Int) → (gv (evK W f (p3 a b c) hl R) m).1 = 0 := fun m m1 => by rw [gv_no R m m1]
  unfold gX14_answer_j232
  refine OK_jg (by (first | assumption | omega | ((try dsimp only [jt2, jt3, jt4]); first | omega | (simp (disch := omega) only [jst_eq, jst_ne, jst_ni, jst_o, jI_i, jcpy_out, w32_id, jdiv_nn, jshr_k, jand_255] <;> first | done | omega | assumption)) | (intros; simp (disch := omega) only [jst_eq, jst_ne, jst_ni, jst_o, jI_i, jcpy_out, w32_id, jdiv_nn, *] <;> first | done | omega) | (intros; simp (disch := omega) only [jst_eq, jst_ne, jst_ni, jst_o, jI_i, jcpy_out, w32_id, jdiv_nn] at * <;> first | done | omega | assumption) | (intros; first | rfl | (exfalso; omega) | ((repeat' apply And.intro) <;> first | assumption | rfl | omega | trivial)))) ?_ -- o1
  refine OK_if (fun c1 => ?_) (fun c1 => ?_)
  · skip
    try simp (disch := omega) only [jst_eq, jst_ne, jst_ni, jI_i, jcmp_lt, jcmp_gt, w32_id, jcpy_out, Sum.elim_inl, Sum.elim_inr, jt2, jt3, jt4, jt5, jt6, jt7, jt8] at c1
    have s4 : (inf R).1 = 4 := by { rcases n6 with y | y; { have := n4 y; omega }; { exact y } }
    have t4 := (n5 s4).2.2
    have ea : acI (inf R) = -2 := if_pos s4
    rw [ea] at VT n7
    have A4 := ac.2.2.2.2 t4
    have SG : sgM h E f a5 := q.2.2.2.2.2.2.2.2.1.resolve_left (fun y => nsT_nd y s4)
    have X16 := SG.1
    have kz : ∀ k, 0 ≤ k → k < eO E (-2) → 0 ≤ eK E (-2) k := fun k k0 k1 => (A4.2.2 k k0 (by omega)).1
    refine OK_if (fun c2 => ?_) (fun c2 => ?_)
    · skip
      try simp (disch := omega) only [jst_eq, jst_ne, jst_ni, jI_i, jcmp_lt, jcmp_gt, w32_id, jcpy_out, Sum.elim_inl, Sum.elim_inr, jt2, jt3, jt4, jt5, jt6, jt7, jt8] at c2
      refine OK_some ?_
      try dsimp only [Sum.elim_inl, Sum.elim_inr, jt2, jt3, jt4, jt5, jt6, jt7, jt8]
      try dsimp only [Sum.elim_inl, Sum.elim_inr, jt2, jt3, jt4, jt5, jt6, jt7, jt8]
      refine ⟨?_, ?_⟩
      · (unfold evX; rw [if_pos (by omega)]) -- o2 e1.1
      · (unfold evX; rw [if_pos (by omega)]; exact posV_0 b20) -- o3 e1.2
    · skip
      try simp (disch := omega) only [jst_eq, jst_ne, jst_ni, jI_i, jcmp_lt, jcmp_gt, w32_id, jcpy_out, Sum.elim_inl, Sum.elim_inr, jt2, jt3, jt4, jt5, jt6, jt7, jt8] at c2
      refine OK_if (fun c3 => ?_) (fun c3 => ?_)
      · skip
        try simp (disch := omega) only [jst_eq, jst_ne, jst_ni, jI_i, jcmp_lt, jcmp_gt, w32_id, jcpy_out, Sum.elim_inl, Sum.elim_inr, jt2, jt3, jt4, jt5, jt6, jt7, jt8] at c3
        refine OK_some ?_
        try dsimp only [Sum.elim_inl, Sum.elim_inr, jt2, jt3, jt4, jt5, jt6, jt7, jt8]
        try dsimp only [Sum.elim_inl, Sum.elim_inr, jt2, jt3, jt4, jt5, jt6, jt7, jt8]
        refine ⟨?_, ?_⟩
        · (unfold evX; rw [if_pos (by omega)]) -- o4 e2.1
        · (unfold evX; rw [if_pos (by omega)]; exact posV_0 b20) -- o5 e2.2
      · skip
        try simp (disch := omega) only [jst_eq, jst_ne, jst_ni, jI_i, jcmp_lt, jcmp_gt, w32_id, jcpy_out, Sum.elim_inl, Sum.elim_inr, jt2, jt3, jt4, jt5, jt6, jt7, jt8] at c3
        refine OK_if (fun c4 => ?_) (fun c4 => ?_)
        · skip
          try simp (disch := omega) only [jst_eq, jst_ne, jst_ni, jI_i, jcmp_lt, jcmp_gt, w32_id, jcpy_out, Sum.elim_inl, Sum.elim_inr, jt2, jt3, jt4, jt5, jt6, jt7, jt8] at c4
          refine OK_some ?_
          try dsimp only [Sum.elim_inl, Sum.elim_inr, jt2, jt3, jt4, jt5, jt6, jt7, jt8]
          try dsimp only [Sum.elim_inl, Sum.elim_inr, jt2, jt3, jt4, jt5, jt6, jt7, jt8]
          refine ⟨?_, ?_⟩
          · (unfold evX; rw [if_pos (by omega)]) -- o6 e3.1
          · (unfold evX; rw [if_pos (by omega)]; exact posV_0 b20) -- o7 e3.2
        · skip
          try simp (disch := omega) only [jst_eq, jst_ne, jst_ni, jI_i, jcmp_lt, jcmp_gt, w32_id, jcpy_out, Sum.elim_inl, Sum.elim_inr, jt2, jt3, jt4, jt5, jt6, jt7, jt8] at c4
          refine OK_if (fun c5 => ?_) (fun c5 => ?_)
          · skip
            try simp (disch := omega) only [jst_eq, jst_ne, jst_ni, jI_i, jcmp_lt, jcmp_gt, w32_id, jcpy_out, Sum.elim_inl, Sum.elim_inr, jt2, jt3, jt4, jt5, jt6, jt7, jt8] at c5
            have tx : vlR (eK E (-2) 0) (gv (evK W f (p3 a b c) hl R) 0).1 ∧ (2 ≤ eO E (-2) → vlR (eK E (-2) 1) (gv (evK W f (p3 a b c) hl R) 1).1) ∧ (3 ≤ eO E (-2) → vlR (eK E (-2) 2) (gv (evK W f (p3 a b c) hl R) 2).1) := ⟨(VT 0 (by omega)).resolve_left (by omega), fun y => (VT 1 (by omega)).resolve_left (by omega), fun y => (VT 2 (by omega)).resolve_left (by omega)⟩
            refine OK_mono (vX14_answer_j314 (E := E) (f := f) (x := (gv (evK W f (p3 a b c) hl R) 0).1) (y := (gv (evK W f (p3 a b c) hl R) 1).1) (z := (gv (evK W f (p3 a b c) hl R) 2).1) _ _ _ _ (by (first | assumption | omega | ((try dsimp only [jt2, jt3, jt4]); first | omega | (simp (disch := omega) only [jst_eq, jst_ne, jst_ni, jst_o, jI_i, jcpy_out, w32_id, jdiv_nn, jshr_k, jand_255] <;> first | done | omega | assumption)) | (intros; simp (disch := omega) only [jst_eq, jst_ne, jst_ni, jst_o, jI_i, jcpy_out, w32_id, jdiv_nn, *] <;> first | done | omega) | (intros; simp (disch := omega) only [jst_eq, jst_ne, jst_ni, jst_o, jI_i, jcpy_out, w32_id, jdiv_nn] at * <;> first | done | omega | assumption) | (intros; first | rfl | (exfalso; omega) | ((repeat' apply And.intro) <;> first | assumption | rfl | omega | trivial)))) (by exact ⟨n1, n2, by omega, by omega, by omega⟩) (by (first | assumption | omega | ((try dsimp only [jt2, jt3, jt4]); first | omega | (simp (disch := omega) only [jst_eq, jst_ne, jst_ni, jst_o, jI_i, jcpy_out, w32_id, jdiv_nn, jshr_k, jand_255] <;> first | done | omega | assumption)) | (intros; simp (disch := omega) only [jst_eq, jst_ne, jst_ni, jst_o, jI_i, jcpy_out, w32_id, jdiv_nn, *] <;> first | done | omega) | (intros; simp (disch := omega) only [jst_eq, jst_ne, jst_ni, jst_o, jI_i, jcpy_out, w32_id, jdiv_nn] at * <;> first | done | omega | assumption) | (intros; first | rfl | (exfalso; omega) | ((repeat' apply And.intro) <;> first | assumption | rfl | omega | trivial)))) (by exact ⟨fun _ => by omega, fun y => by omega, fun y => by omega⟩) (by (first | assumption | omega | ((try dsimp only [jt2, jt3, jt4]); first | omega | (simp (disch := omega) only [jst_eq, jst_ne, jst_ni, jst_o, jI_i, jcpy_out, w32_id, jdiv_nn, jshr_k, jand_255] <;> first | done | omega | assumption)) | (intros; simp (disch := omega) only [jst_eq, jst_ne, jst_ni, jst_o, jI_i, jcpy_out, w32_id, jdiv_nn, *] <;> first | done | omega) | (intros; simp (disch := omega) only [jst_eq, jst_ne, jst_ni, jst_o, jI_i, jcpy_out, w32_id, jdiv_nn] at * <;> first | done | omega | assumption) | (intros; first | rfl | (exfalso; omega) | ((repeat' apply And.intro) <;> first | assumption | rfl | omega | trivial))))) (fun r r1 => ?_)
            obtain ⟨y1, y2⟩ := r
            try dsimp only [Sum.elim_inl, Sum.elim_inr, jt2, jt3, jt4, jt5, jt6, jt7, jt8] at r1
            obtain ⟨vv1, hh1⟩ := r1
            try simp (disch := omega) only [jst_eq, jst_ne, jst_ni, jI_i, jcmp_lt, jcmp_gt, w32_id, jcpy_out, Sum.elim_inl, Sum.elim_inr, jt2, jt3, jt4, jt5, jt6, jt7, jt8] at vv1
            try simp (disch := omega) only [jst_eq, jst_ne, jst_ni, jI_i, jcmp_lt, jcmp_gt, w32_id, jcpy_out, Sum.elim_inl, Sum.elim_inr, jt2, jt3, jt4, jt5, jt6, jt7, jt8] at hh1
            try dsimp only [Sum.elim_inl, Sum.elim_inr, jt2, jt3, jt4, jt5, jt6, jt7, jt8]
            try dsimp only [Sum.elim_inl, Sum.elim_inr, jt2, jt3, jt4, jt5, jt6, jt7, jt8]
            refine ⟨?_, ?_⟩
            · (unfold evX; rw [if_neg (by omega), if_pos s4, vx.1, vx.2.1, vx.2.2]; assumption) -- o13 e4.1
            · (unfold evX; rw [if_neg (by omega), if_pos s4, hh1]; exact posV_0 b20) -- o14 e4.2
          · skip
            try simp (disch := omega) only [jst_eq, jst_ne, jst_ni, jI_i, jcmp_lt, jcmp_gt, w32_id, jcpy_out, Sum.elim_inl, Sum.elim_inr, jt2, jt3, jt4, jt5, jt6, jt7, jt8] at c5
            have tx : vlR (eK E (-2) 0) (gv (evK W f (p3 a b c) hl R) 0).1 ∧ (2 ≤ eO E (-2) → vlR (eK E (-2) 1) (gv (evK W f (p3 a b c) hl R) 1).1) ∧ (3 ≤ eO E (-2) → vlR (eK E (-2) 2) (gv (evK W f (p3 a b c) hl R) 2).1) := ⟨(VT 0 (by omega)).resolve_left (by omega), fun y => (VT 1 (by omega)).resolve_left (by omega), fun y => (VT 2 (by omega)).resolve_left (by omega)⟩
            refine OK_jg (by (first | assumption | omega | ((try dsimp only [jt2, jt3, jt4]); first | omega | (simp (disch := omega) only [jst_eq, jst_ne, jst_ni, jst_o, jI_i, jcpy_out, w32_id, jdiv_nn, jshr_k, jand_255] <;> first | done | omega | assumption)) | (intros; simp (disch := omega) only [jst_eq, jst_ne, jst_ni, jst_o, jI_i, jcpy_out, w32_id, jdiv_nn, *] <;> first | done | omega) | (intros; simp (disch := omega) only [jst_eq, jst_ne, jst_ni, jst_o, jI_i, jcpy_out, w32_id, jdiv_nn] at * <;> first | done | omega | assumption) | (intros; first | rfl | (exfalso; omega) | ((repeat' apply And.intro) <;> first | assumption | rfl | omega | trivial)))) ?_ -- o15
            refine OK_jb (vX14_base (k := eK E (-2) 1) _ (by exact (SG.2.1 1 (by omega) (by omega)).1)) (fun v31 r2 => ?_)
            try dsimp only [Sum.elim_inl, Sum.elim_inr, jt2, jt3, jt4, jt5, jt6, jt7, jt8] at r2
            have bv2 := r2
            clear r2
            try simp (disch := omega) only [jst_eq, jst_ne, jst_ni, jI_i, jcmp_lt, jcmp_gt, w32_id, jcpy_out, Sum.elim_inl, Sum.elim_inr, jt2, jt3, jt4, jt5, jt6, jt7, jt8] at bv2
            refine OK_jlx (fun x32 ex32 => ?_)
            try simp (disch := omega) only [jst_eq, jst_ne, jst_ni, jI_i, jcmp_lt, jcmp_gt, w32_id, jcpy_out, Sum.elim_inl, Sum.elim_inr, jt2, jt3, jt4, jt5, jt6, jt7, jt8] at ex32
            have bb := bsK_r (eK E (-2) 1)
            have v0 := vl_bs tx.1 (kz 0 (by omega) (by omega)) (SG.2.1 0 (by omega) (by omega)).2
            have b0 := bsK_r (eK E (-2) 0)
            have v1 := vl_bs (tx.2.1 (by omega)) (kz 1 (by omega) (by omega)) (SG.2.1 1 (by omega) (by omega)).2
            have mm : 0 ≤ (gv (evK W f (p3 a b c) hl R) 0).1 * bsK (eK E (-2) 1) ∧ (gv (evK W f (p3 a b c) hl R) 0).1 * bsK (eK E (-2) 1) ≤ 240 := ⟨Int.mul_nonneg v0.1 (by omega), by { have := Int.mul_le_mul (show (gv (evK W f (p3 a b c) hl R) 0).1 ≤ 15 by omega) bb.2 (by omega) (by decide : (0 : Int) ≤ 15); omega }⟩
            have e32 : x32 = (gv (evK W f (p3 a b c) hl R) 0).1 * bsK (eK E (-2) 1) + (gv (evK W f (p3 a b c) hl R) 1).1 := by { rw [ex32, vx.1, vx.2.1, bv2, w32_id (x := _ * _) (by omega) (by omega), w32_id (by omega) (by omega)] }
            refine OK_mono (vX14_answer_j314 (E := E) (f := f) (x := (gv (evK W f (p3 a b c) hl R) 0).1) (y := (gv (evK W f (p3 a b c) hl R) 1).1) (z := (gv (evK W f (p3 a b c) hl R) 2).1) _ _ _ _ (by (first | assumption | omega | ((try dsimp only [jt2, jt3, jt4]); first | omega | (simp (disch := omega) only [jst_eq, jst_ne, jst_ni, jst_o, jI_i, jcpy_out, w32_id, jdiv_nn, jshr_k, jand_255] <;> first | done | omega | assumption)) | (intros; simp (disch := omega) only [jst_eq, jst_ne, jst_ni, jst_o, jI_i, jcpy_out, w32_id, jdiv_nn, *] <;> first | done | omega) | (intros; simp (disch := omega) only [jst_eq, jst_ne, jst_ni, jst_o, jI_i, jcpy_out, w32_id, jdiv_nn] at * <;> first | done | omega | assumption) | (intros; first | rfl | (exfalso; omega) | ((repeat' apply And.intro) <;> first | assumption | rfl | omega | trivial)))) (by exact ⟨n1, n2, by omega, by omega, by omega⟩) (by (first | assumption | omega | ((try dsimp only [jt2, jt3, jt4]); first | omega | (simp (disch := omega) only [jst_eq, jst_ne, jst_ni, jst_o, jI_i, jcpy_out, w32_id, jdiv_nn, jshr_k, jand_255] <;> first | done | omega | assumption)) | (intros; simp (disch := omega) only [jst_eq, jst_ne, jst_ni, jst_o, jI_i, jcpy_out, w32_id, jdiv_nn, *] <;> first | done | omega) | (intros; simp (disch := omega) only [jst_eq, jst_ne, jst_ni, jst_o, jI_i, jcpy_out, w32_id, jdiv_nn] at * <;> first | done | omega | assumption) | (intros; first | rfl | (exfalso; omega) | ((repeat' apply And.intro) <;> first | assumption | rfl | omega | trivial)))) (by exact ⟨fun _ => by omega, fun y => e32, fun y => by omega⟩) (by (first | assumption | omega | ((try dsimp only [jt2, jt3, jt4]); first | omega | (simp (disch := omega) only [jst_eq, jst_ne, jst_ni, jst_o, jI_i, jcpy_out, w32_id, jdiv_nn, jshr_k, jand_255] <;> first | done | omega | assumption)) | (intros; simp (disch := omega) only [jst_eq, jst_ne, jst_ni, jst_o, jI_i, jcpy_out, w32_id, jdiv_nn, *] <;> first | done | omega) | (intros; simp (disch := omega) only [jst_eq, jst_ne, jst_ni, jst_o, jI_i, jcpy_out, w32_id, jdiv_nn] at * <;> first | done | omega | assumption) | (intros; first | rfl | (exfalso; omega) | ((repeat' apply And.intro) <;> first | assumption | rfl | omega | trivial))))) (fun r r3 => ?_)
            obtain ⟨y3, y4⟩ := r
            try dsimp only [Sum.elim_inl, Sum.elim_inr, jt2, jt3, jt4, jt5, jt6, jt7, jt8] at r3
            obtain ⟨vv3, hh3⟩ := r3
            try simp (disch := omega) only [jst_eq, jst_ne, jst_ni, jI_i, jcmp_lt, jcmp_gt, w32_id, jcpy_out, Sum.elim_inl, Sum.elim_inr, jt2, jt3, jt4, jt5, jt6, jt7, jt8] at vv3
            try simp (disch := omega) only [jst_eq, jst_ne, jst_ni, jI_i, jcmp_lt, jcmp_gt, w32_id, jcpy_out, Sum.elim_inl, Sum.elim_inr, jt2, jt3, jt4, jt5, jt6, jt7, jt8] at hh3
            try dsimp only [Sum.elim_inl, Sum.elim_inr, jt2, jt3, jt4, jt5, jt6, jt7, jt8]
            try dsimp only [Sum.elim_inl, Sum.elim_inr, jt2, jt3, jt4, jt5, jt6, jt7, jt8]
            refine ⟨?_, ?_⟩
            · (unfold evX; rw [if_neg (by omega), if_pos s4, vx.1, vx.2.1, vx.2.2]; assumption) -- o22 e5.1
            · (unfold evX; rw [if_neg (by omega), if_pos s4, hh3]; exact posV_0 b20) -- o23 e5.2
  · skip
    try simp (disch := omega) only [jst_eq, jst_ne, jst_ni, jI_i, jcmp_lt, jcmp_gt, w32_id, jcpy_out, Sum.elim_inl, Sum.elim_inr, jt2, jt3, jt4, jt5, jt6, jt7, jt8] at c1
    have s2 : (inf R).1 = 2 := by { rcases n6 with y | y; { exact y }; { have := n5 y; omega } }
    have ea : acI (inf R) = (inf R).2.1 := if_neg (by omega)
    rw [ea] at VT n7
    have n4' := n4 s2
    have nc' := nc s2
    have A := ac.2.2.1 _ n4'.2.2.1 n4'.2.2.2
    have o2 : eO E (inf R).2.1 ≤ 2 := by { by_cases y : 26 ≤ (inf R).2.1; { exact A.2.2.1 y }; { have B := ac.2.2.2.1 (inf R).2.1 n4'.2.2.1 (by omega); rw [B.1]; unfold oB; by_cases y1 : (inf R).2.1 = 12 ∨ (inf R).2.1 = 18 ∨ (inf R).2.1 = 21 ∨ (inf R).2.1 = 22 ∨ (inf R).2.1 = 24 ∨ (inf R).2.1 = 25; { rw [if_pos y1]; decide }; { rw [if_neg y1, if_neg (by omega)]; decide } } }
    have dn := dpE_nd (wA := E.1.2.2.2.1) R
    have GE : gvA E W (h 463 a1) a7 a8 t0 = evX E W f (inf R) a7 a8 t0 := by { have z2 := Z 2 (by omega); rw [n4'.2.1]; unfold gvA evX; rw [if_neg (by omega)]; by_cases y : a7 = -1 ∨ a8 = -1 ∨ t0 = -1; { rw [if_pos y, if_pos]; by_cases y1 : nk R = 1; { have z1 := Z 1 (by omega); omega }; { omega } }; { rw [if_neg y, if_neg (by omega), if_neg (by omega)] } }
    refine OK_jb2 (vX14_given_ (E := E) (Rf := Rf) (W := W) (f := f) (w := w) (k := k) _ _ _ _ (by (first | assumption | omega | ((try dsimp only [jt2, jt3, jt4]); first | omega | (simp (disch := omega) only [jst_eq, jst_ne, jst_ni, jst_o, jI_i, jcpy_out, w32_id, jdiv_nn, jshr_k, jand_255] <;> first | done | omega | assumption)) | (intros; simp (disch := omega) only [jst_eq, jst_ne, jst_ni, jst_o, jI_i, jcpy_out, w32_id, jdiv_nn, *] <;> first | done | omega) | (intros; simp (disch := omega) only [jst_eq, jst_ne, jst_ni, jst_o, jI_i, jcpy_out, w32_id, jdiv_nn] at * <;> first | done | omega | assumption) | (intros; first | rfl | (exfalso; omega) | ((repeat' apply And.intro) <;> first | assumption | rfl | omega | trivial)))) (by exact q.1) (by exact q.2.2.2.1) (by (rw [n4'.2.1]; exact ⟨n4'.2.2.1, n4'.2.2.2, fun _ _ => ⟨by rw [vx.1]; exact VT 0 (by omega), fun y => by rw [vx.2.1]; exact VT 1 (by omega), fun y => by rw [vx.2.1]; exact Z 1 (by omega)⟩⟩)) (by (rw [n4'.2.1]; intro y; have e : lwI E.1.2.2.2.1 (inf R) = 1 + E.1.2.2.2.1 (inf R).2.1 := (by unfold lwI; rw [if_pos s2, if_pos y]); omega)) (by exact b20)) (fun v34 h35 r4 => ?_)
    try dsimp only [Sum.elim_inl, Sum.elim_inr, jt2, jt3, jt4, jt5, jt6, jt7, jt8] at r4
    obtain ⟨ev4, pe4⟩ := r4
    try simp (disch := omega) only [jst_eq, jst_ne, jst_ni, jI_i, jcmp_lt, jcmp_gt, w32_id, jcpy_out, Sum.elim_inl, Sum.elim_inr, jt2, jt3, jt4, jt5, jt6, jt7, jt8] at ev4
    try simp (disch := omega) only [jst_eq, jst_ne, jst_ni, jI_i, jcmp_lt, jcmp_gt, w32_id, jcpy_out, Sum.elim_inl, Sum.elim_inr, jt2, jt3, jt4, jt5, jt6, jt7, jt8] at pe4
    refine OK_some ?_
    try dsimp only [Sum.elim_inl, Sum.elim_inr, jt2, jt3, jt4, jt5, jt6, jt7, jt8]
    try dsimp only [Sum.elim_inl, Sum.elim_inr, jt2, jt3, jt4, jt5, jt6, jt7, jt8]
    refine ⟨?_, ?_⟩
    · (rw [← GE]; assumption) -- o30 e6.1
    · (rw [← GE]; assumption) -- o31 e6.2

