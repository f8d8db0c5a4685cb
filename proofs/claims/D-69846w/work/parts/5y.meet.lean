/-! x: what meets, the laws -/
theorem vX1_meet_l60 (a30 : Int) (a40 : Int) {h0 : AH} {E : EV} {Rf : Int → TR} {W : Int → Int → Int → VW} {f : Int → Int → Int → Int} {hl : Int → Int} {ln : Int} {nn : Int → Int} {lk : Int → Int → Int} {LL LR : Int → TR} (w : wkL h0 E Rf W f hl) (x4 : isX4 (h0 200 16)) (n : h0 (h0 200 16) 11 = ln ∧ 0 ≤ ln ∧ ln ≤ 4) (l : ∀ l, 0 ≤ l → l < ln → lwX h0 E nn lk LL LR l) (z : a30 = 1 ∧ a40 = 0) : OK (gX1_meet_l60 a30 a40 h0) (fun r => jt2 r fun v h' => ((v = 1 ∧ ∀ l, 0 ≤ l → l < ln → lwH W f hl nn lk LL LR l) ∨ (v = 0 ∧ ¬ ∀ l, 0 ≤ l → l < ln → lwH W f hl nn lk LL LR l)) ∧ (f269 h0 h' ∧ -2147483648 ≤ h' 200 10 ∧ h' 200 10 < 2147483648)) := by
  unfold gX1_meet_l60
  refine OK_jit (I := (fun (s : Int × Int × AH) => jt3 s fun a3 a4 h => (0 ≤ a4 ∧ a4 ≤ ln) ∧ ((a3 = 1 ∧ ∀ l, 0 ≤ l → l < a4 → lwH W f hl nn lk LL LR l) ∨ (a3 = 0 ∧ ¬ ∀ l, 0 ≤ l → l < ln → lwH W f hl nn lk LL LR l)) ∧ (f269 h0 h) ∧ (-2147483648 ≤ h 200 10 ∧ h 200 10 < 2147483648))) (m := (fun (s : Int × Int × AH) => jt3 s fun a3 a4 h => (ln - a4).toNat)) ?_ ?_
  · intro s hs
    obtain ⟨a3, a4, h⟩ := s
    dsimp only [Sum.elim_inl, Sum.elim_inr, jt2, jt3, jt4, jt5, jt6, jt7, jt8] at hs
    obtain ⟨q0, q1, fr, bb⟩ := hs
    unfold gX1_meet_b60
    refine OK_jt3 ?_
    have W1 := wkL_fr w fr bb
    have X0 : h0 200 16 = 271 ∨ h0 200 16 = 289 := x4
    have e16 : h 200 16 = h0 200 16 := fr _ _ (by omega) (by omega)
    have X4 : isX4 (h 200 16) := by { rw [e16]; exact x4 }
    have N : h (h 200 16) 11 = ln := by { rw [e16, fr _ _ (by omega) (by omega)]; exact n.1 }
    refine OK_if (fun c1 => ?_) (fun c1 => ?_)
    · skip
      try simp (disch := omega) only [jst_eq, jst_ne, jst_ni, jI_i, jcmp_lt, jcmp_gt, w32_id, jcpy_out, Sum.elim_inl, Sum.elim_inr, jt2, jt3, jt4, jt5, jt6, jt7, jt8] at c1
      refine OK_ir ?_
      try dsimp only [Sum.elim_inl, Sum.elim_inr, jt2, jt3, jt4, jt5, jt6, jt7, jt8]
      refine ⟨?_, ?_⟩
      · (rcases q1 with z | z; { exact Or.inl ⟨z.1, fun l l0 l1 => z.2 l l0 (by omega)⟩ }; { exact Or.inr z }) -- o1 e1.1
      · exact ⟨fr, bb⟩ -- o2 e1.2
    · skip
      try simp (disch := omega) only [jst_eq, jst_ne, jst_ni, jI_i, jcmp_lt, jcmp_gt, w32_id, jcpy_out, Sum.elim_inl, Sum.elim_inr, jt2, jt3, jt4, jt5, jt6, jt7, jt8] at c1
      have L1 := lwX_fr x4 (l a4 q0.1 (by omega)) fr
      refine OK_if (fun c2 => ?_) (fun c2 => ?_)
      · skip
        try simp (disch := omega) only [jst_eq, jst_ne, jst_ni, jI_i, jcmp_lt, jcmp_gt, w32_id, jcpy_out, Sum.elim_inl, Sum.elim_inr, jt2, jt3, jt4, jt5, jt6, jt7, jt8] at c2
        refine OK_ir ?_
        try dsimp only [Sum.elim_inl, Sum.elim_inr, jt2, jt3, jt4, jt5, jt6, jt7, jt8]
        refine ⟨?_, ?_⟩
        · (rcases q1 with z | z; { exact absurd z.1 (by omega) }; { exact Or.inr z }) -- o3 e2.1
        · exact ⟨fr, bb⟩ -- o4 e2.2
      · skip
        try simp (disch := omega) only [jst_eq, jst_ne, jst_ni, jI_i, jcmp_lt, jcmp_gt, w32_id, jcpy_out, Sum.elim_inl, Sum.elim_inr, jt2, jt3, jt4, jt5, jt6, jt7, jt8] at c2
        refine OK_jb2 (vX1_holds (E := E) (Rf := Rf) (W := W) (f := f) (hl := hl) (nn := nn) (lk := lk) (LL := LL) (LR := LR) _ (by (first | assumption | omega | ((try dsimp only [jt2, jt3, jt4]); first | omega | (simp (disch := omega) only [jst_eq, jst_ne, jst_ni, jst_o, jI_i, jcpy_out, w32_id, jdiv_nn, jshr_k, jand_255] <;> first | done | omega | assumption)) | (intros; simp (disch := omega) only [jst_eq, jst_ne, jst_ni, jst_o, jI_i, jcpy_out, w32_id, jdiv_nn, *] <;> first | done | omega) | (intros; simp (disch := omega) only [jst_eq, jst_ne, jst_ni, jst_o, jI_i, jcpy_out, w32_id, jdiv_nn] at * <;> first | done | omega | assumption) | (intros; first | rfl | (exfalso; omega) | ((repeat' apply And.intro) <;> first | assumption | rfl | omega | trivial)))) (by (first | assumption | omega | ((try dsimp only [jt2, jt3, jt4]); first | omega | (simp (disch := omega) only [jst_eq, jst_ne, jst_ni, jst_o, jI_i, jcpy_out, w32_id, jdiv_nn, jshr_k, jand_255] <;> first | done | omega | assumption)) | (intros; simp (disch := omega) only [jst_eq, jst_ne, jst_ni, jst_o, jI_i, jcpy_out, w32_id, jdiv_nn, *] <;> first | done | omega) | (intros; simp (disch := omega) only [jst_eq, jst_ne, jst_ni, jst_o, jI_i, jcpy_out, w32_id, jdiv_nn] at * <;> first | done | omega | assumption) | (intros; first | rfl | (exfalso; omega) | ((repeat' apply And.intro) <;> first | assumption | rfl | omega | trivial)))) (by (first | assumption | omega | ((try dsimp only [jt2, jt3, jt4]); first | omega | (simp (disch := omega) only [jst_eq, jst_ne, jst_ni, jst_o, jI_i, jcpy_out, w32_id, jdiv_nn, jshr_k, jand_255] <;> first | done | omega | assumption)) | (intros; simp (disch := omega) only [jst_eq, jst_ne, jst_ni, jst_o, jI_i, jcpy_out, w32_id, jdiv_nn, *] <;> first | done | omega) | (intros; simp (disch := omega) only [jst_eq, jst_ne, jst_ni, jst_o, jI_i, jcpy_out, w32_id, jdiv_nn] at * <;> first | done | omega | assumption) | (intros; first | rfl | (exfalso; omega) | ((repeat' apply And.intro) <;> first | assumption | rfl | omega | trivial)))) (by (first | assumption | omega | ((try dsimp only [jt2, jt3, jt4]); first | omega | (simp (disch := omega) only [jst_eq, jst_ne, jst_ni, jst_o, jI_i, jcpy_out, w32_id, jdiv_nn, jshr_k, jand_255] <;> first | done | omega | assumption)) | (intros; simp (disch := omega) only [jst_eq, jst_ne, jst_ni, jst_o, jI_i, jcpy_out, w32_id, jdiv_nn, *] <;> first | done | omega) | (intros; simp (disch := omega) only [jst_eq, jst_ne, jst_ni, jst_o, jI_i, jcpy_out, w32_id, jdiv_nn] at * <;> first | done | omega | assumption) | (intros; first | rfl | (exfalso; omega) | ((repeat' apply And.intro) <;> first | assumption | rfl | omega | trivial))))) (fun v19 h20 r1 => ?_)
        try dsimp only [Sum.elim_inl, Sum.elim_inr, jt2, jt3, jt4, jt5, jt6, jt7, jt8] at r1
        obtain ⟨hv1, fs1⟩ := r1
        try simp (disch := omega) only [jst_eq, jst_ne, jst_ni, jI_i, jcmp_lt, jcmp_gt, w32_id, jcpy_out, Sum.elim_inl, Sum.elim_inr, jt2, jt3, jt4, jt5, jt6, jt7, jt8] at hv1
        try simp (disch := omega) only [jst_eq, jst_ne, jst_ni, jI_i, jcmp_lt, jcmp_gt, w32_id, jcpy_out, Sum.elim_inl, Sum.elim_inr, jt2, jt3, jt4, jt5, jt6, jt7, jt8] at fs1
        refine OK_jlx (fun x21 ex21 => ?_)
        try simp (disch := omega) only [jst_eq, jst_ne, jst_ni, jI_i, jcmp_lt, jcmp_gt, w32_id, jcpy_out, Sum.elim_inl, Sum.elim_inr, jt2, jt3, jt4, jt5, jt6, jt7, jt8] at ex21
        refine OK_il ?_ ?_
        · try dsimp only [Sum.elim_inl, Sum.elim_inr, jt2, jt3, jt4, jt5, jt6, jt7, jt8]
          refine ⟨?_, ?_, ?_, ?_⟩
          · (first | assumption | omega | ((try dsimp only [jt2, jt3, jt4]); first | omega | (simp (disch := omega) only [jst_eq, jst_ne, jst_ni, jst_o, jI_i, jcpy_out, w32_id, jdiv_nn, jshr_k, jand_255] <;> first | done | omega | assumption)) | (intros; simp (disch := omega) only [jst_eq, jst_ne, jst_ni, jst_o, jI_i, jcpy_out, w32_id, jdiv_nn, *] <;> first | done | omega) | (intros; simp (disch := omega) only [jst_eq, jst_ne, jst_ni, jst_o, jI_i, jcpy_out, w32_id, jdiv_nn] at * <;> first | done | omega | assumption) | (intros; first | rfl | (exfalso; omega) | ((repeat' apply And.intro) <;> first | assumption | rfl | omega | trivial))) -- o9 e3i.1
          · (rcases q1 with z | z; { rcases hv1 with y | y; { refine Or.inl ⟨y.1, fun l l0 l1 => ?_⟩; by_cases k : l = a4; { rw [k]; exact y.2 }; { exact z.2 l l0 (by omega) } }; { exact Or.inr ⟨y.1, fun k => y.2 (k a4 q0.1 (by omega))⟩ } }; { exact absurd z.1 (by omega) }) -- o10 e3i.2
          · exact f269_tr fr fs1.1 -- o11 e3i.3
          · exact fs1.2 -- o12 e3i.4
        · (first | assumption | omega | ((try dsimp only [jt2, jt3, jt4]); first | omega | (simp (disch := omega) only [jst_eq, jst_ne, jst_ni, jst_o, jI_i, jcpy_out, w32_id, jdiv_nn, jshr_k, jand_255] <;> first | done | omega | assumption)) | (intros; simp (disch := omega) only [jst_eq, jst_ne, jst_ni, jst_o, jI_i, jcpy_out, w32_id, jdiv_nn, *] <;> first | done | omega) | (intros; simp (disch := omega) only [jst_eq, jst_ne, jst_ni, jst_o, jI_i, jcpy_out, w32_id, jdiv_nn] at * <;> first | done | omega | assumption) | (intros; first | rfl | (exfalso; omega) | ((repeat' apply And.intro) <;> first | assumption | rfl | omega | trivial))) -- o13 e3m
  · try dsimp only [Sum.elim_inl, Sum.elim_inr, jt2, jt3, jt4, jt5, jt6, jt7, jt8]
    refine ⟨?_, ?_, ?_, ?_⟩
    · (first | assumption | omega | ((try dsimp only [jt2, jt3, jt4]); first | omega | (simp (disch := omega) only [jst_eq, jst_ne, jst_ni, jst_o, jI_i, jcpy_out, w32_id, jdiv_nn, jshr_k, jand_255] <;> first | done | omega | assumption)) | (intros; simp (disch := omega) only [jst_eq, jst_ne, jst_ni, jst_o, jI_i, jcpy_out, w32_id, jdiv_nn, *] <;> first | done | omega) | (intros; simp (disch := omega) only [jst_eq, jst_ne, jst_ni, jst_o, jI_i, jcpy_out, w32_id, jdiv_nn] at * <;> first | done | omega | assumption) | (intros; first | rfl | (exfalso; omega) | ((repeat' apply And.intro) <;> first | assumption | rfl | omega | trivial))) -- o14 init.1
    · exact Or.inl ⟨z.1, fun l l0 l1 => absurd l1 (by omega)⟩ -- o15 init.2
    · exact f269_rfl -- o16 init.3
    · exact w.2.2.2 -- o17 init.4
theorem ptE_nn {E : EV} {x y z : Int} (a : vlR (eK E (-2) 0) x) (b : 2 ≤ eO E (-2) → vlR (eK E (-2) 1) y) (c : 3 ≤ eO E (-2) → vlR (eK E (-2) 2) z) : 0 ≤ ptE E x y z := by
  have b1 := (bsK_r (eK E (-2) 1)).1
  have b2 := (bsK_r (eK E (-2) 2)).1
  unfold ptE
  by_cases h1 : eO E (-2) ≤ 1
  · rw [if_pos h1]; exact a.1
  · rw [if_neg h1]
    have y0 := (b (by omega)).1
    have m1 : 0 ≤ x * bsK (eK E (-2) 1) := Int.mul_nonneg a.1 (by omega)
    by_cases h2 : eO E (-2) ≤ 2
    · rw [if_pos h2]; omega
    · rw [if_neg h2]
      have z0 := (c (by omega)).1
      have m2 : 0 ≤ (x * bsK (eK E (-2) 1) + y) * bsK (eK E (-2) 2) := Int.mul_nonneg (by omega) (by omega)
      omega
/-- the table as a function -/
def fPt (E : EV) (g : Int → Int) : Int → Int → Int → Int := fun x y z => g (ptE E x y z)
theorem mtX_wk {h : AH} {E : EV} {Rf : Int → TR} {W : Int → Int → Int → VW} {hl ra : Int → Int} {n wh pts rn ln : Int} {kf rv nn : Int → Int} {lk : Int → Int → Int} {LL LR : Int → TR} {g : Int → Int} (m : mtX h E Rf W hl n kf wh rv pts rn ra ln nn lk LL LR) (a : h (h 200 14) (-2) = 101 ∧ h 200 14 ≠ 200 ∧ h 200 14 ≠ 269 ∧ 0 ≤ h 200 15 ∧ h 200 15 ≤ 100000 ∧ h 200 15 + pts ≤ h (h 200 14) (-1) ∧ ∀ p, 0 ≤ p → p < pts → h (h 200 14) (h 200 15 + p) = g p) (o : E.2.2.1 = 1 → ∀ p, 0 ≤ p → p < pts → okV (eK E (-2) (eO E (-2))) (g p)) : wkL h E Rf W (fPt E g) hl := by
  obtain ⟨⟨a1, a2, a3, a4, a5⟩, -, -, -, e1⟩ := m
  obtain ⟨c1, c2, c3, c5, c8, c7⟩ := a2
  obtain ⟨d1, d2, d3, d4, d5, d6, d7⟩ := a
  refine ⟨⟨c1, c2, c3, fun y x1 y1 z1 u v w => ?_, c5, fun y => ?_, c8, c7⟩, a3, a4, a5⟩
  · exact o y _ (ptE_nn u v w) ((e1 y).2.2 x1 y1 z1 u v w)
  · refine ⟨a1, (e1 y).1, (e1 y).2.1, d1, d2, d3, d4, d5, fun x1 y1 z1 u v w => ?_⟩
    have l1 := (e1 y).2.2 x1 y1 z1 u v w
    exact ⟨by omega, d7 _ (ptE_nn u v w) l1⟩
theorem f1415_269 {h h1 h2 : AH} (a : f1415 h h1) (b : f269 h1 h2) : f1415 h h2 := fun x s y z => by rw [b x s (by omega) z]; exact a x s y z
/-- what meets: points' answers and laws -/
def mtA (E : EV) (W : Int → Int → Int → VW) (hl : Int → Int) (rn : Int) (rp ra : Int → Int) (ln : Int) (nn : Int → Int) (lk : Int → Int → Int) (LL LR : Int → TR) (g : Int → Int) : Prop := mtR g rn rp ra ∧ ∀ l, 0 ≤ l → l < ln → lwH W (fPt E g) hl nn lk LL LR l
theorem vX1_meet (a1 : Int) (a2 : Int) {h : AH} {E : EV} {Rf : Int → TR} {W : Int → Int → Int → VW} {hl ra : Int → Int} {n wh pts rn ln : Int} {kf rv nn : Int → Int} {lk : Int → Int → Int} {LL LR : Int → TR} {g : Int → Int} (m : mtX h E Rf W hl n kf wh rv pts rn ra ln nn lk LL LR) (a : h a1 (-2) = 101 ∧ a1 ≠ 200 ∧ a1 ≠ 269 ∧ 0 ≤ a2 ∧ a2 ≤ 100000 ∧ a2 + pts ≤ h a1 (-1) ∧ ∀ p, 0 ≤ p → p < pts → h a1 (a2 + p) = g p) (o : E.2.2.1 = 1 → ∀ p, 0 ≤ p → p < pts → okV (eK E (-2) (eO E (-2))) (g p)) : OK (gX1_meet a1 a2 h) (fun r => jt2 r fun v h' => ((v = 1 ∧ mtA E W hl rn (rpA n kf wh rv) ra ln nn lk LL LR g) ∨ (v = 0 ∧ ¬ mtA E W hl rn (rpA n kf wh rv) ra ln nn lk LL LR g)) ∧ (f1415 h h' ∧ -2147483648 ≤ h' 200 10 ∧ h' 200 10 < 2147483648)) := by
  unfold gX1_meet
  refine OK_jb (vX1_meet_l2 (E := E) (Rf := Rf) (W := W) (hl := hl) (n := n) (kf := kf) (wh := wh) (rv := rv) (pts := pts) (rn := rn) (ra := ra) (ln := ln) (nn := nn) (lk := lk) (LL := LL) (LR := LR) (g := g) _ _ _ (by (first | assumption | omega | ((try dsimp only [jt2, jt3, jt4]); first | omega | (simp (disch := omega) only [jst_eq, jst_ne, jst_ni, jst_o, jI_i, jcpy_out, w32_id, jdiv_nn, jshr_k, jand_255] <;> first | done | omega | assumption)) | (intros; simp (disch := omega) only [jst_eq, jst_ne, jst_ni, jst_o, jI_i, jcpy_out, w32_id, jdiv_nn, *] <;> first | done | omega) | (intros; simp (disch := omega) only [jst_eq, jst_ne, jst_ni, jst_o, jI_i, jcpy_out, w32_id, jdiv_nn] at * <;> first | done | omega | assumption) | (intros; first | rfl | (exfalso; omega) | ((repeat' apply And.intro) <;> first | assumption | rfl | omega | trivial)))) (by exact ⟨a.1, a.2.2.2.1, a.2.2.2.2.1, a.2.2.2.2.2.1, a.2.2.2.2.2.2⟩) (by (first | assumption | omega | ((try dsimp only [jt2, jt3, jt4]); first | omega | (simp (disch := omega) only [jst_eq, jst_ne, jst_ni, jst_o, jI_i, jcpy_out, w32_id, jdiv_nn, jshr_k, jand_255] <;> first | done | omega | assumption)) | (intros; simp (disch := omega) only [jst_eq, jst_ne, jst_ni, jst_o, jI_i, jcpy_out, w32_id, jdiv_nn, *] <;> first | done | omega) | (intros; simp (disch := omega) only [jst_eq, jst_ne, jst_ni, jst_o, jI_i, jcpy_out, w32_id, jdiv_nn] at * <;> first | done | omega | assumption) | (intros; first | rfl | (exfalso; omega) | ((repeat' apply And.intro) <;> first | assumption | rfl | omega | trivial))))) (fun o1 r1 => ?_)
  rcases o1 with o3 | o4
  · skip
    have r2 := r1; clear r1
    dsimp only [Sum.elim_inl, Sum.elim_inr] at r2
    try dsimp only [Sum.elim_inl, Sum.elim_inr, jt2, jt3, jt4, jt5, jt6, jt7, jt8] at r2
    have ne1 := r2
    clear r2
    try simp (disch := omega) only [jst_eq, jst_ne, jst_ni, jI_i, jcmp_lt, jcmp_gt, w32_id, jcpy_out, Sum.elim_inl, Sum.elim_inr, jt2, jt3, jt4, jt5, jt6, jt7, jt8] at ne1
    refine OK_jml ?_
    refine OK_some ?_
    try dsimp only [Sum.elim_inl, Sum.elim_inr, jt2, jt3, jt4, jt5, jt6, jt7, jt8]
    try dsimp only [Sum.elim_inl, Sum.elim_inr, jt2, jt3, jt4, jt5, jt6, jt7, jt8]
    refine ⟨?_, ?_⟩
    · exact Or.inr ⟨rfl, fun y => ne1 y.1⟩ -- o4 e1.1
    · exact ⟨fun _ _ _ _ => rfl, m.1.2.2.2.2⟩ -- o5 e1.2
  · skip
    have r3 := r1; clear r1
    dsimp only [Sum.elim_inl, Sum.elim_inr] at r3
    try dsimp only [Sum.elim_inl, Sum.elim_inr, jt2, jt3, jt4, jt5, jt6, jt7, jt8] at r3
    have al2 := r3
    clear r3
    try simp (disch := omega) only [jst_eq, jst_ne, jst_ni, jI_i, jcmp_lt, jcmp_gt, w32_id, jcpy_out, Sum.elim_inl, Sum.elim_inr, jt2, jt3, jt4, jt5, jt6, jt7, jt8] at al2
    refine OK_jmr ?_
    refine OK_jl ?_
    refine OK_jl ?_
    have F6 : f1415 h (jst (jst h 200 14 a1) 200 15 a2) := fun b s y z => by { rw [jst_o (by omega), jst_o (by omega)] }
    have C14 : jst (jst h 200 14 a1) 200 15 a2 200 14 = a1 := by { rw [jst_o (by omega)]; exact jst_eq }
    have C15 : jst (jst h 200 14 a1) 200 15 a2 200 15 = a2 := jst_eq
    have C16 : jst (jst h 200 14 a1) 200 15 a2 200 16 = h 200 16 := by rw [jst_o (by omega), jst_o (by omega)]
    have O6 : ∀ s, jst (jst h 200 14 a1) 200 15 a2 a1 s = h a1 s := fun s => by { have := a.2.1; rw [jst_o (by omega), jst_o (by omega)] }
    have B6 : jst (jst h 200 14 a1) 200 15 a2 200 10 = h 200 10 := by rw [jst_o (by omega), jst_o (by omega)]
    generalize e6 : jst (jst h 200 14 a1) 200 15 a2 = hq at *
    have M6 : mtX hq E Rf W hl n kf wh rv pts rn ra ln nn lk LL LR := mtX_fr m F6 (by { rw [B6]; exact m.1.2.2.2.2 })
    have K6 : wkL hq E Rf W (fPt E g) hl := mtX_wk M6 (by { rw [C14, C15, O6, O6]; exact ⟨a.1, a.2.1, a.2.2.1, a.2.2.2.1, a.2.2.2.2.1, a.2.2.2.2.2.1, fun p p0 p1 => by { rw [O6]; exact a.2.2.2.2.2.2 p p0 p1 }⟩ }) o
    refine OK_jb (vX1_meet_l60 (E := E) (Rf := Rf) (W := W) (f := fPt E g) (hl := hl) (ln := ln) (nn := nn) (lk := lk) (LL := LL) (LR := LR) _ _ (by exact K6) (by exact M6.1.1) (by exact ⟨M6.2.2.2.1.1, M6.2.2.2.1.2.1, M6.2.2.2.1.2.2.1⟩) (by exact M6.2.2.2.1.2.2.2) (by (first | assumption | omega | ((try dsimp only [jt2, jt3, jt4]); first | omega | (simp (disch := omega) only [jst_eq, jst_ne, jst_ni, jst_o, jI_i, jcpy_out, w32_id, jdiv_nn, jshr_k, jand_255] <;> first | done | omega | assumption)) | (intros; simp (disch := omega) only [jst_eq, jst_ne, jst_ni, jst_o, jI_i, jcpy_out, w32_id, jdiv_nn, *] <;> first | done | omega) | (intros; simp (disch := omega) only [jst_eq, jst_ne, jst_ni, jst_o, jI_i, jcpy_out, w32_id, jdiv_nn] at * <;> first | done | omega | assumption) | (intros; first | rfl | (exfalso; omega) | ((repeat' apply And.intro) <;> first | assumption | rfl | omega | trivial))))) (fun o7 r4 => ?_)
    obtain ⟨y9, h10⟩ := o7
    refine OK_jt2 ?_
    try dsimp only [Sum.elim_inl, Sum.elim_inr, jt2, jt3, jt4, jt5, jt6, jt7, jt8] at r4
    obtain ⟨hv3, fs3⟩ := r4
    try simp (disch := omega) only [jst_eq, jst_ne, jst_ni, jI_i, jcmp_lt, jcmp_gt, w32_id, jcpy_out, Sum.elim_inl, Sum.elim_inr, jt2, jt3, jt4, jt5, jt6, jt7, jt8] at hv3
    try simp (disch := omega) only [jst_eq, jst_ne, jst_ni, jI_i, jcmp_lt, jcmp_gt, w32_id, jcpy_out, Sum.elim_inl, Sum.elim_inr, jt2, jt3, jt4, jt5, jt6, jt7, jt8] at fs3
    refine OK_jg (by (unfold jZ; rcases hv3 with z | z; { exact Or.inr z.1 }; { exact Or.inl z.1 })) ?_ -- o11
    refine OK_some ?_
    try dsimp only [Sum.elim_inl, Sum.elim_inr, jt2, jt3, jt4, jt5, jt6, jt7, jt8]
    try dsimp only [Sum.elim_inl, Sum.elim_inr, jt2, jt3, jt4, jt5, jt6, jt7, jt8]
    refine ⟨?_, ?_⟩
    · (rcases hv3 with z | z; { exact Or.inl ⟨z.1, al2, z.2⟩ }; { exact Or.inr ⟨z.1, fun y => z.2 y.2⟩ }) -- o12 e2.1
    · exact ⟨f1415_269 F6 fs3.1, fs3.2⟩ -- o13 e2.2

