/-! x: the counts of a price: leaves -/
theorem lvA_p {A : AD} {h p : Int} (y : h < A.1) : lvA A h p = A.2.2.1 p h := if_pos y
theorem lvA_v {A : AD} {h p : Int} (y : ¬ h < A.1) : lvA A h p = A.2.2.2.2.2.2.1 (h - A.1) := if_neg y
theorem vX5_leafFunction_l22 (i1 : Int) (i2 : Int) (a30 : Int) {h0 : AH} {E : EV} {Rf : Int → TR} {W : Int → Int → Int → VW} {f : Int → Int → Int → Int} {A : AD} {pts wh : Int} {rv : Int → Int} (g : seX h0 E Rf W f A pts wh rv) (pt : h0 (h0 200 16) 18 = pts ∧ 0 ≤ pts) (k : 0 ≤ i1 ∧ i1 < A.1 + A.2.2.2.1 ∧ ((i2 = 0 ∧ ¬ i1 < A.1) ∨ (i2 = 1 ∧ i1 < A.1))) (z : a30 = 0) : OK (gX5_leafFunction_l22 i1 i2 a30 h0) (fun h' => (∀ p, 0 ≤ p → p < pts → h' 320 p = lvA A i1 p) ∧ (f320 pts h0 h' ∧ b10 h')) := by
  unfold gX5_leafFunction_l22
  refine OK_jit (I := (fun (s : Int × AH) => jt2 s fun a3 h => (0 ≤ a3 ∧ a3 ≤ pts) ∧ (∀ p, 0 ≤ p → p < a3 → h 320 p = lvA A i1 p) ∧ (f320 pts h0 h) ∧ (b10 h))) (m := (fun (s : Int × AH) => jt2 s fun a3 h => (pts - a3).toNat)) ?_ ?_
  · intro s hs
    obtain ⟨a3, h⟩ := s
    dsimp only [Sum.elim_inl, Sum.elim_inr, jt2, jt3, jt4, jt5, jt6, jt7, jt8] at hs
    obtain ⟨q0, q1, fr, bb⟩ := hs
    unfold gX5_leafFunction_b22
    refine OK_jt2 ?_
    have G := seX_G g (fG_3 fr) bb
    have x4 : h 200 16 = 271 ∨ h 200 16 = 289 := G.1.1
    have e16 : h 200 16 = h0 200 16 := fr _ _ (by omega) (by omega) (by omega)
    have x40 : h0 200 16 = 271 ∨ h0 200 16 = 289 := g.1.1
    have pz : h (h 200 16) 18 = pts := by { rw [e16, fr _ _ (by omega) (by omega) (by omega)]; exact pt.1 }
    have p256 := G.2.2.1.2.2
    have NP := G.2.2.2.1.2.2.1
    have A3 := G.2.1
    have w1 : w32 (i1 - h (h 200 16) 1) = i1 - A.1 := by { rw [w32_id (by omega) (by omega)]; omega }
    refine OK_jb (vX5_points) (fun v9 r1 => ?_)
    try dsimp only [Sum.elim_inl, Sum.elim_inr, jt2, jt3, jt4, jt5, jt6, jt7, jt8] at r1
    have pp1 := r1
    clear r1
    try simp (disch := omega) only [jst_eq, jst_ne, jst_ni, jI_i, jcmp_lt, jcmp_gt, w32_id, jcpy_out, Sum.elim_inl, Sum.elim_inr, jt2, jt3, jt4, jt5, jt6, jt7, jt8] at pp1
    have v9e : v9 = pts := by { rw [← pz]; assumption }
    refine OK_if (fun c1 => ?_) (fun c1 => ?_)
    · skip
      try simp (disch := omega) only [jst_eq, jst_ne, jst_ni, jI_i, jcmp_lt, jcmp_gt, w32_id, jcpy_out, Sum.elim_inl, Sum.elim_inr, jt2, jt3, jt4, jt5, jt6, jt7, jt8] at c1
      refine OK_ir ?_
      try dsimp only [Sum.elim_inl, Sum.elim_inr, jt2, jt3, jt4, jt5, jt6, jt7, jt8]
      refine ⟨?_, ?_⟩
      · (intro p p0 p1; exact q1 p p0 (by omega)) -- o1 e1.1
      · exact ⟨fr, bb⟩ -- o2 e1.2
    · skip
      try simp (disch := omega) only [jst_eq, jst_ne, jst_ni, jI_i, jcmp_lt, jcmp_gt, w32_id, jcpy_out, Sum.elim_inl, Sum.elim_inr, jt2, jt3, jt4, jt5, jt6, jt7, jt8] at c1
      refine OK_if (fun c2 => ?_) (fun c2 => ?_)
      · skip
        try simp (disch := omega) only [jst_eq, jst_ne, jst_ni, jI_i, jcmp_lt, jcmp_gt, w32_id, jcpy_out, Sum.elim_inl, Sum.elim_inr, jt2, jt3, jt4, jt5, jt6, jt7, jt8] at c2
        have pv := (G.2.2.2.1.2.2.2 (i1 - A.1) (by omega) (by omega)).2.2.1
        have LV1 : h (h 200 16 + 4) (w32 (i1 - h (h 200 16) 1)) = lvA A i1 a3 := by { rw [w1, pv, lvA_v (by omega)] }
        refine OK_jg (by (first | assumption | omega | ((try dsimp only [jt2, jt3, jt4]); first | omega | (simp (disch := omega) only [jst_eq, jst_ne, jst_ni, jst_o, jI_i, jcpy_out, w32_id, jdiv_nn, jshr_k, jand_255] <;> first | done | omega | assumption)) | (intros; simp (disch := omega) only [jst_eq, jst_ne, jst_ni, jst_o, jI_i, jcpy_out, w32_id, jdiv_nn, *] <;> first | done | omega) | (intros; simp (disch := omega) only [jst_eq, jst_ne, jst_ni, jst_o, jI_i, jcpy_out, w32_id, jdiv_nn] at * <;> first | done | omega | assumption) | (intros; first | rfl | (exfalso; omega) | ((repeat' apply And.intro) <;> first | assumption | rfl | omega | trivial)))) ?_ -- o3
        unfold gX5_leafFunction_j77_22
        refine OK_jg (by (first | assumption | omega | ((try dsimp only [jt2, jt3, jt4]); first | omega | (simp (disch := omega) only [jst_eq, jst_ne, jst_ni, jst_o, jI_i, jcpy_out, w32_id, jdiv_nn, jshr_k, jand_255] <;> first | done | omega | assumption)) | (intros; simp (disch := omega) only [jst_eq, jst_ne, jst_ni, jst_o, jI_i, jcpy_out, w32_id, jdiv_nn, *] <;> first | done | omega) | (intros; simp (disch := omega) only [jst_eq, jst_ne, jst_ni, jst_o, jI_i, jcpy_out, w32_id, jdiv_nn] at * <;> first | done | omega | assumption) | (intros; first | rfl | (exfalso; omega) | ((repeat' apply And.intro) <;> first | assumption | rfl | omega | trivial)))) ?_ -- o4
        refine OK_jl ?_
        refine OK_jlx (fun x15 ex15 => ?_)
        try simp (disch := omega) only [jst_eq, jst_ne, jst_ni, jI_i, jcmp_lt, jcmp_gt, w32_id, jcpy_out, Sum.elim_inl, Sum.elim_inr, jt2, jt3, jt4, jt5, jt6, jt7, jt8] at ex15
        refine OK_il ?_ ?_
        · try dsimp only [Sum.elim_inl, Sum.elim_inr, jt2, jt3, jt4, jt5, jt6, jt7, jt8]
          refine ⟨?_, ?_, ?_, ?_⟩
          · (first | assumption | omega | ((try dsimp only [jt2, jt3, jt4]); first | omega | (simp (disch := omega) only [jst_eq, jst_ne, jst_ni, jst_o, jI_i, jcpy_out, w32_id, jdiv_nn, jshr_k, jand_255] <;> first | done | omega | assumption)) | (intros; simp (disch := omega) only [jst_eq, jst_ne, jst_ni, jst_o, jI_i, jcpy_out, w32_id, jdiv_nn, *] <;> first | done | omega) | (intros; simp (disch := omega) only [jst_eq, jst_ne, jst_ni, jst_o, jI_i, jcpy_out, w32_id, jdiv_nn] at * <;> first | done | omega | assumption) | (intros; first | rfl | (exfalso; omega) | ((repeat' apply And.intro) <;> first | assumption | rfl | omega | trivial))) -- o5 e2i.1
          · (intro p p0 p1; rw [show x15 = a3 + 1 by omega] at p1; rw [jst_at]; by_cases y : p = a3; { rw [if_pos y, y]; exact LV1 }; { rw [if_neg y]; exact q1 p p0 (by omega) }) -- o6 e2i.2
          · (intro a s y1 y2 y3; rw [jst_o (by omega)]; exact fr a s y1 y2 y3) -- o7 e2i.3
          · (unfold b10; rw [jst_o (by omega)]; exact bb) -- o8 e2i.4
        · (first | assumption | omega | ((try dsimp only [jt2, jt3, jt4]); first | omega | (simp (disch := omega) only [jst_eq, jst_ne, jst_ni, jst_o, jI_i, jcpy_out, w32_id, jdiv_nn, jshr_k, jand_255] <;> first | done | omega | assumption)) | (intros; simp (disch := omega) only [jst_eq, jst_ne, jst_ni, jst_o, jI_i, jcpy_out, w32_id, jdiv_nn, *] <;> first | done | omega) | (intros; simp (disch := omega) only [jst_eq, jst_ne, jst_ni, jst_o, jI_i, jcpy_out, w32_id, jdiv_nn] at * <;> first | done | omega | assumption) | (intros; first | rfl | (exfalso; omega) | ((repeat' apply And.intro) <;> first | assumption | rfl | omega | trivial))) -- o9 e2m
      · skip
        try simp (disch := omega) only [jst_eq, jst_ne, jst_ni, jI_i, jcmp_lt, jcmp_gt, w32_id, jcpy_out, Sum.elim_inl, Sum.elim_inr, jt2, jt3, jt4, jt5, jt6, jt7, jt8] at c2
        refine OK_jb (vX4_valueAt (n := A.1) (pts := pts) (wh := wh) (kf := A.2.1) (rv := rv) _ _ _ (by exact ⟨G.1.1, G.2.1⟩) (by exact G.2.2.1) (by exact ⟨q0.1, by omega, by omega, by omega⟩)) (fun v13 r2 => ?_)
        try dsimp only [Sum.elim_inl, Sum.elim_inr, jt2, jt3, jt4, jt5, jt6, jt7, jt8] at r2
        have vv2 := r2
        clear r2
        try simp (disch := omega) only [jst_eq, jst_ne, jst_ni, jI_i, jcmp_lt, jcmp_gt, w32_id, jcpy_out, Sum.elim_inl, Sum.elim_inr, jt2, jt3, jt4, jt5, jt6, jt7, jt8] at vv2
        have v13e : v13 = lvA A i1 a3 := by { rw [lvA_p (by omega), g.2.2.2.2]; first | assumption | exact va2 | exact vv2 }
        unfold gX5_leafFunction_j77_22
        refine OK_jg (by (first | assumption | omega | ((try dsimp only [jt2, jt3, jt4]); first | omega | (simp (disch := omega) only [jst_eq, jst_ne, jst_ni, jst_o, jI_i, jcpy_out, w32_id, jdiv_nn, jshr_k, jand_255] <;> first | done | omega | assumption)) | (intros; simp (disch := omega) only [jst_eq, jst_ne, jst_ni, jst_o, jI_i, jcpy_out, w32_id, jdiv_nn, *] <;> first | done | omega) | (intros; simp (disch := omega) only [jst_eq, jst_ne, jst_ni, jst_o, jI_i, jcpy_out, w32_id, jdiv_nn] at * <;> first | done | omega | assumption) | (intros; first | rfl | (exfalso; omega) | ((repeat' apply And.intro) <;> first | assumption | rfl | omega | trivial)))) ?_ -- o13
        refine OK_jl ?_
        refine OK_jlx (fun x15 ex15 => ?_)
        try simp (disch := omega) only [jst_eq, jst_ne, jst_ni, jI_i, jcmp_lt, jcmp_gt, w32_id, jcpy_out, Sum.elim_inl, Sum.elim_inr, jt2, jt3, jt4, jt5, jt6, jt7, jt8] at ex15
        refine OK_il ?_ ?_
        · try dsimp only [Sum.elim_inl, Sum.elim_inr, jt2, jt3, jt4, jt5, jt6, jt7, jt8]
          refine ⟨?_, ?_, ?_, ?_⟩
          · (first | assumption | omega | ((try dsimp only [jt2, jt3, jt4]); first | omega | (simp (disch := omega) only [jst_eq, jst_ne, jst_ni, jst_o, jI_i, jcpy_out, w32_id, jdiv_nn, jshr_k, jand_255] <;> first | done | omega | assumption)) | (intros; simp (disch := omega) only [jst_eq, jst_ne, jst_ni, jst_o, jI_i, jcpy_out, w32_id, jdiv_nn, *] <;> first | done | omega) | (intros; simp (disch := omega) only [jst_eq, jst_ne, jst_ni, jst_o, jI_i, jcpy_out, w32_id, jdiv_nn] at * <;> first | done | omega | assumption) | (intros; first | rfl | (exfalso; omega) | ((repeat' apply And.intro) <;> first | assumption | rfl | omega | trivial))) -- o14 e3i.1
          · (intro p p0 p1; rw [show x15 = a3 + 1 by omega] at p1; rw [jst_at]; by_cases y : p = a3; { rw [if_pos y, y]; exact v13e }; { rw [if_neg y]; exact q1 p p0 (by omega) }) -- o15 e3i.2
          · (intro a s y1 y2 y3; rw [jst_o (by omega)]; exact fr a s y1 y2 y3) -- o16 e3i.3
          · (unfold b10; rw [jst_o (by omega)]; exact bb) -- o17 e3i.4
        · (first | assumption | omega | ((try dsimp only [jt2, jt3, jt4]); first | omega | (simp (disch := omega) only [jst_eq, jst_ne, jst_ni, jst_o, jI_i, jcpy_out, w32_id, jdiv_nn, jshr_k, jand_255] <;> first | done | omega | assumption)) | (intros; simp (disch := omega) only [jst_eq, jst_ne, jst_ni, jst_o, jI_i, jcpy_out, w32_id, jdiv_nn, *] <;> first | done | omega) | (intros; simp (disch := omega) only [jst_eq, jst_ne, jst_ni, jst_o, jI_i, jcpy_out, w32_id, jdiv_nn] at * <;> first | done | omega | assumption) | (intros; first | rfl | (exfalso; omega) | ((repeat' apply And.intro) <;> first | assumption | rfl | omega | trivial))) -- o18 e3m
  · try dsimp only [Sum.elim_inl, Sum.elim_inr, jt2, jt3, jt4, jt5, jt6, jt7, jt8]
    refine ⟨?_, ?_, ?_, ?_⟩
    · (first | assumption | omega | ((try dsimp only [jt2, jt3, jt4]); first | omega | (simp (disch := omega) only [jst_eq, jst_ne, jst_ni, jst_o, jI_i, jcpy_out, w32_id, jdiv_nn, jshr_k, jand_255] <;> first | done | omega | assumption)) | (intros; simp (disch := omega) only [jst_eq, jst_ne, jst_ni, jst_o, jI_i, jcpy_out, w32_id, jdiv_nn, *] <;> first | done | omega) | (intros; simp (disch := omega) only [jst_eq, jst_ne, jst_ni, jst_o, jI_i, jcpy_out, w32_id, jdiv_nn] at * <;> first | done | omega | assumption) | (intros; first | rfl | (exfalso; omega) | ((repeat' apply And.intro) <;> first | assumption | rfl | omega | trivial))) -- o19 init.1
    · (first | assumption | omega | ((try dsimp only [jt2, jt3, jt4]); first | omega | (simp (disch := omega) only [jst_eq, jst_ne, jst_ni, jst_o, jI_i, jcpy_out, w32_id, jdiv_nn, jshr_k, jand_255] <;> first | done | omega | assumption)) | (intros; simp (disch := omega) only [jst_eq, jst_ne, jst_ni, jst_o, jI_i, jcpy_out, w32_id, jdiv_nn, *] <;> first | done | omega) | (intros; simp (disch := omega) only [jst_eq, jst_ne, jst_ni, jst_o, jI_i, jcpy_out, w32_id, jdiv_nn] at * <;> first | done | omega | assumption) | (intros; first | rfl | (exfalso; omega) | ((repeat' apply And.intro) <;> first | assumption | rfl | omega | trivial))) -- o20 init.2
    · exact f320_r _ -- o21 init.3
    · exact g.1.2.2.2.2 -- o22 init.4
theorem vX5_leafFunction_j127 (a1 : Int) (t1 : Int) {h : AH} {E : EV} {W : Int → Int → Int → VW} {A : AD} {pts : Int} {M : Int → (Int → Int) → Prop} {T : TB} (xi : XI h E W A pts M T) (hs : hasT pts T (lkA A a1) (lvA A a1)) (k : t1 = lkA A a1) (fu : ∀ p, 0 ≤ p → p < pts → h 320 p = lvA A a1 p) : OK (gX5_leafFunction_j127 a1 t1 h) (fun r => jt2 r fun v h' => (v = ixL pts A T a1) ∧ (h' = h)) := by
  unfold gX5_leafFunction_j127
  refine OK_jb2 (vX5_place (N := T.1) (pts := pts) (kd := T.2.1) (wt := T.2.2.1) (hd := T.2.2.2.1) (op := T.2.2.2.2.1) (vl := T.2.2.2.2.2) (u := lvA A a1) _ _ _ _ _ _ (by exact xi.2.1) (by exact fu)) (fun v6 h7 r1 => ?_)
  try dsimp only [Sum.elim_inl, Sum.elim_inr, jt2, jt3, jt4, jt5, jt6, jt7, jt8] at r1
  have pl1 := r1
  clear r1
  try simp (disch := omega) only [jst_eq, jst_ne, jst_ni, jI_i, jcmp_lt, jcmp_gt, w32_id, jcpy_out, Sum.elim_inl, Sum.elim_inr, jt2, jt3, jt4, jt5, jt6, jt7, jt8] at pl1
  have FD : v6 = ixL pts A T a1 ∧ h7 = h := by
      obtain ⟨o, o0, o1, o2⟩ := hs
      rcases pl1 with r | r | r
      · exact ⟨(ixT_u xi.2.2.2.2 r.1 r.2.1 (by rw [r.2.2.1]; exact k) r.2.2.2.1).symm, r.2.2.2.2⟩
      · exact absurd (by rw [k]; exact o2) (r.1 o o0 o1)
      · exact absurd (by rw [k]; exact o2) (r.1 o o0 o1)
  refine OK_some ?_
  try dsimp only [Sum.elim_inl, Sum.elim_inr, jt2, jt3, jt4, jt5, jt6, jt7, jt8]
  try dsimp only [Sum.elim_inl, Sum.elim_inr, jt2, jt3, jt4, jt5, jt6, jt7, jt8]
  refine ⟨?_, ?_⟩
  · exact FD.1 -- o3 e1.1
  · exact FD.2 -- o4 e1.2
theorem vX5_leafFunction_j19 (a1 : Int) (t0 : Int) {h : AH} {E : EV} {Rf : Int → TR} {W : Int → Int → Int → VW} {f : Int → Int → Int → Int} {A : AD} {pts wh : Int} {rv : Int → Int} {M : Int → (Int → Int) → Prop} {T : TB} (g : seX h E Rf W f A pts wh rv) (xi : XI h E W A pts M T) (k : 0 ≤ a1 ∧ a1 < A.1 + A.2.2.2.1 ∧ ((t0 = 0 ∧ ¬ a1 < A.1) ∨ (t0 = 1 ∧ a1 < A.1))) (hs : hasT pts T (lkA A a1) (lvA A a1)) : OK (gX5_leafFunction_j19 a1 t0 h) (fun r => jt2 r fun v h' => (v = ixL pts A T a1) ∧ (XI h' E W A pts M T ∧ f320 pts h h' ∧ b10 h')) := by
  have pz := xi.2.1.2.1
  have pz0 := xi.2.1.2.2.1
  have NP := g.2.2.2.1.2.2.1
  have A3 := g.2.1
  unfold gX5_leafFunction_j19
  refine OK_jb (vX5_leafFunction_l22 (E := E) (Rf := Rf) (W := W) (f := f) (A := A) (pts := pts) (wh := wh) (rv := rv) _ _ _ (by exact g) (by exact ⟨pz, pz0⟩) (by exact k) (by rfl)) (fun o2 r1 => ?_)
  try dsimp only [Sum.elim_inl, Sum.elim_inr, jt2, jt3, jt4, jt5, jt6, jt7, jt8] at r1
  obtain ⟨fu1, fs1⟩ := r1
  try simp (disch := omega) only [jst_eq, jst_ne, jst_ni, jI_i, jcmp_lt, jcmp_gt, w32_id, jcpy_out, Sum.elim_inl, Sum.elim_inr, jt2, jt3, jt4, jt5, jt6, jt7, jt8] at fu1
  try simp (disch := omega) only [jst_eq, jst_ne, jst_ni, jI_i, jcmp_lt, jcmp_gt, w32_id, jcpy_out, Sum.elim_inl, Sum.elim_inr, jt2, jt3, jt4, jt5, jt6, jt7, jt8] at fs1
  have G := seX_G g (fG_3 fs1.1) fs1.2
  have X2 := XI_3 xi fs1.1
  have x4 : o2 200 16 = 271 ∨ o2 200 16 = 289 := G.1.1
  have w1 : w32 (a1 - o2 (o2 200 16) 1) = a1 - A.1 := by { have := G.2.1; rw [w32_id (by omega) (by omega)]; omega }
  refine OK_if (fun c1 => ?_) (fun c1 => ?_)
  · skip
    try simp (disch := omega) only [jst_eq, jst_ne, jst_ni, jI_i, jcmp_lt, jcmp_gt, w32_id, jcpy_out, Sum.elim_inl, Sum.elim_inr, jt2, jt3, jt4, jt5, jt6, jt7, jt8] at c1
    have KK : o2 (o2 200 16 + 3) (w32 (a1 - o2 (o2 200 16) 1)) = lkA A a1 := by { rw [w1, (G.2.2.2.1.2.2.2 (a1 - A.1) (by omega) (by omega)).2.1]; exact (if_neg (by omega)).symm }
    refine OK_jg (by (first | (exact X2) | (exact hs) | (exact fu1) | (exact KK) | ((first | (rw [hh2]; exact ⟨X2, fs1⟩) | (rw [hh3]; exact ⟨X2, fs1⟩))) | (first | assumption | omega | ((try dsimp only [jt2, jt3, jt4]); first | omega | (simp (disch := omega) only [jst_eq, jst_ne, jst_ni, jst_o, jI_i, jcpy_out, w32_id, jdiv_nn, jshr_k, jand_255] <;> first | done | omega | assumption)) | (intros; simp (disch := omega) only [jst_eq, jst_ne, jst_ni, jst_o, jI_i, jcpy_out, w32_id, jdiv_nn, *] <;> first | done | omega) | (intros; simp (disch := omega) only [jst_eq, jst_ne, jst_ni, jst_o, jI_i, jcpy_out, w32_id, jdiv_nn] at * <;> first | done | omega | assumption) | (intros; first | rfl | (exfalso; omega) | ((repeat' apply And.intro) <;> first | assumption | rfl | omega | trivial))))) ?_ -- o5
    refine OK_mono (vX5_leafFunction_j127 (E := E) (W := W) (A := A) (pts := pts) (M := M) (T := T) _ _ (by (first | (exact X2) | (exact hs) | (exact fu1) | (exact KK) | ((first | (rw [hh2]; exact ⟨X2, fs1⟩) | (rw [hh3]; exact ⟨X2, fs1⟩))) | (first | assumption | omega | ((try dsimp only [jt2, jt3, jt4]); first | omega | (simp (disch := omega) only [jst_eq, jst_ne, jst_ni, jst_o, jI_i, jcpy_out, w32_id, jdiv_nn, jshr_k, jand_255] <;> first | done | omega | assumption)) | (intros; simp (disch := omega) only [jst_eq, jst_ne, jst_ni, jst_o, jI_i, jcpy_out, w32_id, jdiv_nn, *] <;> first | done | omega) | (intros; simp (disch := omega) only [jst_eq, jst_ne, jst_ni, jst_o, jI_i, jcpy_out, w32_id, jdiv_nn] at * <;> first | done | omega | assumption) | (intros; first | rfl | (exfalso; omega) | ((repeat' apply And.intro) <;> first | assumption | rfl | omega | trivial))))) (by (first | (exact X2) | (exact hs) | (exact fu1) | (exact KK) | ((first | (rw [hh2]; exact ⟨X2, fs1⟩) | (rw [hh3]; exact ⟨X2, fs1⟩))) | (first | assumption | omega | ((try dsimp only [jt2, jt3, jt4]); first | omega | (simp (disch := omega) only [jst_eq, jst_ne, jst_ni, jst_o, jI_i, jcpy_out, w32_id, jdiv_nn, jshr_k, jand_255] <;> first | done | omega | assumption)) | (intros; simp (disch := omega) only [jst_eq, jst_ne, jst_ni, jst_o, jI_i, jcpy_out, w32_id, jdiv_nn, *] <;> first | done | omega) | (intros; simp (disch := omega) only [jst_eq, jst_ne, jst_ni, jst_o, jI_i, jcpy_out, w32_id, jdiv_nn] at * <;> first | done | omega | assumption) | (intros; first | rfl | (exfalso; omega) | ((repeat' apply And.intro) <;> first | assumption | rfl | omega | trivial))))) (by (first | (exact X2) | (exact hs) | (exact fu1) | (exact KK) | ((first | (rw [hh2]; exact ⟨X2, fs1⟩) | (rw [hh3]; exact ⟨X2, fs1⟩))) | (first | assumption | omega | ((try dsimp only [jt2, jt3, jt4]); first | omega | (simp (disch := omega) only [jst_eq, jst_ne, jst_ni, jst_o, jI_i, jcpy_out, w32_id, jdiv_nn, jshr_k, jand_255] <;> first | done | omega | assumption)) | (intros; simp (disch := omega) only [jst_eq, jst_ne, jst_ni, jst_o, jI_i, jcpy_out, w32_id, jdiv_nn, *] <;> first | done | omega) | (intros; simp (disch := omega) only [jst_eq, jst_ne, jst_ni, jst_o, jI_i, jcpy_out, w32_id, jdiv_nn] at * <;> first | done | omega | assumption) | (intros; first | rfl | (exfalso; omega) | ((repeat' apply And.intro) <;> first | assumption | rfl | omega | trivial))))) (by (first | (exact X2) | (exact hs) | (exact fu1) | (exact KK) | ((first | (rw [hh2]; exact ⟨X2, fs1⟩) | (rw [hh3]; exact ⟨X2, fs1⟩))) | (first | assumption | omega | ((try dsimp only [jt2, jt3, jt4]); first | omega | (simp (disch := omega) only [jst_eq, jst_ne, jst_ni, jst_o, jI_i, jcpy_out, w32_id, jdiv_nn, jshr_k, jand_255] <;> first | done | omega | assumption)) | (intros; simp (disch := omega) only [jst_eq, jst_ne, jst_ni, jst_o, jI_i, jcpy_out, w32_id, jdiv_nn, *] <;> first | done | omega) | (intros; simp (disch := omega) only [jst_eq, jst_ne, jst_ni, jst_o, jI_i, jcpy_out, w32_id, jdiv_nn] at * <;> first | done | omega | assumption) | (intros; first | rfl | (exfalso; omega) | ((repeat' apply And.intro) <;> first | assumption | rfl | omega | trivial)))))) (fun r r2 => ?_)
    obtain ⟨y1, y2⟩ := r
    try dsimp only [Sum.elim_inl, Sum.elim_inr, jt2, jt3, jt4, jt5, jt6, jt7, jt8] at r2
    obtain ⟨lv2, hh2⟩ := r2
    try simp (disch := omega) only [jst_eq, jst_ne, jst_ni, jI_i, jcmp_lt, jcmp_gt, w32_id, jcpy_out, Sum.elim_inl, Sum.elim_inr, jt2, jt3, jt4, jt5, jt6, jt7, jt8] at lv2
    try simp (disch := omega) only [jst_eq, jst_ne, jst_ni, jI_i, jcmp_lt, jcmp_gt, w32_id, jcpy_out, Sum.elim_inl, Sum.elim_inr, jt2, jt3, jt4, jt5, jt6, jt7, jt8] at hh2
    try dsimp only [Sum.elim_inl, Sum.elim_inr, jt2, jt3, jt4, jt5, jt6, jt7, jt8]
    try dsimp only [Sum.elim_inl, Sum.elim_inr, jt2, jt3, jt4, jt5, jt6, jt7, jt8]
    refine ⟨?_, ?_⟩
    · (first | exact lv2 | exact lv3) -- o10 e1.1
    · (rw [hh2]; exact ⟨X2, fs1⟩) -- o11 e1.2
  · skip
    try simp (disch := omega) only [jst_eq, jst_ne, jst_ni, jI_i, jcmp_lt, jcmp_gt, w32_id, jcpy_out, Sum.elim_inl, Sum.elim_inr, jt2, jt3, jt4, jt5, jt6, jt7, jt8] at c1
    have KK : o2 (o2 200 16 + 1) a1 = lkA A a1 := by { rw [G.2.1.2.2.2 a1 (by omega) (by omega)]; exact (if_pos (by omega)).symm }
    refine OK_jg (by (first | (exact X2) | (exact hs) | (exact fu1) | (exact KK) | ((first | (rw [hh2]; exact ⟨X2, fs1⟩) | (rw [hh3]; exact ⟨X2, fs1⟩))) | (first | assumption | omega | ((try dsimp only [jt2, jt3, jt4]); first | omega | (simp (disch := omega) only [jst_eq, jst_ne, jst_ni, jst_o, jI_i, jcpy_out, w32_id, jdiv_nn, jshr_k, jand_255] <;> first | done | omega | assumption)) | (intros; simp (disch := omega) only [jst_eq, jst_ne, jst_ni, jst_o, jI_i, jcpy_out, w32_id, jdiv_nn, *] <;> first | done | omega) | (intros; simp (disch := omega) only [jst_eq, jst_ne, jst_ni, jst_o, jI_i, jcpy_out, w32_id, jdiv_nn] at * <;> first | done | omega | assumption) | (intros; first | rfl | (exfalso; omega) | ((repeat' apply And.intro) <;> first | assumption | rfl | omega | trivial))))) ?_ -- o12
    refine OK_mono (vX5_leafFunction_j127 (E := E) (W := W) (A := A) (pts := pts) (M := M) (T := T) _ _ (by (first | (exact X2) | (exact hs) | (exact fu1) | (exact KK) | ((first | (rw [hh2]; exact ⟨X2, fs1⟩) | (rw [hh3]; exact ⟨X2, fs1⟩))) | (first | assumption | omega | ((try dsimp only [jt2, jt3, jt4]); first | omega | (simp (disch := omega) only [jst_eq, jst_ne, jst_ni, jst_o, jI_i, jcpy_out, w32_id, jdiv_nn, jshr_k, jand_255] <;> first | done | omega | assumption)) | (intros; simp (disch := omega) only [jst_eq, jst_ne, jst_ni, jst_o, jI_i, jcpy_out, w32_id, jdiv_nn, *] <;> first | done | omega) | (intros; simp (disch := omega) only [jst_eq, jst_ne, jst_ni, jst_o, jI_i, jcpy_out, w32_id, jdiv_nn] at * <;> first | done | omega | assumption) | (intros; first | rfl | (exfalso; omega) | ((repeat' apply And.intro) <;> first | assumption | rfl | omega | trivial))))) (by (first | (exact X2) | (exact hs) | (exact fu1) | (exact KK) | ((first | (rw [hh2]; exact ⟨X2, fs1⟩) | (rw [hh3]; exact ⟨X2, fs1⟩))) | (first | assumption | omega | ((try dsimp only [jt2, jt3, jt4]); first | omega | (simp (disch := omega) only [jst_eq, jst_ne, jst_ni, jst_o, jI_i, jcpy_out, w32_id, jdiv_nn, jshr_k, jand_255] <;> first | done | omega | assumption)) | (intros; simp (disch := omega) only [jst_eq, jst_ne, jst_ni, jst_o, jI_i, jcpy_out, w32_id, jdiv_nn, *] <;> first | done | omega) | (intros; simp (disch := omega) only [jst_eq, jst_ne, jst_ni, jst_o, jI_i, jcpy_out, w32_id, jdiv_nn] at * <;> first | done | omega | assumption) | (intros; first | rfl | (exfalso; omega) | ((repeat' apply And.intro) <;> first | assumption | rfl | omega | trivial))))) (by (first | (exact X2) | (exact hs) | (exact fu1) | (exact KK) | ((first | (rw [hh2]; exact ⟨X2, fs1⟩) | (rw [hh3]; exact ⟨X2, fs1⟩))) | (first | assumption | omega | ((try dsimp only [jt2, jt3, jt4]); first | omega | (simp (disch := omega) only [jst_eq, jst_ne, jst_ni, jst_o, jI_i, jcpy_out, w32_id, jdiv_nn, jshr_k, jand_255] <;> first | done | omega | assumption)) | (intros; simp (disch := omega) only [jst_eq, jst_ne, jst_ni, jst_o, jI_i, jcpy_out, w32_id, jdiv_nn, *] <;> first | done | omega) | (intros; simp (disch := omega) only [jst_eq, jst_ne, jst_ni, jst_o, jI_i, jcpy_out, w32_id, jdiv_nn] at * <;> first | done | omega | assumption) | (intros; first | rfl | (exfalso; omega) | ((repeat' apply And.intro) <;> first | assumption | rfl | omega | trivial))))) (by (first | (exact X2) | (exact hs) | (exact fu1) | (exact KK) | ((first | (rw [hh2]; exact ⟨X2, fs1⟩) | (rw [hh3]; exact ⟨X2, fs1⟩))) | (first | assumption | omega | ((try dsimp only [jt2, jt3, jt4]); first | omega | (simp (disch := omega) only [jst_eq, jst_ne, jst_ni, jst_o, jI_i, jcpy_out, w32_id, jdiv_nn, jshr_k, jand_255] <;> first | done | omega | assumption)) | (intros; simp (disch := omega) only [jst_eq, jst_ne, jst_ni, jst_o, jI_i, jcpy_out, w32_id, jdiv_nn, *] <;> first | done | omega) | (intros; simp (disch := omega) only [jst_eq, jst_ne, jst_ni, jst_o, jI_i, jcpy_out, w32_id, jdiv_nn] at * <;> first | done | omega | assumption) | (intros; first | rfl | (exfalso; omega) | ((repeat' apply And.intro) <;> first | assumption | rfl | omega | trivial)))))) (fun r r3 => ?_)
    obtain ⟨y3, y4⟩ := r
    try dsimp only [Sum.elim_inl, Sum.elim_inr, jt2, jt3, jt4, jt5, jt6, jt7, jt8] at r3
    obtain ⟨lv3, hh3⟩ := r3
    try simp (disch := omega) only [jst_eq, jst_ne, jst_ni, jI_i, jcmp_lt, jcmp_gt, w32_id, jcpy_out, Sum.elim_inl, Sum.elim_inr, jt2, jt3, jt4, jt5, jt6, jt7, jt8] at lv3
    try simp (disch := omega) only [jst_eq, jst_ne, jst_ni, jI_i, jcmp_lt, jcmp_gt, w32_id, jcpy_out, Sum.elim_inl, Sum.elim_inr, jt2, jt3, jt4, jt5, jt6, jt7, jt8] at hh3
    try dsimp only [Sum.elim_inl, Sum.elim_inr, jt2, jt3, jt4, jt5, jt6, jt7, jt8]
    try dsimp only [Sum.elim_inl, Sum.elim_inr, jt2, jt3, jt4, jt5, jt6, jt7, jt8]
    refine ⟨?_, ?_⟩
    · (first | exact lv3 | exact lv2 | exact lv4) -- o17 e2.1
    · (first | (exact X2) | (exact hs) | (exact fu1) | (exact KK) | ((first | (rw [hh2]; exact ⟨X2, fs1⟩) | (rw [hh3]; exact ⟨X2, fs1⟩))) | (first | assumption | omega | ((try dsimp only [jt2, jt3, jt4]); first | omega | (simp (disch := omega) only [jst_eq, jst_ne, jst_ni, jst_o, jI_i, jcpy_out, w32_id, jdiv_nn, jshr_k, jand_255] <;> first | done | omega | assumption)) | (intros; simp (disch := omega) only [jst_eq, jst_ne, jst_ni, jst_o, jI_i, jcpy_out, w32_id, jdiv_nn, *] <;> first | done | omega) | (intros; simp (disch := omega) only [jst_eq, jst_ne, jst_ni, jst_o, jI_i, jcpy_out, w32_id, jdiv_nn] at * <;> first | done | omega | assumption) | (intros; first | rfl | (exfalso; omega) | ((repeat' apply And.intro) <;> first | assumption | rfl | omega | trivial)))) -- o18 e2.2
theorem vX5_leafFunction (a1 : Int) {h : AH} {E : EV} {Rf : Int → TR} {W : Int → Int → Int → VW} {f : Int → Int → Int → Int} {A : AD} {pts wh : Int} {rv : Int → Int} {M : Int → (Int → Int) → Prop} {T : TB} (g : seX h E Rf W f A pts wh rv) (xi : XI h E W A pts M T) (k : 0 ≤ a1 ∧ a1 < A.1 + A.2.2.2.1) (hs : hasT pts T (lkA A a1) (lvA A a1)) : OK (gX5_leafFunction a1 h) (fun r => jt2 r fun v h' => (v = ixL pts A T a1) ∧ (XI h' E W A pts M T ∧ f320 pts h h' ∧ b10 h')) := by
  have A3 := g.2.1
  unfold gX5_leafFunction
  refine OK_if (fun c1 => ?_) (fun c1 => ?_)
  · skip
    try simp (disch := omega) only [jst_eq, jst_ne, jst_ni, jI_i, jcmp_lt, jcmp_gt, w32_id, jcpy_out, Sum.elim_inl, Sum.elim_inr, jt2, jt3, jt4, jt5, jt6, jt7, jt8] at c1
    refine OK_mono (vX5_leafFunction_j19 (E := E) (Rf := Rf) (W := W) (f := f) (A := A) (pts := pts) (wh := wh) (rv := rv) (M := M) (T := T) _ _ (by (first | (exact g) | (exact xi) | (exact hs) | (exact ⟨k.1, k.2, Or.inl ⟨rfl, by omega⟩⟩) | (exact ⟨k.1, k.2, Or.inr ⟨rfl, by omega⟩⟩) | (first | assumption | omega | ((try dsimp only [jt2, jt3, jt4]); first | omega | (simp (disch := omega) only [jst_eq, jst_ne, jst_ni, jst_o, jI_i, jcpy_out, w32_id, jdiv_nn, jshr_k, jand_255] <;> first | done | omega | assumption)) | (intros; simp (disch := omega) only [jst_eq, jst_ne, jst_ni, jst_o, jI_i, jcpy_out, w32_id, jdiv_nn, *] <;> first | done | omega) | (intros; simp (disch := omega) only [jst_eq, jst_ne, jst_ni, jst_o, jI_i, jcpy_out, w32_id, jdiv_nn] at * <;> first | done | omega | assumption) | (intros; first | rfl | (exfalso; omega) | ((repeat' apply And.intro) <;> first | assumption | rfl | omega | trivial))))) (by (first | (exact g) | (exact xi) | (exact hs) | (exact ⟨k.1, k.2, Or.inl ⟨rfl, by omega⟩⟩) | (exact ⟨k.1, k.2, Or.inr ⟨rfl, by omega⟩⟩) | (first | assumption | omega | ((try dsimp only [jt2, jt3, jt4]); first | omega | (simp (disch := omega) only [jst_eq, jst_ne, jst_ni, jst_o, jI_i, jcpy_out, w32_id, jdiv_nn, jshr_k, jand_255] <;> first | done | omega | assumption)) | (intros; simp (disch := omega) only [jst_eq, jst_ne, jst_ni, jst_o, jI_i, jcpy_out, w32_id, jdiv_nn, *] <;> first | done | omega) | (intros; simp (disch := omega) only [jst_eq, jst_ne, jst_ni, jst_o, jI_i, jcpy_out, w32_id, jdiv_nn] at * <;> first | done | omega | assumption) | (intros; first | rfl | (exfalso; omega) | ((repeat' apply And.intro) <;> first | assumption | rfl | omega | trivial))))) (by (first | (exact g) | (exact xi) | (exact hs) | (exact ⟨k.1, k.2, Or.inl ⟨rfl, by omega⟩⟩) | (exact ⟨k.1, k.2, Or.inr ⟨rfl, by omega⟩⟩) | (first | assumption | omega | ((try dsimp only [jt2, jt3, jt4]); first | omega | (simp (disch := omega) only [jst_eq, jst_ne, jst_ni, jst_o, jI_i, jcpy_out, w32_id, jdiv_nn, jshr_k, jand_255] <;> first | done | omega | assumption)) | (intros; simp (disch := omega) only [jst_eq, jst_ne, jst_ni, jst_o, jI_i, jcpy_out, w32_id, jdiv_nn, *] <;> first | done | omega) | (intros; simp (disch := omega) only [jst_eq, jst_ne, jst_ni, jst_o, jI_i, jcpy_out, w32_id, jdiv_nn] at * <;> first | done | omega | assumption) | (intros; first | rfl | (exfalso; omega) | ((repeat' apply And.intro) <;> first | assumption | rfl | omega | trivial))))) (by (first | (exact g) | (exact xi) | (exact hs) | (exact ⟨k.1, k.2, Or.inl ⟨rfl, by omega⟩⟩) | (exact ⟨k.1, k.2, Or.inr ⟨rfl, by omega⟩⟩) | (first | assumption | omega | ((try dsimp only [jt2, jt3, jt4]); first | omega | (simp (disch := omega) only [jst_eq, jst_ne, jst_ni, jst_o, jI_i, jcpy_out, w32_id, jdiv_nn, jshr_k, jand_255] <;> first | done | omega | assumption)) | (intros; simp (disch := omega) only [jst_eq, jst_ne, jst_ni, jst_o, jI_i, jcpy_out, w32_id, jdiv_nn, *] <;> first | done | omega) | (intros; simp (disch := omega) only [jst_eq, jst_ne, jst_ni, jst_o, jI_i, jcpy_out, w32_id, jdiv_nn] at * <;> first | done | omega | assumption) | (intros; first | rfl | (exfalso; omega) | ((repeat' apply And.intro) <;> first | assumption | rfl | omega | trivial)))))) (fun r r1 => ?_)
    obtain ⟨y1, y2⟩ := r
    try dsimp only [Sum.elim_inl, Sum.elim_inr, jt2, jt3, jt4, jt5, jt6, jt7, jt8] at r1
    obtain ⟨lv1, fs1⟩ := r1
    try simp (disch := omega) only [jst_eq, jst_ne, jst_ni, jI_i, jcmp_lt, jcmp_gt, w32_id, jcpy_out, Sum.elim_inl, Sum.elim_inr, jt2, jt3, jt4, jt5, jt6, jt7, jt8] at lv1
    try simp (disch := omega) only [jst_eq, jst_ne, jst_ni, jI_i, jcmp_lt, jcmp_gt, w32_id, jcpy_out, Sum.elim_inl, Sum.elim_inr, jt2, jt3, jt4, jt5, jt6, jt7, jt8] at fs1
    try dsimp only [Sum.elim_inl, Sum.elim_inr, jt2, jt3, jt4, jt5, jt6, jt7, jt8]
    try dsimp only [Sum.elim_inl, Sum.elim_inr, jt2, jt3, jt4, jt5, jt6, jt7, jt8]
    refine ⟨?_, ?_⟩
    · (first | (exact g) | (exact xi) | (exact hs) | (exact ⟨k.1, k.2, Or.inl ⟨rfl, by omega⟩⟩) | (exact ⟨k.1, k.2, Or.inr ⟨rfl, by omega⟩⟩) | (first | assumption | omega | ((try dsimp only [jt2, jt3, jt4]); first | omega | (simp (disch := omega) only [jst_eq, jst_ne, jst_ni, jst_o, jI_i, jcpy_out, w32_id, jdiv_nn, jshr_k, jand_255] <;> first | done | omega | assumption)) | (intros; simp (disch := omega) only [jst_eq, jst_ne, jst_ni, jst_o, jI_i, jcpy_out, w32_id, jdiv_nn, *] <;> first | done | omega) | (intros; simp (disch := omega) only [jst_eq, jst_ne, jst_ni, jst_o, jI_i, jcpy_out, w32_id, jdiv_nn] at * <;> first | done | omega | assumption) | (intros; first | rfl | (exfalso; omega) | ((repeat' apply And.intro) <;> first | assumption | rfl | omega | trivial)))) -- o5 e1.1
    · (first | (exact g) | (exact xi) | (exact hs) | (exact ⟨k.1, k.2, Or.inl ⟨rfl, by omega⟩⟩) | (exact ⟨k.1, k.2, Or.inr ⟨rfl, by omega⟩⟩) | (first | assumption | omega | ((try dsimp only [jt2, jt3, jt4]); first | omega | (simp (disch := omega) only [jst_eq, jst_ne, jst_ni, jst_o, jI_i, jcpy_out, w32_id, jdiv_nn, jshr_k, jand_255] <;> first | done | omega | assumption)) | (intros; simp (disch := omega) only [jst_eq, jst_ne, jst_ni, jst_o, jI_i, jcpy_out, w32_id, jdiv_nn, *] <;> first | done | omega) | (intros; simp (disch := omega) only [jst_eq, jst_ne, jst_ni, jst_o, jI_i, jcpy_out, w32_id, jdiv_nn] at * <;> first | done | omega | assumption) | (intros; first | rfl | (exfalso; omega) | ((repeat' apply And.intro) <;> first | assumption | rfl | omega | trivial)))) -- o6 e1.2
  · skip
    try simp (disch := omega) only [jst_eq, jst_ne, jst_ni, jI_i, jcmp_lt, jcmp_gt, w32_id, jcpy_out, Sum.elim_inl, Sum.elim_inr, jt2, jt3, jt4, jt5, jt6, jt7, jt8] at c1
    refine OK_mono (vX5_leafFunction_j19 (E := E) (Rf := Rf) (W := W) (f := f) (A := A) (pts := pts) (wh := wh) (rv := rv) (M := M) (T := T) _ _ (by (first | (exact g) | (exact xi) | (exact hs) | (exact ⟨k.1, k.2, Or.inl ⟨rfl, by omega⟩⟩) | (exact ⟨k.1, k.2, Or.inr ⟨rfl, by omega⟩⟩) | (first | assumption | omega | ((try dsimp only [jt2, jt3, jt4]); first | omega | (simp (disch := omega) only [jst_eq, jst_ne, jst_ni, jst_o, jI_i, jcpy_out, w32_id, jdiv_nn, jshr_k, jand_255] <;> first | done | omega | assumption)) | (intros; simp (disch := omega) only [jst_eq, jst_ne, jst_ni, jst_o, jI_i, jcpy_out, w32_id, jdiv_nn, *] <;> first | done | omega) | (intros; simp (disch := omega) only [jst_eq, jst_ne, jst_ni, jst_o, jI_i, jcpy_out, w32_id, jdiv_nn] at * <;> first | done | omega | assumption) | (intros; first | rfl | (exfalso; omega) | ((repeat' apply And.intro) <;> first | assumption | rfl | omega | trivial))))) (by (first | (exact g) | (exact xi) | (exact hs) | (exact ⟨k.1, k.2, Or.inl ⟨rfl, by omega⟩⟩) | (exact ⟨k.1, k.2, Or.inr ⟨rfl, by omega⟩⟩) | (first | assumption | omega | ((try dsimp only [jt2, jt3, jt4]); first | omega | (simp (disch := omega) only [jst_eq, jst_ne, jst_ni, jst_o, jI_i, jcpy_out, w32_id, jdiv_nn, jshr_k, jand_255] <;> first | done | omega | assumption)) | (intros; simp (disch := omega) only [jst_eq, jst_ne, jst_ni, jst_o, jI_i, jcpy_out, w32_id, jdiv_nn, *] <;> first | done | omega) | (intros; simp (disch := omega) only [jst_eq, jst_ne, jst_ni, jst_o, jI_i, jcpy_out, w32_id, jdiv_nn] at * <;> first | done | omega | assumption) | (intros; first | rfl | (exfalso; omega) | ((repeat' apply And.intro) <;> first | assumption | rfl | omega | trivial))))) (by (first | (exact g) | (exact xi) | (exact hs) | (exact ⟨k.1, k.2, Or.inl ⟨rfl, by omega⟩⟩) | (exact ⟨k.1, k.2, Or.inr ⟨rfl, by omega⟩⟩) | (first | assumption | omega | ((try dsimp only [jt2, jt3, jt4]); first | omega | (simp (disch := omega) only [jst_eq, jst_ne, jst_ni, jst_o, jI_i, jcpy_out, w32_id, jdiv_nn, jshr_k, jand_255] <;> first | done | omega | assumption)) | (intros; simp (disch := omega) only [jst_eq, jst_ne, jst_ni, jst_o, jI_i, jcpy_out, w32_id, jdiv_nn, *] <;> first | done | omega) | (intros; simp (disch := omega) only [jst_eq, jst_ne, jst_ni, jst_o, jI_i, jcpy_out, w32_id, jdiv_nn] at * <;> first | done | omega | assumption) | (intros; first | rfl | (exfalso; omega) | ((repeat' apply And.intro) <;> first | assumption | rfl | omega | trivial))))) (by (first | (exact g) | (exact xi) | (exact hs) | (exact ⟨k.1, k.2, Or.inl ⟨rfl, by omega⟩⟩) | (exact ⟨k.1, k.2, Or.inr ⟨rfl, by omega⟩⟩) | (first | assumption | omega | ((try dsimp only [jt2, jt3, jt4]); first | omega | (simp (disch := omega) only [jst_eq, jst_ne, jst_ni, jst_o, jI_i, jcpy_out, w32_id, jdiv_nn, jshr_k, jand_255] <;> first | done | omega | assumption)) | (intros; simp (disch := omega) only [jst_eq, jst_ne, jst_ni, jst_o, jI_i, jcpy_out, w32_id, jdiv_nn, *] <;> first | done | omega) | (intros; simp (disch := omega) only [jst_eq, jst_ne, jst_ni, jst_o, jI_i, jcpy_out, w32_id, jdiv_nn] at * <;> first | done | omega | assumption) | (intros; first | rfl | (exfalso; omega) | ((repeat' apply And.intro) <;> first | assumption | rfl | omega | trivial)))))) (fun r r2 => ?_)
    obtain ⟨y3, y4⟩ := r
    try dsimp only [Sum.elim_inl, Sum.elim_inr, jt2, jt3, jt4, jt5, jt6, jt7, jt8] at r2
    obtain ⟨lv2, fs2⟩ := r2
    try simp (disch := omega) only [jst_eq, jst_ne, jst_ni, jI_i, jcmp_lt, jcmp_gt, w32_id, jcpy_out, Sum.elim_inl, Sum.elim_inr, jt2, jt3, jt4, jt5, jt6, jt7, jt8] at lv2
    try simp (disch := omega) only [jst_eq, jst_ne, jst_ni, jI_i, jcmp_lt, jcmp_gt, w32_id, jcpy_out, Sum.elim_inl, Sum.elim_inr, jt2, jt3, jt4, jt5, jt6, jt7, jt8] at fs2
    try dsimp only [Sum.elim_inl, Sum.elim_inr, jt2, jt3, jt4, jt5, jt6, jt7, jt8]
    try dsimp only [Sum.elim_inl, Sum.elim_inr, jt2, jt3, jt4, jt5, jt6, jt7, jt8]
    refine ⟨?_, ?_⟩
    · (first | (exact g) | (exact xi) | (exact hs) | (exact ⟨k.1, k.2, Or.inl ⟨rfl, by omega⟩⟩) | (exact ⟨k.1, k.2, Or.inr ⟨rfl, by omega⟩⟩) | (first | assumption | omega | ((try dsimp only [jt2, jt3, jt4]); first | omega | (simp (disch := omega) only [jst_eq, jst_ne, jst_ni, jst_o, jI_i, jcpy_out, w32_id, jdiv_nn, jshr_k, jand_255] <;> first | done | omega | assumption)) | (intros; simp (disch := omega) only [jst_eq, jst_ne, jst_ni, jst_o, jI_i, jcpy_out, w32_id, jdiv_nn, *] <;> first | done | omega) | (intros; simp (disch := omega) only [jst_eq, jst_ne, jst_ni, jst_o, jI_i, jcpy_out, w32_id, jdiv_nn] at * <;> first | done | omega | assumption) | (intros; first | rfl | (exfalso; omega) | ((repeat' apply And.intro) <;> first | assumption | rfl | omega | trivial)))) -- o11 e2.1
    · (first | (exact g) | (exact xi) | (exact hs) | (exact ⟨k.1, k.2, Or.inl ⟨rfl, by omega⟩⟩) | (exact ⟨k.1, k.2, Or.inr ⟨rfl, by omega⟩⟩) | (first | assumption | omega | ((try dsimp only [jt2, jt3, jt4]); first | omega | (simp (disch := omega) only [jst_eq, jst_ne, jst_ni, jst_o, jI_i, jcpy_out, w32_id, jdiv_nn, jshr_k, jand_255] <;> first | done | omega | assumption)) | (intros; simp (disch := omega) only [jst_eq, jst_ne, jst_ni, jst_o, jI_i, jcpy_out, w32_id, jdiv_nn, *] <;> first | done | omega) | (intros; simp (disch := omega) only [jst_eq, jst_ne, jst_ni, jst_o, jI_i, jcpy_out, w32_id, jdiv_nn] at * <;> first | done | omega | assumption) | (intros; first | rfl | (exfalso; omega) | ((repeat' apply And.intro) <;> first | assumption | rfl | omega | trivial)))) -- o12 e2.2
/-- those leaves that are first terms of their functions, at heads from one on -/
noncomputable def fiC (A : AD) (L : TB) (q h f : Int) : Int := cif (0 ≤ f ∧ f < L.1 ∧ iLf A (L.2.2.2.1 f) ∧ L.2.2.1 f = q ∧ h ≤ L.2.2.2.1 f) 1 0
section LFC
variable {E : EV} {W : Int → Int → Int → VW} {pts : Int} {A : AD} {n : Nat} {T : TB}
/-- what is counted ahead of a head, with the first terms behind it -/
noncomputable def paC (E : EV) (W : Int → Int → Int → VW) (pts : Int) (A : AD) (n : Nat) (h f : Int) : Int := fiC A (LV E W pts A n) n h f + sumN (chC E W pts A (LV E W pts A n) (ct E W pts A) n f) h.toNat
theorem hd_ix (cq : CQ E W pts A n) {f : Int} (f0 : 0 ≤ f) (f1 : f < (LV E W pts A n).1) (l : iLf A ((LV E W pts A n).2.2.2.1 f)) : 0 ≤ (LV E W pts A n).2.2.2.1 f ∧ (LV E W pts A n).2.2.2.1 f < A.1 + A.2.2.2.1 ∧ ixL pts A (LV E W pts A n) ((LV E W pts A n).2.2.2.1 f) = f ∧ prL A ((LV E W pts A n).2.2.2.1 f) = (LV E W pts A n).2.2.1 f := by
  have g := cq.2.1 n (Nat.le_refl _)
  have A6 := cq.2.2.2.2.2
  rcases (g.2.1 f f0 f1).2.2 with r | r | r
  · obtain ⟨r1, r2, r3, r4, r5, r6⟩ := r
    refine ⟨r1, by omega, ixT_u g.2.2.2.1 f0 f1 (r3.trans (if_pos r2).symm) (eqV_t r6 (fun p _ _ => (lvA_p r2).symm)), by rw [r4]; exact if_pos r2⟩
  · obtain ⟨j, r1, r2, r3, r4, r5, r6, r7, r8⟩ := r
    have nj : ¬ (LV E W pts A n).2.2.2.1 f < A.1 := by omega
    have ej : (LV E W pts A n).2.2.2.1 f - A.1 = j := by omega
    refine ⟨by omega, by omega, ixT_u g.2.2.2.1 f0 f1 (r5.trans ?_) (eqV_t r8 (fun p _ _ => ?_)), ?_⟩
    · unfold lkA; rw [if_neg nj, ej]
    · rw [lvA_v nj, ej]
    · unfold prL; rw [if_neg nj, ej]; exact r6.symm
  · obtain ⟨j, x, y, z, r1, r2, r3, r4, _⟩ := r
    exfalso
    rcases l with l | l
    · omega
    · rw [show (LV E W pts A n).2.2.2.1 f - A.1 = j by omega] at l
      exact r4 l
theorem fiC_end (cq : CQ E W pts A n) (f : Int) : paC E W pts A n (A.1 + A.2.2.2.1) f = rowC E W pts A (LV E W pts A n) (ct E W pts A) n f := by
  have z : fiC A (LV E W pts A n) n (A.1 + A.2.2.2.1) f = 0 := cif_n (fun y => by have := hd_ix cq y.1 y.2.1 y.2.2.1; omega)
  unfold paC
  rw [z, Int.zero_add]
  rfl
theorem fiC_0 (cq : CQ E W pts A n) {f : Int} (f0 : 0 ≤ f) (f1 : f < (LV E W pts A n).1) : paC E W pts A n 0 f = cif (iLf A ((LV E W pts A n).2.2.2.1 f) ∧ (LV E W pts A n).2.2.1 f = n) 1 0 := by
  unfold paC fiC
  by_cases y : iLf A ((LV E W pts A n).2.2.2.1 f) ∧ (LV E W pts A n).2.2.1 f = n
  · rw [cif_y ⟨f0, f1, y.1, y.2, (hd_ix cq f0 f1 y.1).1⟩, cif_y y]; rfl
  · rw [cif_n (fun z => y ⟨z.2.2.1, z.2.2.2.1⟩), cif_n y]; rfl
theorem fiC_hi {f h : Int} (f1 : (LV E W pts A n).1 ≤ f) : fiC A (LV E W pts A n) n h f = 0 := cif_n (fun z => by omega)
/-- a head more: a leaf -/
theorem fiC_l (cq : CQ E W pts A n) {h f : Int} (h0 : 0 ≤ h) (l : iLf A h) (hp : prL A h = n) (hx : 0 ≤ ixL pts A (LV E W pts A n) h ∧ ixL pts A (LV E W pts A n) h < (LV E W pts A n).1) : paC E W pts A n (h + 1) f = paC E W pts A n h f + (if f = ixL pts A (LV E W pts A n) h then (if (LV E W pts A n).2.2.2.1 (ixL pts A (LV E W pts A n) h) = h ∧ (LV E W pts A n).2.2.1 (ixL pts A (LV E W pts A n) h) = n then 0 else 1) else 0) := by
  unfold paC
  rw [sumN_s h0]
  have ch : chC E W pts A (LV E W pts A n) (ct E W pts A) n f h = if f = ixL pts A (LV E W pts A n) h then 1 else 0 := by
    unfold chC
    rw [cif_y l]
    by_cases y : f = ixL pts A (LV E W pts A n) h
    · rw [if_pos y, cif_y ⟨hp, y.symm⟩]
    · rw [if_neg y, cif_n (fun z => y z.2.symm)]
  rw [ch]
  have fi : fiC A (LV E W pts A n) n (h + 1) f = fiC A (LV E W pts A n) n h f - (if f = ixL pts A (LV E W pts A n) h ∧ (LV E W pts A n).2.2.2.1 (ixL pts A (LV E W pts A n) h) = h ∧ (LV E W pts A n).2.2.1 (ixL pts A (LV E W pts A n) h) = n then 1 else 0) := by
    unfold fiC
    by_cases y : 0 ≤ f ∧ f < (LV E W pts A n).1 ∧ iLf A ((LV E W pts A n).2.2.2.1 f) ∧ (LV E W pts A n).2.2.1 f = n ∧ h ≤ (LV E W pts A n).2.2.2.1 f
    · rw [cif_y (P := _ ∧ _ ∧ _ ∧ _ ∧ h ≤ _) y]
      by_cases e : (LV E W pts A n).2.2.2.1 f = h
      · have fe : f = ixL pts A (LV E W pts A n) h := by
          have := (hd_ix cq y.1 y.2.1 y.2.2.1).2.2.1
          rw [e] at this
          exact this.symm
        rw [cif_n (fun z => by omega), if_pos ⟨fe, by rw [← fe]; exact e, by rw [← fe]; exact y.2.2.2.1⟩]
        rfl
      · rw [cif_y ⟨y.1, y.2.1, y.2.2.1, y.2.2.2.1, by omega⟩, if_neg (fun z => e (by rw [z.1]; exact z.2.1))]
        rfl
    · rw [cif_n (P := _ ∧ _ ∧ _ ∧ _ ∧ h ≤ _) y, cif_n (fun z => y ⟨z.1, z.2.1, z.2.2.1, z.2.2.2.1, by omega⟩), if_neg (fun z => y ⟨by rw [z.1]; exact hx.1, by rw [z.1]; exact hx.2, by rw [z.1, z.2.1]; exact l, by rw [z.1]; exact z.2.2, by rw [z.1, z.2.1]; exact Int.le_refl _⟩)]
      rfl
  rw [fi]
  by_cases y : f = ixL pts A (LV E W pts A n) h
  · by_cases z : (LV E W pts A n).2.2.2.1 (ixL pts A (LV E W pts A n) h) = h ∧ (LV E W pts A n).2.2.1 (ixL pts A (LV E W pts A n) h) = n
    · rw [if_pos ⟨y, z⟩, if_pos y, if_pos y, if_pos z]; omega
    · rw [if_neg (fun w => z w.2), if_pos y, if_pos y, if_neg z]; omega
  · rw [if_neg (fun w => y w.1), if_neg y, if_neg y]; omega
/-- a head more: no leaf of this price -/
theorem fiC_n (cq : CQ E W pts A n) {h f : Int} (h0 : 0 ≤ h) (l : ¬ (iLf A h ∧ prL A h = n)) : paC E W pts A n (h + 1) f = paC E W pts A n h f + chC E W pts A (LV E W pts A n) (ct E W pts A) n f h := by
  unfold paC
  rw [sumN_s h0]
  have fi : fiC A (LV E W pts A n) n (h + 1) f = fiC A (LV E W pts A n) n h f := by
    unfold fiC
    by_cases y : 0 ≤ f ∧ f < (LV E W pts A n).1 ∧ iLf A ((LV E W pts A n).2.2.2.1 f) ∧ (LV E W pts A n).2.2.1 f = n ∧ h ≤ (LV E W pts A n).2.2.2.1 f
    · have ne : (LV E W pts A n).2.2.2.1 f ≠ h := fun e => by
        have := hd_ix cq y.1 y.2.1 y.2.2.1
        rw [e] at this
        exact l ⟨by rw [← e]; exact y.2.2.1, by rw [this.2.2.2]; exact y.2.2.2.1⟩
      rw [cif_y y, cif_y ⟨y.1, y.2.1, y.2.2.1, y.2.2.2.1, by omega⟩]
    · rw [cif_n y, cif_n (fun z => y ⟨z.1, z.2.1, z.2.2.1, z.2.2.2.1, by omega⟩)]
  rw [fi]
  omega
end LFC
theorem vX5_countLeaf_j27 (a1 : Int) (a3 : Int) {h : AH} {E : EV} {Rf : Int → TR} {W : Int → Int → Int → VW} {A : AD} {pts wh : Int} {rv : Int → Int} {M : Int → (Int → Int) → Prop} {T : TB} {n : Nat} {r0 : Int → Int} (cs : CS h E Rf W A pts wh rv M T n r0) (n12 : a1 = n ∧ n ≤ 12) (k : 0 ≤ a3 ∧ a3 < 120) : OK (gX5_countLeaf_j27 a1 a3 h) (fun h' => (CS h' E Rf W A pts wh rv M T n (fun f => r0 f + if f = a3 then 1 else 0)) ∧ (fC h h' ∧ b10 h')) := by
  have w1 : w32 (w32 (a1 * 120) + a3) = 120 * n + a3 := by { rw [w32_id (x := a1 * 120) (by omega) (by omega), w32_id (by omega) (by omega)]; omega }
  rw [show gX5_countLeaf_j27 a1 a3 h = gX5_countLeaf_j27 a1 a3 h from rfl]
  have UP := CS_s (v := a3) (w := 1) (g := fun f => if f = a3 then 1 else 0) cs (fG_r h) cs.2.1 cs.1.1.2.2.2.2 n12.2 k (fun f f0 f1 => rfl)
  unfold gX5_countLeaf_j27
  refine OK_jg (by (first | assumption | omega | ((try dsimp only [jt2, jt3, jt4]); first | omega | (simp (disch := omega) only [jst_eq, jst_ne, jst_ni, jst_o, jI_i, jcpy_out, w32_id, jdiv_nn, jshr_k, jand_255] <;> first | done | omega | assumption)) | (intros; simp (disch := omega) only [jst_eq, jst_ne, jst_ni, jst_o, jI_i, jcpy_out, w32_id, jdiv_nn, *] <;> first | done | omega) | (intros; simp (disch := omega) only [jst_eq, jst_ne, jst_ni, jst_o, jI_i, jcpy_out, w32_id, jdiv_nn] at * <;> first | done | omega | assumption) | (intros; first | rfl | (exfalso; omega) | ((repeat' apply And.intro) <;> first | assumption | rfl | omega | trivial)))) ?_ -- o1
  refine OK_jl ?_
  refine OK_some ?_
  try dsimp only [Sum.elim_inl, Sum.elim_inr, jt2, jt3, jt4, jt5, jt6, jt7, jt8]
  try dsimp only [Sum.elim_inl, Sum.elim_inr, jt2, jt3, jt4, jt5, jt6, jt7, jt8]
  refine ⟨?_, ?_⟩
  · (rw [w1]; exact UP.1) -- o2 e1.1
  · (rw [w1]; exact UP.2) -- o3 e1.2
theorem vX5_countLeaf (a1 : Int) (a2 : Int) {h : AH} {E : EV} {Rf : Int → TR} {W : Int → Int → Int → VW} {A : AD} {pts wh : Int} {rv : Int → Int} {M : Int → (Int → Int) → Prop} {T : TB} {n : Nat} (cs : CS h E Rf W A pts wh rv M T n (paC E W pts A n a2)) (tq : TQ E W pts A n T) (k : a1 = n ∧ 0 ≤ a2 ∧ a2 < A.1 + A.2.2.2.1 ∧ iLf A a2 ∧ prL A a2 = n) : OK (gX5_countLeaf a1 a2 h) (fun h' => (CS h' E Rf W A pts wh rv M T n (paC E W pts A n (a2 + 1))) ∧ (fC h h' ∧ b10 h')) := by
  have n12 := tq.1.1
  have hh := lf_has tq.1 k.2.1 k.2.2.1 k.2.2.2.1 (by rw [k.2.2.2.2]; exact Int.le_refl _)
  have IX := ixT_h hh
  have IL : ixL pts A (LV E W pts A n) a2 = ixT pts (LV E W pts A n) (lkA A a2) (lvA A a2) := rfl
  have IE : ixL pts A T a2 = ixL pts A (LV E W pts A n) a2 := ixT_e tq.2.1 cs.2.1.2.2.2.2 hh
  have N120 := tq.1.2.2.1 n (Nat.le_refl _)
  unfold gX5_countLeaf
  refine OK_jb2 (vX5_leafFunction (E := E) (Rf := Rf) (W := W) (f := fun _ _ _ => 0) (A := A) (pts := pts) (wh := wh) (rv := rv) (M := M) (T := T) _ (by exact cs.1) (by exact cs.2.1) (by exact ⟨k.2.1, k.2.2.1⟩) (by exact hasT_e tq.2.1 hh)) (fun v2 h3 r1 => ?_)
  try dsimp only [Sum.elim_inl, Sum.elim_inr, jt2, jt3, jt4, jt5, jt6, jt7, jt8] at r1
  obtain ⟨lv1, fs1⟩ := r1
  try simp (disch := omega) only [jst_eq, jst_ne, jst_ni, jI_i, jcmp_lt, jcmp_gt, w32_id, jcpy_out, Sum.elim_inl, Sum.elim_inr, jt2, jt3, jt4, jt5, jt6, jt7, jt8] at lv1
  try simp (disch := omega) only [jst_eq, jst_ne, jst_ni, jI_i, jcmp_lt, jcmp_gt, w32_id, jcpy_out, Sum.elim_inl, Sum.elim_inr, jt2, jt3, jt4, jt5, jt6, jt7, jt8] at fs1
  have V2 : v2 = ixL pts A (LV E W pts A n) a2 := by { rw [← IE]; exact lv1 }
  have C3 := CS_G cs (fG_3 fs1.2.1) fs1.1 fs1.2.2
  have H4 := (XI_h fs1.1).2.2.2 v2 (by omega) (by have := tq.2.1.1; omega)
  have H5 := (fs1.1.2.1.2.2.2.2.2.2.2 v2 (by omega) (by have := tq.2.1.1; omega)).2.2.1
  have q := tq.2.1.2 v2 (by omega) (by omega)
  have STP : ∀ f, paC E W pts A n (a2 + 1) f = _ := fun f => fiC_l tq.1 (f := f) k.2.1 k.2.2.2.1 k.2.2.2.2 (by rw [← V2]; exact ⟨by omega, by omega⟩)
  refine OK_jg (by (first | (exact C3) | (exact ⟨k.1, n12.2⟩) | ((first | exact ⟨fC_t (fG_C (fG_3 fs1.2.1)) fs2.1, fs2.2⟩ | exact ⟨fC_t (fG_C (fG_3 fs1.2.1)) fs3.1, fs3.2⟩)) | (first | assumption | omega | ((try dsimp only [jt2, jt3, jt4]); first | omega | (simp (disch := omega) only [jst_eq, jst_ne, jst_ni, jst_o, jI_i, jcpy_out, w32_id, jdiv_nn, jshr_k, jand_255] <;> first | done | omega | assumption)) | (intros; simp (disch := omega) only [jst_eq, jst_ne, jst_ni, jst_o, jI_i, jcpy_out, w32_id, jdiv_nn, *] <;> first | done | omega) | (intros; simp (disch := omega) only [jst_eq, jst_ne, jst_ni, jst_o, jI_i, jcpy_out, w32_id, jdiv_nn] at * <;> first | done | omega | assumption) | (intros; first | rfl | (exfalso; omega) | ((repeat' apply And.intro) <;> first | assumption | rfl | omega | trivial))))) ?_ -- o5
  refine OK_if (fun c1 => ?_) (fun c1 => ?_)
  · skip
    try simp (disch := omega) only [jst_eq, jst_ne, jst_ni, jI_i, jcmp_lt, jcmp_gt, w32_id, jcpy_out, Sum.elim_inl, Sum.elim_inr, jt2, jt3, jt4, jt5, jt6, jt7, jt8] at c1
    refine OK_if (fun c2 => ?_) (fun c2 => ?_)
    · skip
      try simp (disch := omega) only [jst_eq, jst_ne, jst_ni, jI_i, jcmp_lt, jcmp_gt, w32_id, jcpy_out, Sum.elim_inl, Sum.elim_inr, jt2, jt3, jt4, jt5, jt6, jt7, jt8] at c2
      refine OK_some ?_
      try dsimp only [Sum.elim_inl, Sum.elim_inr, jt2, jt3, jt4, jt5, jt6, jt7, jt8]
      try dsimp only [Sum.elim_inl, Sum.elim_inr, jt2, jt3, jt4, jt5, jt6, jt7, jt8]
      refine ⟨?_, ?_⟩
      · (refine CS_c C3 (fun f f0 f1 => ?_); rw [STP f, ← V2]; by_cases y : f = v2; { rw [if_pos y, if_pos ⟨by rw [← q.2.2.1, ← H5]; assumption, by rw [← q.2.1, ← H4.2]; omega⟩]; omega }; { rw [if_neg y]; omega }) -- o6 e1.1
      · exact ⟨fG_C (fG_3 fs1.2.1), fs1.2.2⟩ -- o7 e1.2
    · skip
      try simp (disch := omega) only [jst_eq, jst_ne, jst_ni, jI_i, jcmp_lt, jcmp_gt, w32_id, jcpy_out, Sum.elim_inl, Sum.elim_inr, jt2, jt3, jt4, jt5, jt6, jt7, jt8] at c2
      refine OK_mono (vX5_countLeaf_j27 (E := E) (Rf := Rf) (W := W) (A := A) (pts := pts) (wh := wh) (rv := rv) (M := M) (T := T) (n := n) (r0 := paC E W pts A n a2) _ _ (by (first | (exact C3) | (exact ⟨k.1, n12.2⟩) | ((first | exact ⟨fC_t (fG_C (fG_3 fs1.2.1)) fs2.1, fs2.2⟩ | exact ⟨fC_t (fG_C (fG_3 fs1.2.1)) fs3.1, fs3.2⟩)) | (first | assumption | omega | ((try dsimp only [jt2, jt3, jt4]); first | omega | (simp (disch := omega) only [jst_eq, jst_ne, jst_ni, jst_o, jI_i, jcpy_out, w32_id, jdiv_nn, jshr_k, jand_255] <;> first | done | omega | assumption)) | (intros; simp (disch := omega) only [jst_eq, jst_ne, jst_ni, jst_o, jI_i, jcpy_out, w32_id, jdiv_nn, *] <;> first | done | omega) | (intros; simp (disch := omega) only [jst_eq, jst_ne, jst_ni, jst_o, jI_i, jcpy_out, w32_id, jdiv_nn] at * <;> first | done | omega | assumption) | (intros; first | rfl | (exfalso; omega) | ((repeat' apply And.intro) <;> first | assumption | rfl | omega | trivial))))) (by (first | (exact C3) | (exact ⟨k.1, n12.2⟩) | ((first | exact ⟨fC_t (fG_C (fG_3 fs1.2.1)) fs2.1, fs2.2⟩ | exact ⟨fC_t (fG_C (fG_3 fs1.2.1)) fs3.1, fs3.2⟩)) | (first | assumption | omega | ((try dsimp only [jt2, jt3, jt4]); first | omega | (simp (disch := omega) only [jst_eq, jst_ne, jst_ni, jst_o, jI_i, jcpy_out, w32_id, jdiv_nn, jshr_k, jand_255] <;> first | done | omega | assumption)) | (intros; simp (disch := omega) only [jst_eq, jst_ne, jst_ni, jst_o, jI_i, jcpy_out, w32_id, jdiv_nn, *] <;> first | done | omega) | (intros; simp (disch := omega) only [jst_eq, jst_ne, jst_ni, jst_o, jI_i, jcpy_out, w32_id, jdiv_nn] at * <;> first | done | omega | assumption) | (intros; first | rfl | (exfalso; omega) | ((repeat' apply And.intro) <;> first | assumption | rfl | omega | trivial))))) (by (first | (exact C3) | (exact ⟨k.1, n12.2⟩) | ((first | exact ⟨fC_t (fG_C (fG_3 fs1.2.1)) fs2.1, fs2.2⟩ | exact ⟨fC_t (fG_C (fG_3 fs1.2.1)) fs3.1, fs3.2⟩)) | (first | assumption | omega | ((try dsimp only [jt2, jt3, jt4]); first | omega | (simp (disch := omega) only [jst_eq, jst_ne, jst_ni, jst_o, jI_i, jcpy_out, w32_id, jdiv_nn, jshr_k, jand_255] <;> first | done | omega | assumption)) | (intros; simp (disch := omega) only [jst_eq, jst_ne, jst_ni, jst_o, jI_i, jcpy_out, w32_id, jdiv_nn, *] <;> first | done | omega) | (intros; simp (disch := omega) only [jst_eq, jst_ne, jst_ni, jst_o, jI_i, jcpy_out, w32_id, jdiv_nn] at * <;> first | done | omega | assumption) | (intros; first | rfl | (exfalso; omega) | ((repeat' apply And.intro) <;> first | assumption | rfl | omega | trivial)))))) (fun r r2 => ?_)
      try dsimp only [Sum.elim_inl, Sum.elim_inr, jt2, jt3, jt4, jt5, jt6, jt7, jt8] at r2
      obtain ⟨cs2, fs2⟩ := r2
      try simp (disch := omega) only [jst_eq, jst_ne, jst_ni, jI_i, jcmp_lt, jcmp_gt, w32_id, jcpy_out, Sum.elim_inl, Sum.elim_inr, jt2, jt3, jt4, jt5, jt6, jt7, jt8] at cs2
      try simp (disch := omega) only [jst_eq, jst_ne, jst_ni, jI_i, jcmp_lt, jcmp_gt, w32_id, jcpy_out, Sum.elim_inl, Sum.elim_inr, jt2, jt3, jt4, jt5, jt6, jt7, jt8] at fs2
      try dsimp only [Sum.elim_inl, Sum.elim_inr, jt2, jt3, jt4, jt5, jt6, jt7, jt8]
      try dsimp only [Sum.elim_inl, Sum.elim_inr, jt2, jt3, jt4, jt5, jt6, jt7, jt8]
      refine ⟨?_, ?_⟩
      · (refine CS_c (by first | exact cs2 | exact cs3) (fun f f0 f1 => ?_); rw [STP f, ← V2]; by_cases y : f = v2; { rw [if_pos y, if_pos y, if_neg (fun z => by (have z1 := z.1; rw [← q.2.2.1, ← H5] at z1; exact c2 z1))] }; { rw [if_neg y, if_neg y] }) -- o11 e2.1
      · (first | (exact C3) | (exact ⟨k.1, n12.2⟩) | ((first | exact ⟨fC_t (fG_C (fG_3 fs1.2.1)) fs2.1, fs2.2⟩ | exact ⟨fC_t (fG_C (fG_3 fs1.2.1)) fs3.1, fs3.2⟩)) | (first | assumption | omega | ((try dsimp only [jt2, jt3, jt4]); first | omega | (simp (disch := omega) only [jst_eq, jst_ne, jst_ni, jst_o, jI_i, jcpy_out, w32_id, jdiv_nn, jshr_k, jand_255] <;> first | done | omega | assumption)) | (intros; simp (disch := omega) only [jst_eq, jst_ne, jst_ni, jst_o, jI_i, jcpy_out, w32_id, jdiv_nn, *] <;> first | done | omega) | (intros; simp (disch := omega) only [jst_eq, jst_ne, jst_ni, jst_o, jI_i, jcpy_out, w32_id, jdiv_nn] at * <;> first | done | omega | assumption) | (intros; first | rfl | (exfalso; omega) | ((repeat' apply And.intro) <;> first | assumption | rfl | omega | trivial)))) -- o12 e2.2
  · skip
    try simp (disch := omega) only [jst_eq, jst_ne, jst_ni, jI_i, jcmp_lt, jcmp_gt, w32_id, jcpy_out, Sum.elim_inl, Sum.elim_inr, jt2, jt3, jt4, jt5, jt6, jt7, jt8] at c1
    refine OK_mono (vX5_countLeaf_j27 (E := E) (Rf := Rf) (W := W) (A := A) (pts := pts) (wh := wh) (rv := rv) (M := M) (T := T) (n := n) (r0 := paC E W pts A n a2) _ _ (by (first | (exact C3) | (exact ⟨k.1, n12.2⟩) | ((first | exact ⟨fC_t (fG_C (fG_3 fs1.2.1)) fs2.1, fs2.2⟩ | exact ⟨fC_t (fG_C (fG_3 fs1.2.1)) fs3.1, fs3.2⟩)) | (first | assumption | omega | ((try dsimp only [jt2, jt3, jt4]); first | omega | (simp (disch := omega) only [jst_eq, jst_ne, jst_ni, jst_o, jI_i, jcpy_out, w32_id, jdiv_nn, jshr_k, jand_255] <;> first | done | omega | assumption)) | (intros; simp (disch := omega) only [jst_eq, jst_ne, jst_ni, jst_o, jI_i, jcpy_out, w32_id, jdiv_nn, *] <;> first | done | omega) | (intros; simp (disch := omega) only [jst_eq, jst_ne, jst_ni, jst_o, jI_i, jcpy_out, w32_id, jdiv_nn] at * <;> first | done | omega | assumption) | (intros; first | rfl | (exfalso; omega) | ((repeat' apply And.intro) <;> first | assumption | rfl | omega | trivial))))) (by (first | (exact C3) | (exact ⟨k.1, n12.2⟩) | ((first | exact ⟨fC_t (fG_C (fG_3 fs1.2.1)) fs2.1, fs2.2⟩ | exact ⟨fC_t (fG_C (fG_3 fs1.2.1)) fs3.1, fs3.2⟩)) | (first | assumption | omega | ((try dsimp only [jt2, jt3, jt4]); first | omega | (simp (disch := omega) only [jst_eq, jst_ne, jst_ni, jst_o, jI_i, jcpy_out, w32_id, jdiv_nn, jshr_k, jand_255] <;> first | done | omega | assumption)) | (intros; simp (disch := omega) only [jst_eq, jst_ne, jst_ni, jst_o, jI_i, jcpy_out, w32_id, jdiv_nn, *] <;> first | done | omega) | (intros; simp (disch := omega) only [jst_eq, jst_ne, jst_ni, jst_o, jI_i, jcpy_out, w32_id, jdiv_nn] at * <;> first | done | omega | assumption) | (intros; first | rfl | (exfalso; omega) | ((repeat' apply And.intro) <;> first | assumption | rfl | omega | trivial))))) (by (first | (exact C3) | (exact ⟨k.1, n12.2⟩) | ((first | exact ⟨fC_t (fG_C (fG_3 fs1.2.1)) fs2.1, fs2.2⟩ | exact ⟨fC_t (fG_C (fG_3 fs1.2.1)) fs3.1, fs3.2⟩)) | (first | assumption | omega | ((try dsimp only [jt2, jt3, jt4]); first | omega | (simp (disch := omega) only [jst_eq, jst_ne, jst_ni, jst_o, jI_i, jcpy_out, w32_id, jdiv_nn, jshr_k, jand_255] <;> first | done | omega | assumption)) | (intros; simp (disch := omega) only [jst_eq, jst_ne, jst_ni, jst_o, jI_i, jcpy_out, w32_id, jdiv_nn, *] <;> first | done | omega) | (intros; simp (disch := omega) only [jst_eq, jst_ne, jst_ni, jst_o, jI_i, jcpy_out, w32_id, jdiv_nn] at * <;> first | done | omega | assumption) | (intros; first | rfl | (exfalso; omega) | ((repeat' apply And.intro) <;> first | assumption | rfl | omega | trivial)))))) (fun r r3 => ?_)
    try dsimp only [Sum.elim_inl, Sum.elim_inr, jt2, jt3, jt4, jt5, jt6, jt7, jt8] at r3
    obtain ⟨cs3, fs3⟩ := r3
    try simp (disch := omega) only [jst_eq, jst_ne, jst_ni, jI_i, jcmp_lt, jcmp_gt, w32_id, jcpy_out, Sum.elim_inl, Sum.elim_inr, jt2, jt3, jt4, jt5, jt6, jt7, jt8] at cs3
    try simp (disch := omega) only [jst_eq, jst_ne, jst_ni, jI_i, jcmp_lt, jcmp_gt, w32_id, jcpy_out, Sum.elim_inl, Sum.elim_inr, jt2, jt3, jt4, jt5, jt6, jt7, jt8] at fs3
    try dsimp only [Sum.elim_inl, Sum.elim_inr, jt2, jt3, jt4, jt5, jt6, jt7, jt8]
    try dsimp only [Sum.elim_inl, Sum.elim_inr, jt2, jt3, jt4, jt5, jt6, jt7, jt8]
    refine ⟨?_, ?_⟩
    · (refine CS_c (by first | exact cs3 | exact cs2 | exact cs4) (fun f f0 f1 => ?_); rw [STP f, ← V2]; by_cases y : f = v2; { rw [if_pos y, if_pos y, if_neg (fun z => by (have z1 := z.2; rw [← q.2.1, ← H4.2] at z1; omega))] }; { rw [if_neg y, if_neg y] }) -- o16 e3.1
    · (first | (exact C3) | (exact ⟨k.1, n12.2⟩) | ((first | exact ⟨fC_t (fG_C (fG_3 fs1.2.1)) fs2.1, fs2.2⟩ | exact ⟨fC_t (fG_C (fG_3 fs1.2.1)) fs3.1, fs3.2⟩)) | (first | assumption | omega | ((try dsimp only [jt2, jt3, jt4]); first | omega | (simp (disch := omega) only [jst_eq, jst_ne, jst_ni, jst_o, jI_i, jcpy_out, w32_id, jdiv_nn, jshr_k, jand_255] <;> first | done | omega | assumption)) | (intros; simp (disch := omega) only [jst_eq, jst_ne, jst_ni, jst_o, jI_i, jcpy_out, w32_id, jdiv_nn, *] <;> first | done | omega) | (intros; simp (disch := omega) only [jst_eq, jst_ne, jst_ni, jst_o, jI_i, jcpy_out, w32_id, jdiv_nn] at * <;> first | done | omega | assumption) | (intros; first | rfl | (exfalso; omega) | ((repeat' apply And.intro) <;> first | assumption | rfl | omega | trivial)))) -- o17 e3.2

