/-! x: a level -/
theorem f320_r {pts : Int} (h : AH) : f320 pts h h := fun _ _ _ _ _ => rfl
theorem vX5_growOnce_l23 (i1 : Int) (i2 : Int) (a30 : Int) {h0 : AH} {E : EV} {Rf : Int → TR} {W : Int → Int → Int → VW} {f : Int → Int → Int → Int} {A : AD} {pts wh : Int} {rv : Int → Int} (g : seX h0 E Rf W f A pts wh rv) (pt : h0 (h0 200 16) 18 = pts ∧ 0 ≤ pts) (k : 0 ≤ i2 ∧ i2 < A.1) (z : a30 = 0) : OK (gX5_growOnce_l23 i1 i2 a30 h0) (fun h' => (∀ p, 0 ≤ p → p < pts → h' 320 p = A.2.2.1 p i2) ∧ (f320 pts h0 h' ∧ b10 h')) := by
  unfold gX5_growOnce_l23
  refine OK_jit (I := (fun (s : Int × AH) => jt2 s fun a3 h => (0 ≤ a3 ∧ a3 ≤ pts) ∧ (∀ p, 0 ≤ p → p < a3 → h 320 p = A.2.2.1 p i2) ∧ (f320 pts h0 h) ∧ (b10 h))) (m := (fun (s : Int × AH) => jt2 s fun a3 h => (pts - a3).toNat)) ?_ ?_
  · intro s hs
    obtain ⟨a3, h⟩ := s
    dsimp only [Sum.elim_inl, Sum.elim_inr, jt2, jt3, jt4, jt5, jt6, jt7, jt8] at hs
    obtain ⟨q0, q1, fr, bb⟩ := hs
    unfold gX5_growOnce_b23
    refine OK_jt2 ?_
    have G := seX_G g (fG_3 fr) bb
    have x4 : h 200 16 = 271 ∨ h 200 16 = 289 := G.1.1
    have e16 : h 200 16 = h0 200 16 := fr _ _ (by omega) (by omega) (by omega)
    have x40 : h0 200 16 = 271 ∨ h0 200 16 = 289 := g.1.1
    have pz : h (h 200 16) 18 = pts := by { rw [e16, fr _ _ (by omega) (by omega) (by omega)]; exact pt.1 }
    have p256 := G.2.2.1.2.2
    refine OK_jb (vX5_points) (fun v43 r1 => ?_)
    try dsimp only [Sum.elim_inl, Sum.elim_inr, jt2, jt3, jt4, jt5, jt6, jt7, jt8] at r1
    have pp1 := r1
    clear r1
    try simp (disch := omega) only [jst_eq, jst_ne, jst_ni, jI_i, jcmp_lt, jcmp_gt, w32_id, jcpy_out, Sum.elim_inl, Sum.elim_inr, jt2, jt3, jt4, jt5, jt6, jt7, jt8] at pp1
    have v43e : v43 = pts := by { rw [← pz]; assumption }
    refine OK_if (fun c1 => ?_) (fun c1 => ?_)
    · skip
      try simp (disch := omega) only [jst_eq, jst_ne, jst_ni, jI_i, jcmp_lt, jcmp_gt, w32_id, jcpy_out, Sum.elim_inl, Sum.elim_inr, jt2, jt3, jt4, jt5, jt6, jt7, jt8] at c1
      refine OK_ir ?_
      try dsimp only [Sum.elim_inl, Sum.elim_inr, jt2, jt3, jt4, jt5, jt6, jt7, jt8]
      refine ⟨?_, ?_⟩
      · (intro p p0 p1; exact q1 p p0 (by omega)) -- o1 e1.1
      · exact ⟨fr, bb⟩ -- o2 e1.2
    · skip
      try simp (disch := omega) only [jst_eq, jst_ne, jst_ni, jI_i, jcmp_lt, jcmp_gt, w32_id, jcpy_out, Sum.elim_inl, Sum.elim_inr, jt2, jt3, jt4, jt5, jt6, jt7, jt8] at c1
      refine OK_jb (vX4_valueAt (n := A.1) (pts := pts) (wh := wh) (kf := A.2.1) (rv := rv) _ _ _ (by exact ⟨G.1.1, G.2.1⟩) (by exact G.2.2.1) (by exact ⟨q0.1, by omega, k⟩)) (fun v46 r2 => ?_)
      try dsimp only [Sum.elim_inl, Sum.elim_inr, jt2, jt3, jt4, jt5, jt6, jt7, jt8] at r2
      have vv2 := r2
      clear r2
      try simp (disch := omega) only [jst_eq, jst_ne, jst_ni, jI_i, jcmp_lt, jcmp_gt, w32_id, jcpy_out, Sum.elim_inl, Sum.elim_inr, jt2, jt3, jt4, jt5, jt6, jt7, jt8] at vv2
      have v46e : v46 = A.2.2.1 a3 i2 := by { rw [g.2.2.2.2]; assumption }
      refine OK_jg (by (first | assumption | omega | ((try dsimp only [jt2, jt3, jt4]); first | omega | (simp (disch := omega) only [jst_eq, jst_ne, jst_ni, jst_o, jI_i, jcpy_out, w32_id, jdiv_nn, jshr_k, jand_255] <;> first | done | omega | assumption)) | (intros; simp (disch := omega) only [jst_eq, jst_ne, jst_ni, jst_o, jI_i, jcpy_out, w32_id, jdiv_nn, *] <;> first | done | omega) | (intros; simp (disch := omega) only [jst_eq, jst_ne, jst_ni, jst_o, jI_i, jcpy_out, w32_id, jdiv_nn] at * <;> first | done | omega | assumption) | (intros; first | rfl | (exfalso; omega) | ((repeat' apply And.intro) <;> first | assumption | rfl | omega | trivial)))) ?_ -- o6
      refine OK_jl ?_
      refine OK_jlx (fun x48 ex48 => ?_)
      try simp (disch := omega) only [jst_eq, jst_ne, jst_ni, jI_i, jcmp_lt, jcmp_gt, w32_id, jcpy_out, Sum.elim_inl, Sum.elim_inr, jt2, jt3, jt4, jt5, jt6, jt7, jt8] at ex48
      refine OK_il ?_ ?_
      · try dsimp only [Sum.elim_inl, Sum.elim_inr, jt2, jt3, jt4, jt5, jt6, jt7, jt8]
        refine ⟨?_, ?_, ?_, ?_⟩
        · (first | assumption | omega | ((try dsimp only [jt2, jt3, jt4]); first | omega | (simp (disch := omega) only [jst_eq, jst_ne, jst_ni, jst_o, jI_i, jcpy_out, w32_id, jdiv_nn, jshr_k, jand_255] <;> first | done | omega | assumption)) | (intros; simp (disch := omega) only [jst_eq, jst_ne, jst_ni, jst_o, jI_i, jcpy_out, w32_id, jdiv_nn, *] <;> first | done | omega) | (intros; simp (disch := omega) only [jst_eq, jst_ne, jst_ni, jst_o, jI_i, jcpy_out, w32_id, jdiv_nn] at * <;> first | done | omega | assumption) | (intros; first | rfl | (exfalso; omega) | ((repeat' apply And.intro) <;> first | assumption | rfl | omega | trivial))) -- o7 e2i.1
        · (intro p p0 p1; rw [jst_at]; by_cases y : p = a3; { rw [if_pos y, y]; exact v46e }; { rw [if_neg y]; exact q1 p p0 (by omega) }) -- o8 e2i.2
        · (intro a s y1 y2 y3; rw [jst_o (by omega)]; exact fr a s y1 y2 y3) -- o9 e2i.3
        · (show -2147483648 ≤ jst h 320 a3 v46 200 10 ∧ jst h 320 a3 v46 200 10 < 2147483648; rw [jst_o (by omega)]; exact bb) -- o10 e2i.4
      · (first | assumption | omega | ((try dsimp only [jt2, jt3, jt4]); first | omega | (simp (disch := omega) only [jst_eq, jst_ne, jst_ni, jst_o, jI_i, jcpy_out, w32_id, jdiv_nn, jshr_k, jand_255] <;> first | done | omega | assumption)) | (intros; simp (disch := omega) only [jst_eq, jst_ne, jst_ni, jst_o, jI_i, jcpy_out, w32_id, jdiv_nn, *] <;> first | done | omega) | (intros; simp (disch := omega) only [jst_eq, jst_ne, jst_ni, jst_o, jI_i, jcpy_out, w32_id, jdiv_nn] at * <;> first | done | omega | assumption) | (intros; first | rfl | (exfalso; omega) | ((repeat' apply And.intro) <;> first | assumption | rfl | omega | trivial))) -- o11 e2m
  · try dsimp only [Sum.elim_inl, Sum.elim_inr, jt2, jt3, jt4, jt5, jt6, jt7, jt8]
    refine ⟨?_, ?_, ?_, ?_⟩
    · (first | assumption | omega | ((try dsimp only [jt2, jt3, jt4]); first | omega | (simp (disch := omega) only [jst_eq, jst_ne, jst_ni, jst_o, jI_i, jcpy_out, w32_id, jdiv_nn, jshr_k, jand_255] <;> first | done | omega | assumption)) | (intros; simp (disch := omega) only [jst_eq, jst_ne, jst_ni, jst_o, jI_i, jcpy_out, w32_id, jdiv_nn, *] <;> first | done | omega) | (intros; simp (disch := omega) only [jst_eq, jst_ne, jst_ni, jst_o, jI_i, jcpy_out, w32_id, jdiv_nn] at * <;> first | done | omega | assumption) | (intros; first | rfl | (exfalso; omega) | ((repeat' apply And.intro) <;> first | assumption | rfl | omega | trivial))) -- o12 init.1
    · (first | assumption | omega | ((try dsimp only [jt2, jt3, jt4]); first | omega | (simp (disch := omega) only [jst_eq, jst_ne, jst_ni, jst_o, jI_i, jcpy_out, w32_id, jdiv_nn, jshr_k, jand_255] <;> first | done | omega | assumption)) | (intros; simp (disch := omega) only [jst_eq, jst_ne, jst_ni, jst_o, jI_i, jcpy_out, w32_id, jdiv_nn, *] <;> first | done | omega) | (intros; simp (disch := omega) only [jst_eq, jst_ne, jst_ni, jst_o, jI_i, jcpy_out, w32_id, jdiv_nn] at * <;> first | done | omega | assumption) | (intros; first | rfl | (exfalso; omega) | ((repeat' apply And.intro) <;> first | assumption | rfl | omega | trivial))) -- o13 init.2
    · exact f320_r _ -- o14 init.3
    · exact g.1.2.2.2.2 -- o15 init.4
theorem vX5_growOnce_l168 (i1 : Int) (i2 : Int) (i3 : Int) (a50 : Int) {h0 : AH} {E : EV} {Rf : Int → TR} {W : Int → Int → Int → VW} {f : Int → Int → Int → Int} {A : AD} {pts wh : Int} {rv : Int → Int} (g : seX h0 E Rf W f A pts wh rv) (pt : h0 (h0 200 16) 18 = pts ∧ 0 ≤ pts) (k : 0 ≤ i2 ∧ i2 < A.2.2.2.1) (z : a50 = 0) : OK (gX5_growOnce_l168 i1 i2 i3 a50 h0) (fun h' => (∀ p, 0 ≤ p → p < pts → h' 320 p = A.2.2.2.2.2.2.1 i2) ∧ (f320 pts h0 h' ∧ b10 h')) := by
  unfold gX5_growOnce_l168
  refine OK_jit (I := (fun (s : Int × AH) => jt2 s fun a5 h => (0 ≤ a5 ∧ a5 ≤ pts) ∧ (∀ p, 0 ≤ p → p < a5 → h 320 p = A.2.2.2.2.2.2.1 i2) ∧ (f320 pts h0 h) ∧ (b10 h))) (m := (fun (s : Int × AH) => jt2 s fun a5 h => (pts - a5).toNat)) ?_ ?_
  · intro s hs
    obtain ⟨a5, h⟩ := s
    dsimp only [Sum.elim_inl, Sum.elim_inr, jt2, jt3, jt4, jt5, jt6, jt7, jt8] at hs
    obtain ⟨q0, q1, fr, bb⟩ := hs
    unfold gX5_growOnce_b168
    refine OK_jt2 ?_
    have G := seX_G g (fG_3 fr) bb
    have x4 : h 200 16 = 271 ∨ h 200 16 = 289 := G.1.1
    have e16 : h 200 16 = h0 200 16 := fr _ _ (by omega) (by omega) (by omega)
    have x40 : h0 200 16 = 271 ∨ h0 200 16 = 289 := g.1.1
    have pz : h (h 200 16) 18 = pts := by { rw [e16, fr _ _ (by omega) (by omega) (by omega)]; exact pt.1 }
    have p256 := G.2.2.1.2.2
    have np := G.2.2.2.1.2.2.1
    have pv := (G.2.2.2.1.2.2.2 i2 k.1 k.2).2.2.1
    refine OK_jb (vX5_points) (fun v29 r1 => ?_)
    try dsimp only [Sum.elim_inl, Sum.elim_inr, jt2, jt3, jt4, jt5, jt6, jt7, jt8] at r1
    have pp1 := r1
    clear r1
    try simp (disch := omega) only [jst_eq, jst_ne, jst_ni, jI_i, jcmp_lt, jcmp_gt, w32_id, jcpy_out, Sum.elim_inl, Sum.elim_inr, jt2, jt3, jt4, jt5, jt6, jt7, jt8] at pp1
    have v29e : v29 = pts := by { rw [← pz]; assumption }
    refine OK_if (fun c1 => ?_) (fun c1 => ?_)
    · skip
      try simp (disch := omega) only [jst_eq, jst_ne, jst_ni, jI_i, jcmp_lt, jcmp_gt, w32_id, jcpy_out, Sum.elim_inl, Sum.elim_inr, jt2, jt3, jt4, jt5, jt6, jt7, jt8] at c1
      refine OK_ir ?_
      try dsimp only [Sum.elim_inl, Sum.elim_inr, jt2, jt3, jt4, jt5, jt6, jt7, jt8]
      refine ⟨?_, ?_⟩
      · (intro p p0 p1; exact q1 p p0 (by omega)) -- o1 e1.1
      · exact ⟨fr, bb⟩ -- o2 e1.2
    · skip
      try simp (disch := omega) only [jst_eq, jst_ne, jst_ni, jI_i, jcmp_lt, jcmp_gt, w32_id, jcpy_out, Sum.elim_inl, Sum.elim_inr, jt2, jt3, jt4, jt5, jt6, jt7, jt8] at c1
      refine OK_jg (by (first | assumption | omega | ((try dsimp only [jt2, jt3, jt4]); first | omega | (simp (disch := omega) only [jst_eq, jst_ne, jst_ni, jst_o, jI_i, jcpy_out, w32_id, jdiv_nn, jshr_k, jand_255] <;> first | done | omega | assumption)) | (intros; simp (disch := omega) only [jst_eq, jst_ne, jst_ni, jst_o, jI_i, jcpy_out, w32_id, jdiv_nn, *] <;> first | done | omega) | (intros; simp (disch := omega) only [jst_eq, jst_ne, jst_ni, jst_o, jI_i, jcpy_out, w32_id, jdiv_nn] at * <;> first | done | omega | assumption) | (intros; first | rfl | (exfalso; omega) | ((repeat' apply And.intro) <;> first | assumption | rfl | omega | trivial)))) ?_ -- o3
      refine OK_jg (by (first | assumption | omega | ((try dsimp only [jt2, jt3, jt4]); first | omega | (simp (disch := omega) only [jst_eq, jst_ne, jst_ni, jst_o, jI_i, jcpy_out, w32_id, jdiv_nn, jshr_k, jand_255] <;> first | done | omega | assumption)) | (intros; simp (disch := omega) only [jst_eq, jst_ne, jst_ni, jst_o, jI_i, jcpy_out, w32_id, jdiv_nn, *] <;> first | done | omega) | (intros; simp (disch := omega) only [jst_eq, jst_ne, jst_ni, jst_o, jI_i, jcpy_out, w32_id, jdiv_nn] at * <;> first | done | omega | assumption) | (intros; first | rfl | (exfalso; omega) | ((repeat' apply And.intro) <;> first | assumption | rfl | omega | trivial)))) ?_ -- o4
      refine OK_jl ?_
      refine OK_jlx (fun x32 ex32 => ?_)
      try simp (disch := omega) only [jst_eq, jst_ne, jst_ni, jI_i, jcmp_lt, jcmp_gt, w32_id, jcpy_out, Sum.elim_inl, Sum.elim_inr, jt2, jt3, jt4, jt5, jt6, jt7, jt8] at ex32
      refine OK_il ?_ ?_
      · try dsimp only [Sum.elim_inl, Sum.elim_inr, jt2, jt3, jt4, jt5, jt6, jt7, jt8]
        refine ⟨?_, ?_, ?_, ?_⟩
        · (first | assumption | omega | ((try dsimp only [jt2, jt3, jt4]); first | omega | (simp (disch := omega) only [jst_eq, jst_ne, jst_ni, jst_o, jI_i, jcpy_out, w32_id, jdiv_nn, jshr_k, jand_255] <;> first | done | omega | assumption)) | (intros; simp (disch := omega) only [jst_eq, jst_ne, jst_ni, jst_o, jI_i, jcpy_out, w32_id, jdiv_nn, *] <;> first | done | omega) | (intros; simp (disch := omega) only [jst_eq, jst_ne, jst_ni, jst_o, jI_i, jcpy_out, w32_id, jdiv_nn] at * <;> first | done | omega | assumption) | (intros; first | rfl | (exfalso; omega) | ((repeat' apply And.intro) <;> first | assumption | rfl | omega | trivial))) -- o5 e2i.1
        · (intro p p0 p1; rw [jst_at]; by_cases y : p = a5; { rw [if_pos y]; exact pv }; { rw [if_neg y]; exact q1 p p0 (by omega) }) -- o6 e2i.2
        · (intro a s y1 y2 y3; rw [jst_o (by omega)]; exact fr a s y1 y2 y3) -- o7 e2i.3
        · (unfold b10; rw [jst_o (by omega)]; exact bb) -- o8 e2i.4
      · (first | assumption | omega | ((try dsimp only [jt2, jt3, jt4]); first | omega | (simp (disch := omega) only [jst_eq, jst_ne, jst_ni, jst_o, jI_i, jcpy_out, w32_id, jdiv_nn, jshr_k, jand_255] <;> first | done | omega | assumption)) | (intros; simp (disch := omega) only [jst_eq, jst_ne, jst_ni, jst_o, jI_i, jcpy_out, w32_id, jdiv_nn, *] <;> first | done | omega) | (intros; simp (disch := omega) only [jst_eq, jst_ne, jst_ni, jst_o, jI_i, jcpy_out, w32_id, jdiv_nn] at * <;> first | done | omega | assumption) | (intros; first | rfl | (exfalso; omega) | ((repeat' apply And.intro) <;> first | assumption | rfl | omega | trivial))) -- o9 e2m
  · try dsimp only [Sum.elim_inl, Sum.elim_inr, jt2, jt3, jt4, jt5, jt6, jt7, jt8]
    refine ⟨?_, ?_, ?_, ?_⟩
    · (first | assumption | omega | ((try dsimp only [jt2, jt3, jt4]); first | omega | (simp (disch := omega) only [jst_eq, jst_ne, jst_ni, jst_o, jI_i, jcpy_out, w32_id, jdiv_nn, jshr_k, jand_255] <;> first | done | omega | assumption)) | (intros; simp (disch := omega) only [jst_eq, jst_ne, jst_ni, jst_o, jI_i, jcpy_out, w32_id, jdiv_nn, *] <;> first | done | omega) | (intros; simp (disch := omega) only [jst_eq, jst_ne, jst_ni, jst_o, jI_i, jcpy_out, w32_id, jdiv_nn] at * <;> first | done | omega | assumption) | (intros; first | rfl | (exfalso; omega) | ((repeat' apply And.intro) <;> first | assumption | rfl | omega | trivial))) -- o10 init.1
    · (first | assumption | omega | ((try dsimp only [jt2, jt3, jt4]); first | omega | (simp (disch := omega) only [jst_eq, jst_ne, jst_ni, jst_o, jI_i, jcpy_out, w32_id, jdiv_nn, jshr_k, jand_255] <;> first | done | omega | assumption)) | (intros; simp (disch := omega) only [jst_eq, jst_ne, jst_ni, jst_o, jI_i, jcpy_out, w32_id, jdiv_nn, *] <;> first | done | omega) | (intros; simp (disch := omega) only [jst_eq, jst_ne, jst_ni, jst_o, jI_i, jcpy_out, w32_id, jdiv_nn] at * <;> first | done | omega | assumption) | (intros; first | rfl | (exfalso; omega) | ((repeat' apply And.intro) <;> first | assumption | rfl | omega | trivial))) -- o11 init.2
    · exact f320_r _ -- o12 init.3
    · exact g.1.2.2.2.2 -- o13 init.4
theorem vX5_growOnce_l2 (i1 : Int) (a20 : Int) {h0 : AH} {E : EV} {Rf : Int → TR} {W : Int → Int → Int → VW} {f : Int → Int → Int → Int} {A : AD} {pts wh : Int} {rv : Int → Int} {M : Int → (Int → Int) → Prop} {T0 : TB} (g : seX h0 E Rf W f A pts wh rv) (xi : XI h0 E W A pts M T0) (pg : PG E W A pts T0 i1) (z : a20 = 0) : OK (gX5_growOnce_l2 i1 a20 h0) (Sum.elim (fun h' => flX h0 h' E W A pts M T0 i1 (l1 pts A T0 i1)) (fun h' => okX h0 h' E W A pts M (l1 pts A T0 i1))) := by
  unfold gX5_growOnce_l2
  refine OK_jit (I := (fun (s : Int × AH) => jt2 s fun a2 h => (0 ≤ a2 ∧ a2 ≤ A.1) ∧ (XI h E W A pts M (rF (stP pts A) a2.toNat T0)) ∧ (i1 ≠ 1 → a2 = 0) ∧ (fG h0 h) ∧ (b10 h))) (m := (fun (s : Int × AH) => jt2 s fun a2 h => (A.1 - a2).toNat)) ?_ ?_
  · intro s hs
    obtain ⟨a2, h⟩ := s
    dsimp only [Sum.elim_inl, Sum.elim_inr, jt2, jt3, jt4, jt5, jt6, jt7, jt8] at hs
    obtain ⟨q0, q1, qe, fr, bb⟩ := hs
    unfold gX5_growOnce_b2
    refine OK_jt2 ?_
    have G := seX_G g fr bb
    have A3 := G.2.1.2.2.1
    have A1 := G.2.1.1
    have EQ : i1 = 1 → eQ T0 i1 (rF (stP pts A) a2.toNat T0) := fun y => by { rw [y]; exact eQ_F (fun k T e => eQ_s e) (eQ_r _ _) _ }
    have LE : a2 < A.1 → _ := fun y => rF_le (st := stP pts A) (T := T0) (fun _ _ => ext_P) (a := a2) (n := A.1.toNat) ⟨q0.1, by omega⟩
    have RS := rF_s (st := stP pts A) (T := T0) q0.1
    generalize eT : rF (stP pts A) a2.toNat T0 = T at *
    have x4 : h 200 16 = 271 ∨ h 200 16 = 289 := G.1.1
    have pz := q1.2.1.2.1
    have pz0 := q1.2.1.2.2.1
    refine OK_if (fun c1 => ?_) (fun c1 => ?_)
    · skip
      try simp (disch := omega) only [jst_eq, jst_ne, jst_ni, jI_i, jcmp_lt, jcmp_gt, w32_id, jcpy_out, Sum.elim_inl, Sum.elim_inr, jt2, jt3, jt4, jt5, jt6, jt7, jt8] at c1
      refine OK_ir ?_
      (refine ⟨?_, fr, bb⟩; unfold l1; by_cases y : i1 = 1; { rw [if_pos y, show A.1.toNat = a2.toNat by omega, eT]; exact q1 }; { rw [if_neg y]; rw [qe y] at eT; have e : T0 = T := eT; rw [e]; exact q1 }) -- o1 e1
    · skip
      try simp (disch := omega) only [jst_eq, jst_ne, jst_ni, jI_i, jcmp_lt, jcmp_gt, w32_id, jcpy_out, Sum.elim_inl, Sum.elim_inr, jt2, jt3, jt4, jt5, jt6, jt7, jt8] at c1
      refine OK_if (fun c2 => ?_) (fun c2 => ?_)
      · skip
        try simp (disch := omega) only [jst_eq, jst_ne, jst_ni, jI_i, jcmp_lt, jcmp_gt, w32_id, jcpy_out, Sum.elim_inl, Sum.elim_inr, jt2, jt3, jt4, jt5, jt6, jt7, jt8] at c2
        refine OK_jb (vX5_growOnce_l23 (E := E) (Rf := Rf) (W := W) (f := f) (A := A) (pts := pts) (wh := wh) (rv := rv) _ _ _ (by exact G) (by exact ⟨pz, pz0⟩) (by (first | ((first | exact XN | (rw [show x41 = a2 + 1 by omega]; exact XN))) | (exact F39) | (exact B39) | (first | assumption | omega | ((try dsimp only [jt2, jt3, jt4]); first | omega | (simp (disch := omega) only [jst_eq, jst_ne, jst_ni, jst_o, jI_i, jcpy_out, w32_id, jdiv_nn, jshr_k, jand_255] <;> first | done | omega | assumption)) | (intros; simp (disch := omega) only [jst_eq, jst_ne, jst_ni, jst_o, jI_i, jcpy_out, w32_id, jdiv_nn, *] <;> first | done | omega) | (intros; simp (disch := omega) only [jst_eq, jst_ne, jst_ni, jst_o, jI_i, jcpy_out, w32_id, jdiv_nn] at * <;> first | done | omega | assumption) | (intros; first | rfl | (exfalso; omega) | ((repeat' apply And.intro) <;> first | assumption | rfl | omega | trivial))))) (by rfl)) (fun o35 r1 => ?_)
        try dsimp only [Sum.elim_inl, Sum.elim_inr, jt2, jt3, jt4, jt5, jt6, jt7, jt8] at r1
        obtain ⟨fu1, fs1⟩ := r1
        try simp (disch := omega) only [jst_eq, jst_ne, jst_ni, jI_i, jcmp_lt, jcmp_gt, w32_id, jcpy_out, Sum.elim_inl, Sum.elim_inr, jt2, jt3, jt4, jt5, jt6, jt7, jt8] at fu1
        try simp (disch := omega) only [jst_eq, jst_ne, jst_ni, jI_i, jcmp_lt, jcmp_gt, w32_id, jcpy_out, Sum.elim_inl, Sum.elim_inr, jt2, jt3, jt4, jt5, jt6, jt7, jt8] at fs1
        have n2 : a2 < A.1 := by omega
        have LE := LE n2
        have e16 : o35 200 16 = h 200 16 := fs1.1 _ _ (by omega) (by omega) (by omega)
        have kk : o35 (o35 200 16 + 1) a2 = A.2.1 a2 := by { rw [e16, fs1.1 _ _ (by omega) (by omega) (by omega)]; exact G.2.1.2.2.2 a2 q0.1 n2 }
        have XI2 := XI_3 q1 fs1.1
        have k2 := pg.1.1 a2 q0.1 n2
        refine OK_jg (by (first | ((first | exact XN | (rw [show x41 = a2 + 1 by omega]; exact XN))) | (exact F39) | (exact B39) | (first | assumption | omega | ((try dsimp only [jt2, jt3, jt4]); first | omega | (simp (disch := omega) only [jst_eq, jst_ne, jst_ni, jst_o, jI_i, jcpy_out, w32_id, jdiv_nn, jshr_k, jand_255] <;> first | done | omega | assumption)) | (intros; simp (disch := omega) only [jst_eq, jst_ne, jst_ni, jst_o, jI_i, jcpy_out, w32_id, jdiv_nn, *] <;> first | done | omega) | (intros; simp (disch := omega) only [jst_eq, jst_ne, jst_ni, jst_o, jI_i, jcpy_out, w32_id, jdiv_nn] at * <;> first | done | omega | assumption) | (intros; first | rfl | (exfalso; omega) | ((repeat' apply And.intro) <;> first | assumption | rfl | omega | trivial))))) ?_ -- o6
        refine OK_jb2 (vX5_place (N := T.1) (pts := pts) (kd := T.2.1) (wt := T.2.2.1) (hd := T.2.2.2.1) (op := T.2.2.2.2.1) (vl := T.2.2.2.2.2) (u := fun p => A.2.2.1 p a2) _ _ _ _ _ _ (by exact XI2.2.1) (by exact fu1)) (fun v38 h39 r2 => ?_)
        try dsimp only [Sum.elim_inl, Sum.elim_inr, jt2, jt3, jt4, jt5, jt6, jt7, jt8] at r2
        have pl2 := r2
        clear r2
        try simp (disch := omega) only [jst_eq, jst_ne, jst_ni, jI_i, jcmp_lt, jcmp_gt, w32_id, jcpy_out, Sum.elim_inl, Sum.elim_inr, jt2, jt3, jt4, jt5, jt6, jt7, jt8] at pl2
        have PL := XI_pl (q := 1) (d := a2) (x := -1) (y := -1) (z := -1) XI2 pl2
        simp only [kk] at PL
        have B39 : b10 h39 := by { have := PL.1 200 10; unfold b10; rcases pl2 with r | r | r; { rw [r.2.2.2.2]; exact fs1.2 }; { rw [r.2.2.2]; exact fs1.2 }; { rw [r.2.2.2.2.1 _ _ (by omega) (by omega) (by omega) (by omega)]; exact fs1.2 } }
        have F39 : fG h0 h39 := fG_t fr (fG_t (fG_3 fs1.1) PL.1)
        refine OK_if (fun c3 => ?_) (fun c3 => ?_)
        · skip
          try simp (disch := omega) only [jst_eq, jst_ne, jst_ni, jI_i, jcmp_lt, jcmp_gt, w32_id, jcpy_out, Sum.elim_inl, Sum.elim_inr, jt2, jt3, jt4, jt5, jt6, jt7, jt8] at c3
          refine OK_ir ?_
          (rcases PL.2 with r | r; { refine ⟨?_, ⟨T, EQ (by omega), r.2.2⟩, F39, B39⟩; unfold l1; rw [if_pos (by omega)]; have h2 : 120 < (stP pts A a2 T).1 := r.2.1; have h3 := LE; omega }; { omega }) -- o9 e2
        · skip
          try simp (disch := omega) only [jst_eq, jst_ne, jst_ni, jI_i, jcmp_lt, jcmp_gt, w32_id, jcpy_out, Sum.elim_inl, Sum.elim_inr, jt2, jt3, jt4, jt5, jt6, jt7, jt8] at c3
          have w41 : w32 (a2 + 1) = a2 + 1 := w32_id (by omega) (by omega)
          have XN : XI h39 E W A pts M (rF (stP pts A) (a2 + 1).toNat T0) := by { rw [RS]; rcases PL.2 with r | r; { exact absurd r.1 c3 }; { exact r.2.2.2.2 } }
          refine OK_jlx (fun x41 ex41 => ?_)
          try simp (disch := omega) only [jst_eq, jst_ne, jst_ni, jI_i, jcmp_lt, jcmp_gt, w32_id, jcpy_out, Sum.elim_inl, Sum.elim_inr, jt2, jt3, jt4, jt5, jt6, jt7, jt8] at ex41
          refine OK_il ?_ ?_
          · try dsimp only [Sum.elim_inl, Sum.elim_inr, jt2, jt3, jt4, jt5, jt6, jt7, jt8]
            refine ⟨?_, ?_, ?_, ?_, ?_⟩
            · (first | ((first | exact XN | (rw [show x41 = a2 + 1 by omega]; exact XN))) | (exact F39) | (exact B39) | (first | assumption | omega | ((try dsimp only [jt2, jt3, jt4]); first | omega | (simp (disch := omega) only [jst_eq, jst_ne, jst_ni, jst_o, jI_i, jcpy_out, w32_id, jdiv_nn, jshr_k, jand_255] <;> first | done | omega | assumption)) | (intros; simp (disch := omega) only [jst_eq, jst_ne, jst_ni, jst_o, jI_i, jcpy_out, w32_id, jdiv_nn, *] <;> first | done | omega) | (intros; simp (disch := omega) only [jst_eq, jst_ne, jst_ni, jst_o, jI_i, jcpy_out, w32_id, jdiv_nn] at * <;> first | done | omega | assumption) | (intros; first | rfl | (exfalso; omega) | ((repeat' apply And.intro) <;> first | assumption | rfl | omega | trivial)))) -- o10 e3i.1
            · (first | ((first | exact XN | (rw [show x41 = a2 + 1 by omega]; exact XN))) | (exact F39) | (exact B39) | (first | assumption | omega | ((try dsimp only [jt2, jt3, jt4]); first | omega | (simp (disch := omega) only [jst_eq, jst_ne, jst_ni, jst_o, jI_i, jcpy_out, w32_id, jdiv_nn, jshr_k, jand_255] <;> first | done | omega | assumption)) | (intros; simp (disch := omega) only [jst_eq, jst_ne, jst_ni, jst_o, jI_i, jcpy_out, w32_id, jdiv_nn, *] <;> first | done | omega) | (intros; simp (disch := omega) only [jst_eq, jst_ne, jst_ni, jst_o, jI_i, jcpy_out, w32_id, jdiv_nn] at * <;> first | done | omega | assumption) | (intros; first | rfl | (exfalso; omega) | ((repeat' apply And.intro) <;> first | assumption | rfl | omega | trivial)))) -- o11 e3i.2
            · (first | ((first | exact XN | (rw [show x41 = a2 + 1 by omega]; exact XN))) | (exact F39) | (exact B39) | (first | assumption | omega | ((try dsimp only [jt2, jt3, jt4]); first | omega | (simp (disch := omega) only [jst_eq, jst_ne, jst_ni, jst_o, jI_i, jcpy_out, w32_id, jdiv_nn, jshr_k, jand_255] <;> first | done | omega | assumption)) | (intros; simp (disch := omega) only [jst_eq, jst_ne, jst_ni, jst_o, jI_i, jcpy_out, w32_id, jdiv_nn, *] <;> first | done | omega) | (intros; simp (disch := omega) only [jst_eq, jst_ne, jst_ni, jst_o, jI_i, jcpy_out, w32_id, jdiv_nn] at * <;> first | done | omega | assumption) | (intros; first | rfl | (exfalso; omega) | ((repeat' apply And.intro) <;> first | assumption | rfl | omega | trivial)))) -- o12 e3i.3
            · (first | ((first | exact XN | (rw [show x41 = a2 + 1 by omega]; exact XN))) | (exact F39) | (exact B39) | (first | assumption | omega | ((try dsimp only [jt2, jt3, jt4]); first | omega | (simp (disch := omega) only [jst_eq, jst_ne, jst_ni, jst_o, jI_i, jcpy_out, w32_id, jdiv_nn, jshr_k, jand_255] <;> first | done | omega | assumption)) | (intros; simp (disch := omega) only [jst_eq, jst_ne, jst_ni, jst_o, jI_i, jcpy_out, w32_id, jdiv_nn, *] <;> first | done | omega) | (intros; simp (disch := omega) only [jst_eq, jst_ne, jst_ni, jst_o, jI_i, jcpy_out, w32_id, jdiv_nn] at * <;> first | done | omega | assumption) | (intros; first | rfl | (exfalso; omega) | ((repeat' apply And.intro) <;> first | assumption | rfl | omega | trivial)))) -- o13 e3i.4
            · (first | ((first | exact XN | (rw [show x41 = a2 + 1 by omega]; exact XN))) | (exact F39) | (exact B39) | (first | assumption | omega | ((try dsimp only [jt2, jt3, jt4]); first | omega | (simp (disch := omega) only [jst_eq, jst_ne, jst_ni, jst_o, jI_i, jcpy_out, w32_id, jdiv_nn, jshr_k, jand_255] <;> first | done | omega | assumption)) | (intros; simp (disch := omega) only [jst_eq, jst_ne, jst_ni, jst_o, jI_i, jcpy_out, w32_id, jdiv_nn, *] <;> first | done | omega) | (intros; simp (disch := omega) only [jst_eq, jst_ne, jst_ni, jst_o, jI_i, jcpy_out, w32_id, jdiv_nn] at * <;> first | done | omega | assumption) | (intros; first | rfl | (exfalso; omega) | ((repeat' apply And.intro) <;> first | assumption | rfl | omega | trivial)))) -- o14 e3i.5
          · (first | ((first | exact XN | (rw [show x41 = a2 + 1 by omega]; exact XN))) | (exact F39) | (exact B39) | (first | assumption | omega | ((try dsimp only [jt2, jt3, jt4]); first | omega | (simp (disch := omega) only [jst_eq, jst_ne, jst_ni, jst_o, jI_i, jcpy_out, w32_id, jdiv_nn, jshr_k, jand_255] <;> first | done | omega | assumption)) | (intros; simp (disch := omega) only [jst_eq, jst_ne, jst_ni, jst_o, jI_i, jcpy_out, w32_id, jdiv_nn, *] <;> first | done | omega) | (intros; simp (disch := omega) only [jst_eq, jst_ne, jst_ni, jst_o, jI_i, jcpy_out, w32_id, jdiv_nn] at * <;> first | done | omega | assumption) | (intros; first | rfl | (exfalso; omega) | ((repeat' apply And.intro) <;> first | assumption | rfl | omega | trivial)))) -- o15 e3m
      · skip
        try simp (disch := omega) only [jst_eq, jst_ne, jst_ni, jI_i, jcmp_lt, jcmp_gt, w32_id, jcpy_out, Sum.elim_inl, Sum.elim_inr, jt2, jt3, jt4, jt5, jt6, jt7, jt8] at c2
        refine OK_ir ?_
        (refine ⟨?_, fr, bb⟩; unfold l1; rw [if_neg (by omega)]; rw [qe (by omega)] at eT; have e : T0 = T := eT; rw [e]; exact q1) -- o16 e4
  · try dsimp only [Sum.elim_inl, Sum.elim_inr, jt2, jt3, jt4, jt5, jt6, jt7, jt8]
    refine ⟨?_, ?_, ?_, ?_, ?_⟩
    · (have := g.2.1.2.1; omega) -- o17 init.1
    · (rw [z]; exact xi) -- o18 init.2
    · (first | ((first | exact XN | (rw [show x41 = a2 + 1 by omega]; exact XN))) | (exact F39) | (exact B39) | (first | assumption | omega | ((try dsimp only [jt2, jt3, jt4]); first | omega | (simp (disch := omega) only [jst_eq, jst_ne, jst_ni, jst_o, jI_i, jcpy_out, w32_id, jdiv_nn, jshr_k, jand_255] <;> first | done | omega | assumption)) | (intros; simp (disch := omega) only [jst_eq, jst_ne, jst_ni, jst_o, jI_i, jcpy_out, w32_id, jdiv_nn, *] <;> first | done | omega) | (intros; simp (disch := omega) only [jst_eq, jst_ne, jst_ni, jst_o, jI_i, jcpy_out, w32_id, jdiv_nn] at * <;> first | done | omega | assumption) | (intros; first | rfl | (exfalso; omega) | ((repeat' apply And.intro) <;> first | assumption | rfl | omega | trivial)))) -- o19 init.3
    · exact fG_r _ -- o20 init.4
    · exact g.1.2.2.2.2 -- o21 init.5
theorem XI_pl2 {h h' : AH} {E : EV} {W : Int → Int → Int → VW} {A : AD} {pts : Int} {M : Int → (Int → Int) → Prop} {T0 T : TB} {k q d v : Int} {u : Int → Int} (eq : eQ T0 q T) (b : b10 h') (g : fG h h' ∧ ((v = -1 ∧ 120 < (stepT pts T k q d (op3 (-1) (-1) (-1)) u).1 ∧ XI h' E W A pts M T) ∨ (0 ≤ v ∧ v < (stepT pts T k q d (op3 (-1) (-1) (-1)) u).1 ∧ (stepT pts T k q d (op3 (-1) (-1) (-1)) u).2.1 v = k ∧ eqV pts ((stepT pts T k q d (op3 (-1) (-1) (-1)) u).2.2.2.2.2 v) u ∧ XI h' E W A pts M (stepT pts T k q d (op3 (-1) (-1) (-1)) u)))) : (v = -1 ∧ flX h h' E W A pts M T0 q (stepT pts T k q d (op3 (-1) (-1) (-1)) u)) ∨ (v ≠ -1 ∧ okX h h' E W A pts M (stepT pts T k q d (op3 (-1) (-1) (-1)) u)) := by
  rcases g.2 with r | r
  · exact Or.inl ⟨r.1, r.2.1, ⟨T, eq, r.2.2⟩, g.1, b⟩
  · exact Or.inr ⟨by omega, r.2.2.2.2, g.1, b⟩
theorem eQ_Q {E : EV} {W : Int → Int → Int → VW} {pts : Int} {A : AD} {T0 : TB} {q k : Int} {T : TB} (e : eQ T0 q T) : eQ T0 q (stQ E W pts A T0 q k T) := by
  unfold stQ
  by_cases h : A.2.2.2.2.1 k = -1
  · rw [if_pos h]
    by_cases h2 : A.2.2.2.2.2.2.2 k = q
    · rw [if_pos h2]; exact eQ_s e
    · rw [if_neg h2]; exact e
  · rw [if_neg h]; exact eQ_ac e
theorem eQ_l1 {pts : Int} {A : AD} {T0 : TB} {q : Int} : eQ T0 q (l1 pts A T0 q) := by
  unfold l1
  by_cases h : q = 1
  · rw [if_pos h, h]; exact eQ_F (fun k T e => eQ_s e) (eQ_r _ _) _
  · rw [if_neg h]; exact eQ_r _ _
theorem vX5_growOnce_l90 (i1 : Int) (a20 : Int) {h0 : AH} {E : EV} {Rf : Int → TR} {W : Int → Int → Int → VW} {f : Int → Int → Int → Int} {A : AD} {pts wh : Int} {rv : Int → Int} {M : Int → (Int → Int) → Prop} {T0 : TB} (g : seX h0 E Rf W f A pts wh rv) (xi : XI h0 E W A pts M (l1 pts A T0 i1)) (pg : PG E W A pts T0 i1) (z : a20 = 0) : OK (gX5_growOnce_l90 i1 a20 h0) (Sum.elim (fun h' => flX h0 h' E W A pts M T0 i1 (levT E W pts A T0 i1)) (Sum.elim (fun h' => flX h0 h' E W A pts M T0 i1 (levT E W pts A T0 i1)) (fun h' => okX h0 h' E W A pts M (levT E W pts A T0 i1)))) := by
  unfold gX5_growOnce_l90
  refine OK_jit (I := (fun (s : Int × AH) => jt2 s fun a2 h => (0 ≤ a2 ∧ a2 ≤ A.2.2.2.1) ∧ (XI h E W A pts M (rF (stQ E W pts A T0 i1) a2.toNat (l1 pts A T0 i1))) ∧ (fG h0 h) ∧ (b10 h))) (m := (fun (s : Int × AH) => jt2 s fun a2 h => (A.2.2.2.1 - a2).toNat)) ?_ ?_
  · intro s hs
    obtain ⟨a2, h⟩ := s
    dsimp only [Sum.elim_inl, Sum.elim_inr, jt2, jt3, jt4, jt5, jt6, jt7, jt8] at hs
    obtain ⟨q0, q1, fr, bb⟩ := hs
    unfold gX5_growOnce_b90
    refine OK_jt2 ?_
    have G := seX_G g fr bb
    have NP := G.2.2.2.1.2.2.1
    have NP0 := G.2.2.2.1.1
    have EQ := eQ_F (fun k T e => eQ_Q (E := E) (W := W) (pts := pts) (A := A) (k := k) e) (eQ_l1 (pts := pts) (A := A) (T0 := T0) (q := i1)) a2.toNat
    have LE : a2 < A.2.2.2.1 → _ := fun y => rF_le (st := stQ E W pts A T0 i1) (T := l1 pts A T0 i1) (fun _ _ => ext_Q) (a := a2) (n := A.2.2.2.1.toNat) ⟨q0.1, by omega⟩
    have RS := rF_s (st := stQ E W pts A T0 i1) (T := l1 pts A T0 i1) q0.1
    generalize eT : rF (stQ E W pts A T0 i1) a2.toNat (l1 pts A T0 i1) = T at *
    have x4 : h 200 16 = 271 ∨ h 200 16 = 289 := G.1.1
    have pz := q1.2.1.2.1
    have pz0 := q1.2.1.2.2.1
    have A1 := G.2.1
    have pq := pg.2.2.2.2
    refine OK_if (fun c1 => ?_) (fun c1 => ?_)
    · skip
      try simp (disch := omega) only [jst_eq, jst_ne, jst_ni, jI_i, jcmp_lt, jcmp_gt, w32_id, jcpy_out, Sum.elim_inl, Sum.elim_inr, jt2, jt3, jt4, jt5, jt6, jt7, jt8] at c1
      refine OK_ir ?_
      (refine ⟨?_, fr, bb⟩; unfold levT; rw [show A.2.2.2.1.toNat = a2.toNat by omega, eT]; exact q1) -- o1 e1
    · skip
      try simp (disch := omega) only [jst_eq, jst_ne, jst_ni, jI_i, jcmp_lt, jcmp_gt, w32_id, jcpy_out, Sum.elim_inl, Sum.elim_inr, jt2, jt3, jt4, jt5, jt6, jt7, jt8] at c1
      have n2 : a2 < A.2.2.2.1 := by omega
      have LE := LE n2
      have pc := G.2.2.2.1.2.2.2 a2 q0.1 n2
      have vp := pg.1.2.2 a2 q0.1 n2
      have w12 : w32 (h (h 200 16) 1 + a2) = A.1 + a2 := by { rw [w32_id (by omega) (by omega)]; omega }
      have w13 : w32 (i1 - h (h 200 16 + 5) a2) = i1 - A.2.2.2.2.2.2.2 a2 := by { rw [w32_id (by omega) (by omega)]; omega }
      have w27 : w32 (a2 + 1) = a2 + 1 := w32_id (by omega) (by omega)
      refine OK_jlx (fun x12 ex12 => ?_)
      try simp (disch := omega) only [jst_eq, jst_ne, jst_ni, jI_i, jcmp_lt, jcmp_gt, w32_id, jcpy_out, Sum.elim_inl, Sum.elim_inr, jt2, jt3, jt4, jt5, jt6, jt7, jt8] at ex12
      refine OK_jg (by (first | ((first | exact XN.1 | (rw [show x27 = a2 + 1 by omega]; exact XN.1))) | (exact XN.2.1) | (exact XN.2.2) | (first | assumption | omega | ((try dsimp only [jt2, jt3, jt4]); first | omega | (simp (disch := omega) only [jst_eq, jst_ne, jst_ni, jst_o, jI_i, jcpy_out, w32_id, jdiv_nn, jshr_k, jand_255] <;> first | done | omega | assumption)) | (intros; simp (disch := omega) only [jst_eq, jst_ne, jst_ni, jst_o, jI_i, jcpy_out, w32_id, jdiv_nn, *] <;> first | done | omega) | (intros; simp (disch := omega) only [jst_eq, jst_ne, jst_ni, jst_o, jI_i, jcpy_out, w32_id, jdiv_nn] at * <;> first | done | omega | assumption) | (intros; first | rfl | (exfalso; omega) | ((repeat' apply And.intro) <;> first | assumption | rfl | omega | trivial))))) ?_ -- o2
      refine OK_jlx (fun x13 ex13 => ?_)
      try simp (disch := omega) only [jst_eq, jst_ne, jst_ni, jI_i, jcmp_lt, jcmp_gt, w32_id, jcpy_out, Sum.elim_inl, Sum.elim_inr, jt2, jt3, jt4, jt5, jt6, jt7, jt8] at ex13
      refine OK_if (fun c2 => ?_) (fun c2 => ?_)
      · skip
        try simp (disch := omega) only [jst_eq, jst_ne, jst_ni, jI_i, jcmp_lt, jcmp_gt, w32_id, jcpy_out, Sum.elim_inl, Sum.elim_inr, jt2, jt3, jt4, jt5, jt6, jt7, jt8] at c2
        refine OK_if (fun c3 => ?_) (fun c3 => ?_)
        · skip
          try simp (disch := omega) only [jst_eq, jst_ne, jst_ni, jI_i, jcmp_lt, jcmp_gt, w32_id, jcpy_out, Sum.elim_inl, Sum.elim_inr, jt2, jt3, jt4, jt5, jt6, jt7, jt8] at c3
          refine OK_if (fun c4 => ?_) (fun c4 => ?_)
          · skip
            try simp (disch := omega) only [jst_eq, jst_ne, jst_ni, jI_i, jcmp_lt, jcmp_gt, w32_id, jcpy_out, Sum.elim_inl, Sum.elim_inr, jt2, jt3, jt4, jt5, jt6, jt7, jt8] at c4
            refine OK_jb (vX5_growOnce_l168 (E := E) (Rf := Rf) (W := W) (f := f) (A := A) (pts := pts) (wh := wh) (rv := rv) _ _ _ _ (by exact G) (by exact ⟨pz, pz0⟩) (by exact ⟨q0.1, n2⟩) (by rfl)) (fun o17 r1 => ?_)
            try dsimp only [Sum.elim_inl, Sum.elim_inr, jt2, jt3, jt4, jt5, jt6, jt7, jt8] at r1
            obtain ⟨fu1, fs1⟩ := r1
            try simp (disch := omega) only [jst_eq, jst_ne, jst_ni, jI_i, jcmp_lt, jcmp_gt, w32_id, jcpy_out, Sum.elim_inl, Sum.elim_inr, jt2, jt3, jt4, jt5, jt6, jt7, jt8] at fu1
            try simp (disch := omega) only [jst_eq, jst_ne, jst_ni, jI_i, jcmp_lt, jcmp_gt, w32_id, jcpy_out, Sum.elim_inl, Sum.elim_inr, jt2, jt3, jt4, jt5, jt6, jt7, jt8] at fs1
            have e16 : o17 200 16 = h 200 16 := fs1.1 _ _ (by omega) (by omega) (by omega)
            have kk : o17 (o17 200 16 + 3) a2 = A.2.2.2.2.2.1 a2 := by { rw [e16, fs1.1 _ _ (by omega) (by omega) (by omega)]; exact pc.2.1 }
            have XI2 := XI_3 q1 fs1.1
            have SQ : stQ E W pts A T0 i1 a2 T = stepT pts T (A.2.2.2.2.2.1 a2) i1 (A.1 + a2) (op3 (-1) (-1) (-1)) (fun _ => A.2.2.2.2.2.2.1 a2) := by { unfold stQ; rw [if_pos (by omega), if_pos (by omega)] }
            refine OK_jb2 (vX5_place (N := T.1) (pts := pts) (kd := T.2.1) (wt := T.2.2.1) (hd := T.2.2.2.1) (op := T.2.2.2.2.1) (vl := T.2.2.2.2.2) (u := fun _ => A.2.2.2.2.2.2.1 a2) _ _ _ _ _ _ (by exact XI2.2.1) (by exact fu1)) (fun v20 h21 r2 => ?_)
            try dsimp only [Sum.elim_inl, Sum.elim_inr, jt2, jt3, jt4, jt5, jt6, jt7, jt8] at r2
            have pl2 := r2
            clear r2
            try simp (disch := omega) only [jst_eq, jst_ne, jst_ni, jI_i, jcmp_lt, jcmp_gt, w32_id, jcpy_out, Sum.elim_inl, Sum.elim_inr, jt2, jt3, jt4, jt5, jt6, jt7, jt8] at pl2
            have x12e : x12 = A.1 + a2 := by omega
            have B21 : b10 h21 := by { unfold b10; rcases pl2 with r | r | r; { rw [r.2.2.2.2]; exact fs1.2 }; { rw [r.2.2.2]; exact fs1.2 }; { rw [r.2.2.2.2.1 _ _ (by omega) (by omega) (by omega) (by omega)]; exact fs1.2 } }
            have PL0 := XI_pl (q := i1) (d := x12) (x := -1) (y := -1) (z := -1) XI2 pl2
            have PL := XI_pl2 EQ B21 PL0
            simp only [kk, x12e] at PL
            rw [← SQ] at PL
            have F0 : fG h0 o17 := fG_t fr (fG_3 fs1.1)
            refine OK_if (fun c5 => ?_) (fun c5 => ?_)
            · skip
              try simp (disch := omega) only [jst_eq, jst_ne, jst_ni, jI_i, jcmp_lt, jcmp_gt, w32_id, jcpy_out, Sum.elim_inl, Sum.elim_inr, jt2, jt3, jt4, jt5, jt6, jt7, jt8] at c5
              refine OK_ir ?_
              (rcases PL with r | r; { have e := flX_up F0 r.2 LE; exact e }; { exact absurd (by omega) r.1 }) -- o9 e2
            · skip
              try simp (disch := omega) only [jst_eq, jst_ne, jst_ni, jI_i, jcmp_lt, jcmp_gt, w32_id, jcpy_out, Sum.elim_inl, Sum.elim_inr, jt2, jt3, jt4, jt5, jt6, jt7, jt8] at c5
              have XN : okX h0 h21 E W A pts M (rF (stQ E W pts A T0 i1) (a2 + 1).toNat (l1 pts A T0 i1)) := by { rw [RS]; rcases PL with r | r; { exact absurd r.1 c5 }; { exact ⟨r.2.1, fG_t F0 r.2.2.1, r.2.2.2⟩ } }
              unfold gX5_growOnce_j243_90
              refine OK_jlx (fun x27 ex27 => ?_)
              try simp (disch := omega) only [jst_eq, jst_ne, jst_ni, jI_i, jcmp_lt, jcmp_gt, w32_id, jcpy_out, Sum.elim_inl, Sum.elim_inr, jt2, jt3, jt4, jt5, jt6, jt7, jt8] at ex27
              refine OK_il ?_ ?_
              · try dsimp only [Sum.elim_inl, Sum.elim_inr, jt2, jt3, jt4, jt5, jt6, jt7, jt8]
                refine ⟨?_, ?_, ?_, ?_⟩
                · (first | ((first | exact XN.1 | (rw [show x27 = a2 + 1 by omega]; exact XN.1))) | (exact XN.2.1) | (exact XN.2.2) | (first | assumption | omega | ((try dsimp only [jt2, jt3, jt4]); first | omega | (simp (disch := omega) only [jst_eq, jst_ne, jst_ni, jst_o, jI_i, jcpy_out, w32_id, jdiv_nn, jshr_k, jand_255] <;> first | done | omega | assumption)) | (intros; simp (disch := omega) only [jst_eq, jst_ne, jst_ni, jst_o, jI_i, jcpy_out, w32_id, jdiv_nn, *] <;> first | done | omega) | (intros; simp (disch := omega) only [jst_eq, jst_ne, jst_ni, jst_o, jI_i, jcpy_out, w32_id, jdiv_nn] at * <;> first | done | omega | assumption) | (intros; first | rfl | (exfalso; omega) | ((repeat' apply And.intro) <;> first | assumption | rfl | omega | trivial)))) -- o10 e3i.1
                · (first | ((first | exact XN.1 | (rw [show x27 = a2 + 1 by omega]; exact XN.1))) | (exact XN.2.1) | (exact XN.2.2) | (first | assumption | omega | ((try dsimp only [jt2, jt3, jt4]); first | omega | (simp (disch := omega) only [jst_eq, jst_ne, jst_ni, jst_o, jI_i, jcpy_out, w32_id, jdiv_nn, jshr_k, jand_255] <;> first | done | omega | assumption)) | (intros; simp (disch := omega) only [jst_eq, jst_ne, jst_ni, jst_o, jI_i, jcpy_out, w32_id, jdiv_nn, *] <;> first | done | omega) | (intros; simp (disch := omega) only [jst_eq, jst_ne, jst_ni, jst_o, jI_i, jcpy_out, w32_id, jdiv_nn] at * <;> first | done | omega | assumption) | (intros; first | rfl | (exfalso; omega) | ((repeat' apply And.intro) <;> first | assumption | rfl | omega | trivial)))) -- o11 e3i.2
                · (first | ((first | exact XN.1 | (rw [show x27 = a2 + 1 by omega]; exact XN.1))) | (exact XN.2.1) | (exact XN.2.2) | (first | assumption | omega | ((try dsimp only [jt2, jt3, jt4]); first | omega | (simp (disch := omega) only [jst_eq, jst_ne, jst_ni, jst_o, jI_i, jcpy_out, w32_id, jdiv_nn, jshr_k, jand_255] <;> first | done | omega | assumption)) | (intros; simp (disch := omega) only [jst_eq, jst_ne, jst_ni, jst_o, jI_i, jcpy_out, w32_id, jdiv_nn, *] <;> first | done | omega) | (intros; simp (disch := omega) only [jst_eq, jst_ne, jst_ni, jst_o, jI_i, jcpy_out, w32_id, jdiv_nn] at * <;> first | done | omega | assumption) | (intros; first | rfl | (exfalso; omega) | ((repeat' apply And.intro) <;> first | assumption | rfl | omega | trivial)))) -- o12 e3i.3
                · (first | ((first | exact XN.1 | (rw [show x27 = a2 + 1 by omega]; exact XN.1))) | (exact XN.2.1) | (exact XN.2.2) | (first | assumption | omega | ((try dsimp only [jt2, jt3, jt4]); first | omega | (simp (disch := omega) only [jst_eq, jst_ne, jst_ni, jst_o, jI_i, jcpy_out, w32_id, jdiv_nn, jshr_k, jand_255] <;> first | done | omega | assumption)) | (intros; simp (disch := omega) only [jst_eq, jst_ne, jst_ni, jst_o, jI_i, jcpy_out, w32_id, jdiv_nn, *] <;> first | done | omega) | (intros; simp (disch := omega) only [jst_eq, jst_ne, jst_ni, jst_o, jI_i, jcpy_out, w32_id, jdiv_nn] at * <;> first | done | omega | assumption) | (intros; first | rfl | (exfalso; omega) | ((repeat' apply And.intro) <;> first | assumption | rfl | omega | trivial)))) -- o13 e3i.4
              · (first | ((first | exact XN.1 | (rw [show x27 = a2 + 1 by omega]; exact XN.1))) | (exact XN.2.1) | (exact XN.2.2) | (first | assumption | omega | ((try dsimp only [jt2, jt3, jt4]); first | omega | (simp (disch := omega) only [jst_eq, jst_ne, jst_ni, jst_o, jI_i, jcpy_out, w32_id, jdiv_nn, jshr_k, jand_255] <;> first | done | omega | assumption)) | (intros; simp (disch := omega) only [jst_eq, jst_ne, jst_ni, jst_o, jI_i, jcpy_out, w32_id, jdiv_nn, *] <;> first | done | omega) | (intros; simp (disch := omega) only [jst_eq, jst_ne, jst_ni, jst_o, jI_i, jcpy_out, w32_id, jdiv_nn] at * <;> first | done | omega | assumption) | (intros; first | rfl | (exfalso; omega) | ((repeat' apply And.intro) <;> first | assumption | rfl | omega | trivial)))) -- o14 e3m
          · skip
            try simp (disch := omega) only [jst_eq, jst_ne, jst_ni, jI_i, jcmp_lt, jcmp_gt, w32_id, jcpy_out, Sum.elim_inl, Sum.elim_inr, jt2, jt3, jt4, jt5, jt6, jt7, jt8] at c4
            have XN : okX h0 h E W A pts M (rF (stQ E W pts A T0 i1) (a2 + 1).toNat (l1 pts A T0 i1)) := by { rw [RS]; unfold stQ; rw [if_pos (by omega), if_neg (by omega)]; exact ⟨q1, fr, bb⟩ }
            unfold gX5_growOnce_j243_90
            refine OK_jlx (fun x27 ex27 => ?_)
            try simp (disch := omega) only [jst_eq, jst_ne, jst_ni, jI_i, jcmp_lt, jcmp_gt, w32_id, jcpy_out, Sum.elim_inl, Sum.elim_inr, jt2, jt3, jt4, jt5, jt6, jt7, jt8] at ex27
            refine OK_il ?_ ?_
            · try dsimp only [Sum.elim_inl, Sum.elim_inr, jt2, jt3, jt4, jt5, jt6, jt7, jt8]
              refine ⟨?_, ?_, ?_, ?_⟩
              · (first | ((first | exact XN.1 | (rw [show x27 = a2 + 1 by omega]; exact XN.1))) | (exact XN.2.1) | (exact XN.2.2) | (first | assumption | omega | ((try dsimp only [jt2, jt3, jt4]); first | omega | (simp (disch := omega) only [jst_eq, jst_ne, jst_ni, jst_o, jI_i, jcpy_out, w32_id, jdiv_nn, jshr_k, jand_255] <;> first | done | omega | assumption)) | (intros; simp (disch := omega) only [jst_eq, jst_ne, jst_ni, jst_o, jI_i, jcpy_out, w32_id, jdiv_nn, *] <;> first | done | omega) | (intros; simp (disch := omega) only [jst_eq, jst_ne, jst_ni, jst_o, jI_i, jcpy_out, w32_id, jdiv_nn] at * <;> first | done | omega | assumption) | (intros; first | rfl | (exfalso; omega) | ((repeat' apply And.intro) <;> first | assumption | rfl | omega | trivial)))) -- o15 e4i.1
              · (first | ((first | exact XN.1 | (rw [show x27 = a2 + 1 by omega]; exact XN.1))) | (exact XN.2.1) | (exact XN.2.2) | (first | assumption | omega | ((try dsimp only [jt2, jt3, jt4]); first | omega | (simp (disch := omega) only [jst_eq, jst_ne, jst_ni, jst_o, jI_i, jcpy_out, w32_id, jdiv_nn, jshr_k, jand_255] <;> first | done | omega | assumption)) | (intros; simp (disch := omega) only [jst_eq, jst_ne, jst_ni, jst_o, jI_i, jcpy_out, w32_id, jdiv_nn, *] <;> first | done | omega) | (intros; simp (disch := omega) only [jst_eq, jst_ne, jst_ni, jst_o, jI_i, jcpy_out, w32_id, jdiv_nn] at * <;> first | done | omega | assumption) | (intros; first | rfl | (exfalso; omega) | ((repeat' apply And.intro) <;> first | assumption | rfl | omega | trivial)))) -- o16 e4i.2
              · (first | ((first | exact XN.1 | (rw [show x27 = a2 + 1 by omega]; exact XN.1))) | (exact XN.2.1) | (exact XN.2.2) | (first | assumption | omega | ((try dsimp only [jt2, jt3, jt4]); first | omega | (simp (disch := omega) only [jst_eq, jst_ne, jst_ni, jst_o, jI_i, jcpy_out, w32_id, jdiv_nn, jshr_k, jand_255] <;> first | done | omega | assumption)) | (intros; simp (disch := omega) only [jst_eq, jst_ne, jst_ni, jst_o, jI_i, jcpy_out, w32_id, jdiv_nn, *] <;> first | done | omega) | (intros; simp (disch := omega) only [jst_eq, jst_ne, jst_ni, jst_o, jI_i, jcpy_out, w32_id, jdiv_nn] at * <;> first | done | omega | assumption) | (intros; first | rfl | (exfalso; omega) | ((repeat' apply And.intro) <;> first | assumption | rfl | omega | trivial)))) -- o17 e4i.3
              · (first | ((first | exact XN.1 | (rw [show x27 = a2 + 1 by omega]; exact XN.1))) | (exact XN.2.1) | (exact XN.2.2) | (first | assumption | omega | ((try dsimp only [jt2, jt3, jt4]); first | omega | (simp (disch := omega) only [jst_eq, jst_ne, jst_ni, jst_o, jI_i, jcpy_out, w32_id, jdiv_nn, jshr_k, jand_255] <;> first | done | omega | assumption)) | (intros; simp (disch := omega) only [jst_eq, jst_ne, jst_ni, jst_o, jI_i, jcpy_out, w32_id, jdiv_nn, *] <;> first | done | omega) | (intros; simp (disch := omega) only [jst_eq, jst_ne, jst_ni, jst_o, jI_i, jcpy_out, w32_id, jdiv_nn] at * <;> first | done | omega | assumption) | (intros; first | rfl | (exfalso; omega) | ((repeat' apply And.intro) <;> first | assumption | rfl | omega | trivial)))) -- o18 e4i.4
            · (first | ((first | exact XN.1 | (rw [show x27 = a2 + 1 by omega]; exact XN.1))) | (exact XN.2.1) | (exact XN.2.2) | (first | assumption | omega | ((try dsimp only [jt2, jt3, jt4]); first | omega | (simp (disch := omega) only [jst_eq, jst_ne, jst_ni, jst_o, jI_i, jcpy_out, w32_id, jdiv_nn, jshr_k, jand_255] <;> first | done | omega | assumption)) | (intros; simp (disch := omega) only [jst_eq, jst_ne, jst_ni, jst_o, jI_i, jcpy_out, w32_id, jdiv_nn, *] <;> first | done | omega) | (intros; simp (disch := omega) only [jst_eq, jst_ne, jst_ni, jst_o, jI_i, jcpy_out, w32_id, jdiv_nn] at * <;> first | done | omega | assumption) | (intros; first | rfl | (exfalso; omega) | ((repeat' apply And.intro) <;> first | assumption | rfl | omega | trivial)))) -- o19 e4m
        · skip
          try simp (disch := omega) only [jst_eq, jst_ne, jst_ni, jI_i, jcmp_lt, jcmp_gt, w32_id, jcpy_out, Sum.elim_inl, Sum.elim_inr, jt2, jt3, jt4, jt5, jt6, jt7, jt8] at c3
          refine OK_jb2 (vX5_growAct (E := E) (Rf := Rf) (W := W) (f := f) (A := A) (pts := pts) (wh := wh) (rv := rv) (M := M) (T0 := T0) (T := T) _ _ _ _ (by exact G) (by exact q1) (by exact pg) (by exact EQ) (by exact ⟨q0.1, n2, by omega, by omega, by omega⟩)) (fun v24 h25 r3 => ?_)
          try dsimp only [Sum.elim_inl, Sum.elim_inr, jt2, jt3, jt4, jt5, jt6, jt7, jt8] at r3
          have gr3 := r3
          clear r3
          try simp (disch := omega) only [jst_eq, jst_ne, jst_ni, jI_i, jcmp_lt, jcmp_gt, w32_id, jcpy_out, Sum.elim_inl, Sum.elim_inr, jt2, jt3, jt4, jt5, jt6, jt7, jt8] at gr3
          refine OK_if (fun c6 => ?_) (fun c6 => ?_)
          · skip
            try simp (disch := omega) only [jst_eq, jst_ne, jst_ni, jI_i, jcmp_lt, jcmp_gt, w32_id, jcpy_out, Sum.elim_inl, Sum.elim_inr, jt2, jt3, jt4, jt5, jt6, jt7, jt8] at c6
            refine OK_ir ?_
            (rcases gr3 with r | r; { exact flX_up fr r.2 LE }; { omega }) -- o25 e5
          · skip
            try simp (disch := omega) only [jst_eq, jst_ne, jst_ni, jI_i, jcmp_lt, jcmp_gt, w32_id, jcpy_out, Sum.elim_inl, Sum.elim_inr, jt2, jt3, jt4, jt5, jt6, jt7, jt8] at c6
            have XN : okX h0 h25 E W A pts M (rF (stQ E W pts A T0 i1) (a2 + 1).toNat (l1 pts A T0 i1)) := by { rw [RS]; rcases gr3 with r | r; { omega }; { exact ⟨r.2.1, fG_t fr r.2.2.1, r.2.2.2⟩ } }
            unfold gX5_growOnce_j243_90
            refine OK_jlx (fun x27 ex27 => ?_)
            try simp (disch := omega) only [jst_eq, jst_ne, jst_ni, jI_i, jcmp_lt, jcmp_gt, w32_id, jcpy_out, Sum.elim_inl, Sum.elim_inr, jt2, jt3, jt4, jt5, jt6, jt7, jt8] at ex27
            refine OK_il ?_ ?_
            · try dsimp only [Sum.elim_inl, Sum.elim_inr, jt2, jt3, jt4, jt5, jt6, jt7, jt8]
              refine ⟨?_, ?_, ?_, ?_⟩
              · (first | ((first | exact XN.1 | (rw [show x27 = a2 + 1 by omega]; exact XN.1))) | (exact XN.2.1) | (exact XN.2.2) | (first | assumption | omega | ((try dsimp only [jt2, jt3, jt4]); first | omega | (simp (disch := omega) only [jst_eq, jst_ne, jst_ni, jst_o, jI_i, jcpy_out, w32_id, jdiv_nn, jshr_k, jand_255] <;> first | done | omega | assumption)) | (intros; simp (disch := omega) only [jst_eq, jst_ne, jst_ni, jst_o, jI_i, jcpy_out, w32_id, jdiv_nn, *] <;> first | done | omega) | (intros; simp (disch := omega) only [jst_eq, jst_ne, jst_ni, jst_o, jI_i, jcpy_out, w32_id, jdiv_nn] at * <;> first | done | omega | assumption) | (intros; first | rfl | (exfalso; omega) | ((repeat' apply And.intro) <;> first | assumption | rfl | omega | trivial)))) -- o26 e6i.1
              · (first | ((first | exact XN.1 | (rw [show x27 = a2 + 1 by omega]; exact XN.1))) | (exact XN.2.1) | (exact XN.2.2) | (first | assumption | omega | ((try dsimp only [jt2, jt3, jt4]); first | omega | (simp (disch := omega) only [jst_eq, jst_ne, jst_ni, jst_o, jI_i, jcpy_out, w32_id, jdiv_nn, jshr_k, jand_255] <;> first | done | omega | assumption)) | (intros; simp (disch := omega) only [jst_eq, jst_ne, jst_ni, jst_o, jI_i, jcpy_out, w32_id, jdiv_nn, *] <;> first | done | omega) | (intros; simp (disch := omega) only [jst_eq, jst_ne, jst_ni, jst_o, jI_i, jcpy_out, w32_id, jdiv_nn] at * <;> first | done | omega | assumption) | (intros; first | rfl | (exfalso; omega) | ((repeat' apply And.intro) <;> first | assumption | rfl | omega | trivial)))) -- o27 e6i.2
              · (first | ((first | exact XN.1 | (rw [show x27 = a2 + 1 by omega]; exact XN.1))) | (exact XN.2.1) | (exact XN.2.2) | (first | assumption | omega | ((try dsimp only [jt2, jt3, jt4]); first | omega | (simp (disch := omega) only [jst_eq, jst_ne, jst_ni, jst_o, jI_i, jcpy_out, w32_id, jdiv_nn, jshr_k, jand_255] <;> first | done | omega | assumption)) | (intros; simp (disch := omega) only [jst_eq, jst_ne, jst_ni, jst_o, jI_i, jcpy_out, w32_id, jdiv_nn, *] <;> first | done | omega) | (intros; simp (disch := omega) only [jst_eq, jst_ne, jst_ni, jst_o, jI_i, jcpy_out, w32_id, jdiv_nn] at * <;> first | done | omega | assumption) | (intros; first | rfl | (exfalso; omega) | ((repeat' apply And.intro) <;> first | assumption | rfl | omega | trivial)))) -- o28 e6i.3
              · (first | ((first | exact XN.1 | (rw [show x27 = a2 + 1 by omega]; exact XN.1))) | (exact XN.2.1) | (exact XN.2.2) | (first | assumption | omega | ((try dsimp only [jt2, jt3, jt4]); first | omega | (simp (disch := omega) only [jst_eq, jst_ne, jst_ni, jst_o, jI_i, jcpy_out, w32_id, jdiv_nn, jshr_k, jand_255] <;> first | done | omega | assumption)) | (intros; simp (disch := omega) only [jst_eq, jst_ne, jst_ni, jst_o, jI_i, jcpy_out, w32_id, jdiv_nn, *] <;> first | done | omega) | (intros; simp (disch := omega) only [jst_eq, jst_ne, jst_ni, jst_o, jI_i, jcpy_out, w32_id, jdiv_nn] at * <;> first | done | omega | assumption) | (intros; first | rfl | (exfalso; omega) | ((repeat' apply And.intro) <;> first | assumption | rfl | omega | trivial)))) -- o29 e6i.4
            · (first | ((first | exact XN.1 | (rw [show x27 = a2 + 1 by omega]; exact XN.1))) | (exact XN.2.1) | (exact XN.2.2) | (first | assumption | omega | ((try dsimp only [jt2, jt3, jt4]); first | omega | (simp (disch := omega) only [jst_eq, jst_ne, jst_ni, jst_o, jI_i, jcpy_out, w32_id, jdiv_nn, jshr_k, jand_255] <;> first | done | omega | assumption)) | (intros; simp (disch := omega) only [jst_eq, jst_ne, jst_ni, jst_o, jI_i, jcpy_out, w32_id, jdiv_nn, *] <;> first | done | omega) | (intros; simp (disch := omega) only [jst_eq, jst_ne, jst_ni, jst_o, jI_i, jcpy_out, w32_id, jdiv_nn] at * <;> first | done | omega | assumption) | (intros; first | rfl | (exfalso; omega) | ((repeat' apply And.intro) <;> first | assumption | rfl | omega | trivial)))) -- o30 e6m
      · skip
        try simp (disch := omega) only [jst_eq, jst_ne, jst_ni, jI_i, jcmp_lt, jcmp_gt, w32_id, jcpy_out, Sum.elim_inl, Sum.elim_inr, jt2, jt3, jt4, jt5, jt6, jt7, jt8] at c2
        have XN : okX h0 h E W A pts M (rF (stQ E W pts A T0 i1) (a2 + 1).toNat (l1 pts A T0 i1)) := by { rw [RS]; unfold stQ; by_cases y : A.2.2.2.2.1 a2 = -1; { rw [if_pos y, if_neg (by omega)]; exact ⟨q1, fr, bb⟩ }; { rw [if_neg y]; unfold acT; rw [rF_id _ (fun x T' x0 x1 => sX_skip (fun a a0 a1 => (pg.2.1.2.1 a a0 a1).1) (by (rcases vp.2 with u | u; { exact absurd u.1 y }; { have := G.1.2.1.2.1.2.2.1 _ u.1 u.2; exact ⟨this.1, this.2.1⟩ })) (Or.inr (Or.inr (by (have := (pg.2.1.2.1 x x0 (by omega)).1; rcases vp.2 with u | u; { exact absurd u.1 y }; { have := (G.1.2.1.2.1.2.2.1 _ u.1 u.2).1; omega })))))]; exact ⟨q1, fr, bb⟩ } }
        unfold gX5_growOnce_j243_90
        refine OK_jlx (fun x27 ex27 => ?_)
        try simp (disch := omega) only [jst_eq, jst_ne, jst_ni, jI_i, jcmp_lt, jcmp_gt, w32_id, jcpy_out, Sum.elim_inl, Sum.elim_inr, jt2, jt3, jt4, jt5, jt6, jt7, jt8] at ex27
        refine OK_il ?_ ?_
        · try dsimp only [Sum.elim_inl, Sum.elim_inr, jt2, jt3, jt4, jt5, jt6, jt7, jt8]
          refine ⟨?_, ?_, ?_, ?_⟩
          · (first | ((first | exact XN.1 | (rw [show x27 = a2 + 1 by omega]; exact XN.1))) | (exact XN.2.1) | (exact XN.2.2) | (first | assumption | omega | ((try dsimp only [jt2, jt3, jt4]); first | omega | (simp (disch := omega) only [jst_eq, jst_ne, jst_ni, jst_o, jI_i, jcpy_out, w32_id, jdiv_nn, jshr_k, jand_255] <;> first | done | omega | assumption)) | (intros; simp (disch := omega) only [jst_eq, jst_ne, jst_ni, jst_o, jI_i, jcpy_out, w32_id, jdiv_nn, *] <;> first | done | omega) | (intros; simp (disch := omega) only [jst_eq, jst_ne, jst_ni, jst_o, jI_i, jcpy_out, w32_id, jdiv_nn] at * <;> first | done | omega | assumption) | (intros; first | rfl | (exfalso; omega) | ((repeat' apply And.intro) <;> first | assumption | rfl | omega | trivial)))) -- o31 e7i.1
          · (first | ((first | exact XN.1 | (rw [show x27 = a2 + 1 by omega]; exact XN.1))) | (exact XN.2.1) | (exact XN.2.2) | (first | assumption | omega | ((try dsimp only [jt2, jt3, jt4]); first | omega | (simp (disch := omega) only [jst_eq, jst_ne, jst_ni, jst_o, jI_i, jcpy_out, w32_id, jdiv_nn, jshr_k, jand_255] <;> first | done | omega | assumption)) | (intros; simp (disch := omega) only [jst_eq, jst_ne, jst_ni, jst_o, jI_i, jcpy_out, w32_id, jdiv_nn, *] <;> first | done | omega) | (intros; simp (disch := omega) only [jst_eq, jst_ne, jst_ni, jst_o, jI_i, jcpy_out, w32_id, jdiv_nn] at * <;> first | done | omega | assumption) | (intros; first | rfl | (exfalso; omega) | ((repeat' apply And.intro) <;> first | assumption | rfl | omega | trivial)))) -- o32 e7i.2
          · (first | ((first | exact XN.1 | (rw [show x27 = a2 + 1 by omega]; exact XN.1))) | (exact XN.2.1) | (exact XN.2.2) | (first | assumption | omega | ((try dsimp only [jt2, jt3, jt4]); first | omega | (simp (disch := omega) only [jst_eq, jst_ne, jst_ni, jst_o, jI_i, jcpy_out, w32_id, jdiv_nn, jshr_k, jand_255] <;> first | done | omega | assumption)) | (intros; simp (disch := omega) only [jst_eq, jst_ne, jst_ni, jst_o, jI_i, jcpy_out, w32_id, jdiv_nn, *] <;> first | done | omega) | (intros; simp (disch := omega) only [jst_eq, jst_ne, jst_ni, jst_o, jI_i, jcpy_out, w32_id, jdiv_nn] at * <;> first | done | omega | assumption) | (intros; first | rfl | (exfalso; omega) | ((repeat' apply And.intro) <;> first | assumption | rfl | omega | trivial)))) -- o33 e7i.3
          · (first | ((first | exact XN.1 | (rw [show x27 = a2 + 1 by omega]; exact XN.1))) | (exact XN.2.1) | (exact XN.2.2) | (first | assumption | omega | ((try dsimp only [jt2, jt3, jt4]); first | omega | (simp (disch := omega) only [jst_eq, jst_ne, jst_ni, jst_o, jI_i, jcpy_out, w32_id, jdiv_nn, jshr_k, jand_255] <;> first | done | omega | assumption)) | (intros; simp (disch := omega) only [jst_eq, jst_ne, jst_ni, jst_o, jI_i, jcpy_out, w32_id, jdiv_nn, *] <;> first | done | omega) | (intros; simp (disch := omega) only [jst_eq, jst_ne, jst_ni, jst_o, jI_i, jcpy_out, w32_id, jdiv_nn] at * <;> first | done | omega | assumption) | (intros; first | rfl | (exfalso; omega) | ((repeat' apply And.intro) <;> first | assumption | rfl | omega | trivial)))) -- o34 e7i.4
        · (first | ((first | exact XN.1 | (rw [show x27 = a2 + 1 by omega]; exact XN.1))) | (exact XN.2.1) | (exact XN.2.2) | (first | assumption | omega | ((try dsimp only [jt2, jt3, jt4]); first | omega | (simp (disch := omega) only [jst_eq, jst_ne, jst_ni, jst_o, jI_i, jcpy_out, w32_id, jdiv_nn, jshr_k, jand_255] <;> first | done | omega | assumption)) | (intros; simp (disch := omega) only [jst_eq, jst_ne, jst_ni, jst_o, jI_i, jcpy_out, w32_id, jdiv_nn, *] <;> first | done | omega) | (intros; simp (disch := omega) only [jst_eq, jst_ne, jst_ni, jst_o, jI_i, jcpy_out, w32_id, jdiv_nn] at * <;> first | done | omega | assumption) | (intros; first | rfl | (exfalso; omega) | ((repeat' apply And.intro) <;> first | assumption | rfl | omega | trivial)))) -- o35 e7m
  · try dsimp only [Sum.elim_inl, Sum.elim_inr, jt2, jt3, jt4, jt5, jt6, jt7, jt8]
    refine ⟨?_, ?_, ?_, ?_⟩
    · (have := g.2.2.2.1.2.1; omega) -- o36 init.1
    · (rw [z]; exact xi) -- o37 init.2
    · exact fG_r _ -- o38 init.3
    · exact g.1.2.2.2.2 -- o39 init.4
theorem vX5_growOnce (a1 : Int) {h : AH} {E : EV} {Rf : Int → TR} {W : Int → Int → Int → VW} {f : Int → Int → Int → Int} {A : AD} {pts wh : Int} {rv : Int → Int} {M : Int → (Int → Int) → Prop} {T0 : TB} (g : seX h E Rf W f A pts wh rv) (xi : XI h E W A pts M T0) (pg : PG E W A pts T0 a1) : OK (gX5_growOnce a1 h) (fun r => jt2 r fun v h' => (v = 0 ∧ flX h h' E W A pts M T0 a1 (levT E W pts A T0 a1)) ∨ (v = 1 ∧ okX h h' E W A pts M (levT E W pts A T0 a1))) := by
  unfold gX5_growOnce
  refine OK_jb (vX5_growOnce_l2 (E := E) (Rf := Rf) (W := W) (f := f) (A := A) (pts := pts) (wh := wh) (rv := rv) (M := M) (T0 := T0) _ _ (by exact g) (by exact xi) (by exact pg) (by rfl)) (fun o1 r1 => ?_)
  rcases o1 with o3 | o4
  · skip
    have r2 := r1; clear r1
    dsimp only [Sum.elim_inl, Sum.elim_inr] at r2
    try dsimp only [Sum.elim_inl, Sum.elim_inr, jt2, jt3, jt4, jt5, jt6, jt7, jt8] at r2
    have fl1 := r2
    clear r2
    try simp (disch := omega) only [jst_eq, jst_ne, jst_ni, jI_i, jcmp_lt, jcmp_gt, w32_id, jcpy_out, Sum.elim_inl, Sum.elim_inr, jt2, jt3, jt4, jt5, jt6, jt7, jt8] at fl1
    refine OK_jml ?_
    refine OK_some ?_
    try dsimp only [Sum.elim_inl, Sum.elim_inr, jt2, jt3, jt4, jt5, jt6, jt7, jt8]
    (refine Or.inl ⟨rfl, flX_up (fG_r _) fl1 ?_⟩; exact (extT_F (st := stQ E W pts A T0 a1) (n := A.2.2.2.1.toNat) (fun _ _ _ _ => ext_Q) _ (Nat.le_refl _)).1) -- o5 e1
  · skip
    have r3 := r1; clear r1
    dsimp only [Sum.elim_inl, Sum.elim_inr] at r3
    try dsimp only [Sum.elim_inl, Sum.elim_inr, jt2, jt3, jt4, jt5, jt6, jt7, jt8] at r3
    have ok2 := r3
    clear r3
    try simp (disch := omega) only [jst_eq, jst_ne, jst_ni, jI_i, jcmp_lt, jcmp_gt, w32_id, jcpy_out, Sum.elim_inl, Sum.elim_inr, jt2, jt3, jt4, jt5, jt6, jt7, jt8] at ok2
    refine OK_jmr ?_
    unfold gX5_growOnce_j88
    refine OK_jb (vX5_growOnce_l90 (E := E) (Rf := Rf) (W := W) (f := f) (A := A) (pts := pts) (wh := wh) (rv := rv) (M := M) (T0 := T0) _ _ (by exact seX_G g ok2.2.1 ok2.2.2) (by exact ok2.1) (by exact pg) (by rfl)) (fun o5 r4 => ?_)
    rcases o5 with o7 | o8
    · skip
      have r5 := r4; clear r4
      dsimp only [Sum.elim_inl, Sum.elim_inr] at r5
      try dsimp only [Sum.elim_inl, Sum.elim_inr, jt2, jt3, jt4, jt5, jt6, jt7, jt8] at r5
      have fl3 := r5
      clear r5
      try simp (disch := omega) only [jst_eq, jst_ne, jst_ni, jI_i, jcmp_lt, jcmp_gt, w32_id, jcpy_out, Sum.elim_inl, Sum.elim_inr, jt2, jt3, jt4, jt5, jt6, jt7, jt8] at fl3
      refine OK_jml ?_
      refine OK_some ?_
      try dsimp only [Sum.elim_inl, Sum.elim_inr, jt2, jt3, jt4, jt5, jt6, jt7, jt8]
      exact Or.inl ⟨rfl, flX_up ok2.2.1 (by first | exact fl3 | exact fl4) (Int.le_refl _)⟩ -- o10 e2
    · skip
      have r6 := r4; clear r4
      dsimp only [Sum.elim_inl, Sum.elim_inr] at r6
      refine OK_jmr ?_
      rcases o8 with o9 | o10
      · skip
        have r7 := r6; clear r6
        dsimp only [Sum.elim_inl, Sum.elim_inr] at r7
        try dsimp only [Sum.elim_inl, Sum.elim_inr, jt2, jt3, jt4, jt5, jt6, jt7, jt8] at r7
        have fl4 := r7
        clear r7
        try simp (disch := omega) only [jst_eq, jst_ne, jst_ni, jI_i, jcmp_lt, jcmp_gt, w32_id, jcpy_out, Sum.elim_inl, Sum.elim_inr, jt2, jt3, jt4, jt5, jt6, jt7, jt8] at fl4
        refine OK_jml ?_
        refine OK_some ?_
        try dsimp only [Sum.elim_inl, Sum.elim_inr, jt2, jt3, jt4, jt5, jt6, jt7, jt8]
        exact Or.inl ⟨rfl, flX_up ok2.2.1 (by first | exact fl3 | exact fl4) (Int.le_refl _)⟩ -- o11 e3
      · skip
        have r8 := r6; clear r6
        dsimp only [Sum.elim_inl, Sum.elim_inr] at r8
        try dsimp only [Sum.elim_inl, Sum.elim_inr, jt2, jt3, jt4, jt5, jt6, jt7, jt8] at r8
        have ok5 := r8
        clear r8
        try simp (disch := omega) only [jst_eq, jst_ne, jst_ni, jI_i, jcmp_lt, jcmp_gt, w32_id, jcpy_out, Sum.elim_inl, Sum.elim_inr, jt2, jt3, jt4, jt5, jt6, jt7, jt8] at ok5
        refine OK_jmr ?_
        refine OK_some ?_
        try dsimp only [Sum.elim_inl, Sum.elim_inr, jt2, jt3, jt4, jt5, jt6, jt7, jt8]
        exact Or.inr ⟨rfl, by (have o := (by first | exact ok5 | exact ok4 | exact ok3 : okX o4 o10 E W A pts M (levT E W pts A T0 a1)); exact ⟨o.1, fG_t ok2.2.1 o.2.1, o.2.2⟩)⟩ -- o12 e4

