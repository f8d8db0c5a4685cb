/-! x: how many terms of a price meet -/
noncomputable def mtC (E : EV) (W : Int → Int → Int → VW) (K : AK) (p : Nat) : Int := sumN (fun f => cif (MKT E W K p f) (ct E W (kP K) (kA K) p f) 0) (LV E W (kP K) (kA K) p).1.toNat
theorem mtC_b {E : EV} {W : Int → Int → Int → VW} {K : AK} {p : Nat} (cq : CQ E W (kP K) (kA K) p) : 0 ≤ mtC E W K p ∧ mtC E W K p ≤ 982944732549134175 := by
  have a := tt_B cq (q := (p : Int)) (Int.le_refl _)
  have N := cq.2.2.1 p (Nat.le_refl _)
  have b := sumN_120 (f := ct E W (kP K) (kA K) p) (t := (LV E W (kP K) (kA K) p).1) (fun _ _ => ct_0 _ _) N
  have c : mtC E W K p ≤ sumN (ct E W (kP K) (kA K) p) (LV E W (kP K) (kA K) p).1.toNat := sumN_le (fun f _ _ => cif_le (ct_0 _ _))
  have d : t1C (ct E W (kP K) (kA K)) 120 p = sumN (ct E W (kP K) (kA K) p) 120 := rfl
  have e : 0 ≤ mtC E W K p := sumN_n (fun _ _ => cif_0 (ct_0 _ _)) _
  omega
theorem ak_CQ {h : AH} {E : EV} {Rf : Int → TR} {W : Int → Int → Int → VW} {K : AK} {p : Nat} (ak : akX h E Rf W K) (l : lvK E W (kP K) (kA K) p) (p1 : 1 ≤ p ∧ p ≤ 12) : CQ E W (kP K) (kA K) p := ⟨p1, fun m z => ak_GT ak (fun k y => l k (Nat.le_trans y z)), l, ak.2.2.2.2.2.2.1, ak.1.1.2.1.2.1, by have := ak.1.2.1; have := ak.1.2.2.2.1; omega⟩
theorem vX5_meeting_l5 (i1 : Int) (a20 : Int) (a40 : Int) {h0 : AH} {E : EV} {Rf : Int → TR} {W : Int → Int → Int → VW} {K : AK} {p : Nat} {T : TB} (ak : akX h0 E Rf W K) (xt : XT h0 E W K p T) (cc : ∀ f, 0 ≤ f → f < 120 → h0 321 (120 * p + f) = ct E W (kP K) (kA K) p f) (ip : i1 = p ∧ p ≤ 12) (z : a20 = 0 ∧ a40 = 0) : OK (gX5_meeting_l5 i1 a20 a40 h0) (fun r => jt2 r fun v h' => (v = w64 (mtC E W K p)) ∧ (XT h' E W K p T ∧ fI h0 h' ∧ akX h' E Rf W K)) := by
  unfold gX5_meeting_l5
  refine OK_jit (I := (fun (s : Int × Int × AH) => jt3 s fun a2 a4 h => (0 ≤ a4 ∧ a4 ≤ (LV E W (kP K) (kA K) p).1) ∧ (a2 = w64 (sumN (fun f => cif (MKT E W K p f) (ct E W (kP K) (kA K) p f) 0) a4.toNat)) ∧ (XT h E W K p T) ∧ (fI h0 h) ∧ (akX h E Rf W K))) (m := (fun (s : Int × Int × AH) => jt3 s fun a2 a4 h => ((LV E W (kP K) (kA K) p).1 - a4).toNat)) ?_ ?_
  · intro s hs
    obtain ⟨a2, a4, h⟩ := s
    dsimp only [Sum.elim_inl, Sum.elim_inr, jt2, jt3, jt4, jt5, jt6, jt7, jt8] at hs
    obtain ⟨q0, q1, xh, fr, kh⟩ := hs
    unfold gX5_meeting_b5
    refine OK_jt3 ?_
    have n3 : h 314 i1 = (LV E W (kP K) (kA K) p).1 := by { rw [ip.1]; exact xh.2.2.1 }
    have n120 := xh.2.2.2.1
    have w13 : w32 (a4 + 1) = a4 + 1 := w32_id (by omega) (by omega)
    refine OK_jg (by (first | (exact fI_t fr fr1) | (first | assumption | omega | ((try dsimp only [jt2, jt3, jt4]); first | omega | (simp (disch := omega) only [jst_eq, jst_ne, jst_ni, jst_o, jI_i, jcpy_out, w32_id, jdiv_nn, jshr_k, jand_255] <;> first | done | omega | assumption)) | (intros; simp (disch := omega) only [jst_eq, jst_ne, jst_ni, jst_o, jI_i, jcpy_out, w32_id, jdiv_nn, *] <;> first | done | omega) | (intros; simp (disch := omega) only [jst_eq, jst_ne, jst_ni, jst_o, jI_i, jcpy_out, w32_id, jdiv_nn] at * <;> first | done | omega | assumption) | (intros; first | rfl | (exfalso; omega) | ((repeat' apply And.intro) <;> first | assumption | rfl | omega | trivial))))) ?_ -- o1
    refine OK_if (fun c1 => ?_) (fun c1 => ?_)
    · skip
      try simp (disch := omega) only [jst_eq, jst_ne, jst_ni, jI_i, jcmp_lt, jcmp_gt, w32_id, jcpy_out, Sum.elim_inl, Sum.elim_inr, jt2, jt3, jt4, jt5, jt6, jt7, jt8] at c1
      refine OK_ir ?_
      try dsimp only [Sum.elim_inl, Sum.elim_inr, jt2, jt3, jt4, jt5, jt6, jt7, jt8]
      refine ⟨?_, ?_⟩
      · (rw [q1, show a4.toNat = (LV E W (kP K) (kA K) p).1.toNat by omega]; rfl) -- o2 e1.1
      · exact ⟨xh, fr, kh⟩ -- o3 e1.2
    · skip
      try simp (disch := omega) only [jst_eq, jst_ne, jst_ni, jI_i, jcmp_lt, jcmp_gt, w32_id, jcpy_out, Sum.elim_inl, Sum.elim_inr, jt2, jt3, jt4, jt5, jt6, jt7, jt8] at c1
      refine OK_jb2 (vIM (E := E) (Rf := Rf) (W := W) (K := K) (p := p) (T := T) _ (by exact kh) (by exact xh) (by (first | (exact fI_t fr fr1) | (first | assumption | omega | ((try dsimp only [jt2, jt3, jt4]); first | omega | (simp (disch := omega) only [jst_eq, jst_ne, jst_ni, jst_o, jI_i, jcpy_out, w32_id, jdiv_nn, jshr_k, jand_255] <;> first | done | omega | assumption)) | (intros; simp (disch := omega) only [jst_eq, jst_ne, jst_ni, jst_o, jI_i, jcpy_out, w32_id, jdiv_nn, *] <;> first | done | omega) | (intros; simp (disch := omega) only [jst_eq, jst_ne, jst_ni, jst_o, jI_i, jcpy_out, w32_id, jdiv_nn] at * <;> first | done | omega | assumption) | (intros; first | rfl | (exfalso; omega) | ((repeat' apply And.intro) <;> first | assumption | rfl | omega | trivial)))))) (fun v7 h8 r1 => ?_)
      try dsimp only [Sum.elim_inl, Sum.elim_inr, jt2, jt3, jt4, jt5, jt6, jt7, jt8] at r1
      obtain ⟨im1, xt1, fr1, ak1⟩ := r1
      try simp (disch := omega) only [jst_eq, jst_ne, jst_ni, jI_i, jcmp_lt, jcmp_gt, w32_id, jcpy_out, Sum.elim_inl, Sum.elim_inr, jt2, jt3, jt4, jt5, jt6, jt7, jt8] at im1
      try simp (disch := omega) only [jst_eq, jst_ne, jst_ni, jI_i, jcmp_lt, jcmp_gt, w32_id, jcpy_out, Sum.elim_inl, Sum.elim_inr, jt2, jt3, jt4, jt5, jt6, jt7, jt8] at xt1
      try simp (disch := omega) only [jst_eq, jst_ne, jst_ni, jI_i, jcmp_lt, jcmp_gt, w32_id, jcpy_out, Sum.elim_inl, Sum.elim_inr, jt2, jt3, jt4, jt5, jt6, jt7, jt8] at fr1
      try simp (disch := omega) only [jst_eq, jst_ne, jst_ni, jI_i, jcmp_lt, jcmp_gt, w32_id, jcpy_out, Sum.elim_inl, Sum.elim_inr, jt2, jt3, jt4, jt5, jt6, jt7, jt8] at ak1
      refine OK_if (fun c2 => ?_) (fun c2 => ?_)
      · skip
        try simp (disch := omega) only [jst_eq, jst_ne, jst_ni, jI_i, jcmp_lt, jcmp_gt, w32_id, jcpy_out, Sum.elim_inl, Sum.elim_inr, jt2, jt3, jt4, jt5, jt6, jt7, jt8] at c2
        unfold gX5_meeting_j35_5
        refine OK_jlx (fun x13 ex13 => ?_)
        try simp (disch := omega) only [jst_eq, jst_ne, jst_ni, jI_i, jcmp_lt, jcmp_gt, w32_id, jcpy_out, Sum.elim_inl, Sum.elim_inr, jt2, jt3, jt4, jt5, jt6, jt7, jt8] at ex13
        refine OK_il ?_ ?_
        · try dsimp only [Sum.elim_inl, Sum.elim_inr, jt2, jt3, jt4, jt5, jt6, jt7, jt8]
          refine ⟨?_, ?_, ?_, ?_, ?_⟩
          · (first | (exact fI_t fr fr1) | (first | assumption | omega | ((try dsimp only [jt2, jt3, jt4]); first | omega | (simp (disch := omega) only [jst_eq, jst_ne, jst_ni, jst_o, jI_i, jcpy_out, w32_id, jdiv_nn, jshr_k, jand_255] <;> first | done | omega | assumption)) | (intros; simp (disch := omega) only [jst_eq, jst_ne, jst_ni, jst_o, jI_i, jcpy_out, w32_id, jdiv_nn, *] <;> first | done | omega) | (intros; simp (disch := omega) only [jst_eq, jst_ne, jst_ni, jst_o, jI_i, jcpy_out, w32_id, jdiv_nn] at * <;> first | done | omega | assumption) | (intros; first | rfl | (exfalso; omega) | ((repeat' apply And.intro) <;> first | assumption | rfl | omega | trivial)))) -- o7 e2i.1
          · (rw [q1, show x13 = a4 + 1 by omega, sumN_s q0.1, cif_n (by rcases im1 with u | u; { omega }; { exact u.2 }), Int.add_zero]) -- o8 e2i.2
          · (first | (exact fI_t fr fr1) | (first | assumption | omega | ((try dsimp only [jt2, jt3, jt4]); first | omega | (simp (disch := omega) only [jst_eq, jst_ne, jst_ni, jst_o, jI_i, jcpy_out, w32_id, jdiv_nn, jshr_k, jand_255] <;> first | done | omega | assumption)) | (intros; simp (disch := omega) only [jst_eq, jst_ne, jst_ni, jst_o, jI_i, jcpy_out, w32_id, jdiv_nn, *] <;> first | done | omega) | (intros; simp (disch := omega) only [jst_eq, jst_ne, jst_ni, jst_o, jI_i, jcpy_out, w32_id, jdiv_nn] at * <;> first | done | omega | assumption) | (intros; first | rfl | (exfalso; omega) | ((repeat' apply And.intro) <;> first | assumption | rfl | omega | trivial)))) -- o9 e2i.3
          · (first | (exact fI_t fr fr1) | (first | assumption | omega | ((try dsimp only [jt2, jt3, jt4]); first | omega | (simp (disch := omega) only [jst_eq, jst_ne, jst_ni, jst_o, jI_i, jcpy_out, w32_id, jdiv_nn, jshr_k, jand_255] <;> first | done | omega | assumption)) | (intros; simp (disch := omega) only [jst_eq, jst_ne, jst_ni, jst_o, jI_i, jcpy_out, w32_id, jdiv_nn, *] <;> first | done | omega) | (intros; simp (disch := omega) only [jst_eq, jst_ne, jst_ni, jst_o, jI_i, jcpy_out, w32_id, jdiv_nn] at * <;> first | done | omega | assumption) | (intros; first | rfl | (exfalso; omega) | ((repeat' apply And.intro) <;> first | assumption | rfl | omega | trivial)))) -- o10 e2i.4
          · (first | (exact fI_t fr fr1) | (first | assumption | omega | ((try dsimp only [jt2, jt3, jt4]); first | omega | (simp (disch := omega) only [jst_eq, jst_ne, jst_ni, jst_o, jI_i, jcpy_out, w32_id, jdiv_nn, jshr_k, jand_255] <;> first | done | omega | assumption)) | (intros; simp (disch := omega) only [jst_eq, jst_ne, jst_ni, jst_o, jI_i, jcpy_out, w32_id, jdiv_nn, *] <;> first | done | omega) | (intros; simp (disch := omega) only [jst_eq, jst_ne, jst_ni, jst_o, jI_i, jcpy_out, w32_id, jdiv_nn] at * <;> first | done | omega | assumption) | (intros; first | rfl | (exfalso; omega) | ((repeat' apply And.intro) <;> first | assumption | rfl | omega | trivial)))) -- o11 e2i.5
        · (first | (exact fI_t fr fr1) | (first | assumption | omega | ((try dsimp only [jt2, jt3, jt4]); first | omega | (simp (disch := omega) only [jst_eq, jst_ne, jst_ni, jst_o, jI_i, jcpy_out, w32_id, jdiv_nn, jshr_k, jand_255] <;> first | done | omega | assumption)) | (intros; simp (disch := omega) only [jst_eq, jst_ne, jst_ni, jst_o, jI_i, jcpy_out, w32_id, jdiv_nn, *] <;> first | done | omega) | (intros; simp (disch := omega) only [jst_eq, jst_ne, jst_ni, jst_o, jI_i, jcpy_out, w32_id, jdiv_nn] at * <;> first | done | omega | assumption) | (intros; first | rfl | (exfalso; omega) | ((repeat' apply And.intro) <;> first | assumption | rfl | omega | trivial)))) -- o12 e2m
      · skip
        try simp (disch := omega) only [jst_eq, jst_ne, jst_ni, jI_i, jcmp_lt, jcmp_gt, w32_id, jcpy_out, Sum.elim_inl, Sum.elim_inr, jt2, jt3, jt4, jt5, jt6, jt7, jt8] at c2
        refine OK_jb (vX5_count_2 _ _ (by (first | (exact fI_t fr fr1) | (first | assumption | omega | ((try dsimp only [jt2, jt3, jt4]); first | omega | (simp (disch := omega) only [jst_eq, jst_ne, jst_ni, jst_o, jI_i, jcpy_out, w32_id, jdiv_nn, jshr_k, jand_255] <;> first | done | omega | assumption)) | (intros; simp (disch := omega) only [jst_eq, jst_ne, jst_ni, jst_o, jI_i, jcpy_out, w32_id, jdiv_nn, *] <;> first | done | omega) | (intros; simp (disch := omega) only [jst_eq, jst_ne, jst_ni, jst_o, jI_i, jcpy_out, w32_id, jdiv_nn] at * <;> first | done | omega | assumption) | (intros; first | rfl | (exfalso; omega) | ((repeat' apply And.intro) <;> first | assumption | rfl | omega | trivial)))))) (fun v11 r2 => ?_)
        try dsimp only [Sum.elim_inl, Sum.elim_inr, jt2, jt3, jt4, jt5, jt6, jt7, jt8] at r2
        have cv2 := r2
        clear r2
        try simp (disch := omega) only [jst_eq, jst_ne, jst_ni, jI_i, jcmp_lt, jcmp_gt, w32_id, jcpy_out, Sum.elim_inl, Sum.elim_inr, jt2, jt3, jt4, jt5, jt6, jt7, jt8] at cv2
        have V11 : v11 = ct E W (kP K) (kA K) p a4 := by { rw [show v11 = h8 321 (120 * i1 + a4) by first | exact cv2 | assumption, fI_t fr fr1 _ _ (by omega) (by omega) (by omega), ip.1]; exact cc a4 q0.1 (by omega) }
        refine OK_jlx (fun x12 ex12 => ?_)
        try simp (disch := omega) only [jst_eq, jst_ne, jst_ni, jI_i, jcmp_lt, jcmp_gt, w32_id, jcpy_out, Sum.elim_inl, Sum.elim_inr, jt2, jt3, jt4, jt5, jt6, jt7, jt8] at ex12
        unfold gX5_meeting_j35_5
        refine OK_jlx (fun x13 ex13 => ?_)
        try simp (disch := omega) only [jst_eq, jst_ne, jst_ni, jI_i, jcmp_lt, jcmp_gt, w32_id, jcpy_out, Sum.elim_inl, Sum.elim_inr, jt2, jt3, jt4, jt5, jt6, jt7, jt8] at ex13
        refine OK_il ?_ ?_
        · try dsimp only [Sum.elim_inl, Sum.elim_inr, jt2, jt3, jt4, jt5, jt6, jt7, jt8]
          refine ⟨?_, ?_, ?_, ?_, ?_⟩
          · (first | (exact fI_t fr fr1) | (first | assumption | omega | ((try dsimp only [jt2, jt3, jt4]); first | omega | (simp (disch := omega) only [jst_eq, jst_ne, jst_ni, jst_o, jI_i, jcpy_out, w32_id, jdiv_nn, jshr_k, jand_255] <;> first | done | omega | assumption)) | (intros; simp (disch := omega) only [jst_eq, jst_ne, jst_ni, jst_o, jI_i, jcpy_out, w32_id, jdiv_nn, *] <;> first | done | omega) | (intros; simp (disch := omega) only [jst_eq, jst_ne, jst_ni, jst_o, jI_i, jcpy_out, w32_id, jdiv_nn] at * <;> first | done | omega | assumption) | (intros; first | rfl | (exfalso; omega) | ((repeat' apply And.intro) <;> first | assumption | rfl | omega | trivial)))) -- o14 e3i.1
          · (rw [ex12, q1, w64_al, show x13 = a4 + 1 by omega, sumN_s q0.1, cif_y (by rcases im1 with u | u; { exact u.2 }; { omega }), V11]) -- o15 e3i.2
          · (first | (exact fI_t fr fr1) | (first | assumption | omega | ((try dsimp only [jt2, jt3, jt4]); first | omega | (simp (disch := omega) only [jst_eq, jst_ne, jst_ni, jst_o, jI_i, jcpy_out, w32_id, jdiv_nn, jshr_k, jand_255] <;> first | done | omega | assumption)) | (intros; simp (disch := omega) only [jst_eq, jst_ne, jst_ni, jst_o, jI_i, jcpy_out, w32_id, jdiv_nn, *] <;> first | done | omega) | (intros; simp (disch := omega) only [jst_eq, jst_ne, jst_ni, jst_o, jI_i, jcpy_out, w32_id, jdiv_nn] at * <;> first | done | omega | assumption) | (intros; first | rfl | (exfalso; omega) | ((repeat' apply And.intro) <;> first | assumption | rfl | omega | trivial)))) -- o16 e3i.3
          · (first | (exact fI_t fr fr1) | (first | assumption | omega | ((try dsimp only [jt2, jt3, jt4]); first | omega | (simp (disch := omega) only [jst_eq, jst_ne, jst_ni, jst_o, jI_i, jcpy_out, w32_id, jdiv_nn, jshr_k, jand_255] <;> first | done | omega | assumption)) | (intros; simp (disch := omega) only [jst_eq, jst_ne, jst_ni, jst_o, jI_i, jcpy_out, w32_id, jdiv_nn, *] <;> first | done | omega) | (intros; simp (disch := omega) only [jst_eq, jst_ne, jst_ni, jst_o, jI_i, jcpy_out, w32_id, jdiv_nn] at * <;> first | done | omega | assumption) | (intros; first | rfl | (exfalso; omega) | ((repeat' apply And.intro) <;> first | assumption | rfl | omega | trivial)))) -- o17 e3i.4
          · (first | (exact fI_t fr fr1) | (first | assumption | omega | ((try dsimp only [jt2, jt3, jt4]); first | omega | (simp (disch := omega) only [jst_eq, jst_ne, jst_ni, jst_o, jI_i, jcpy_out, w32_id, jdiv_nn, jshr_k, jand_255] <;> first | done | omega | assumption)) | (intros; simp (disch := omega) only [jst_eq, jst_ne, jst_ni, jst_o, jI_i, jcpy_out, w32_id, jdiv_nn, *] <;> first | done | omega) | (intros; simp (disch := omega) only [jst_eq, jst_ne, jst_ni, jst_o, jI_i, jcpy_out, w32_id, jdiv_nn] at * <;> first | done | omega | assumption) | (intros; first | rfl | (exfalso; omega) | ((repeat' apply And.intro) <;> first | assumption | rfl | omega | trivial)))) -- o18 e3i.5
        · (first | (exact fI_t fr fr1) | (first | assumption | omega | ((try dsimp only [jt2, jt3, jt4]); first | omega | (simp (disch := omega) only [jst_eq, jst_ne, jst_ni, jst_o, jI_i, jcpy_out, w32_id, jdiv_nn, jshr_k, jand_255] <;> first | done | omega | assumption)) | (intros; simp (disch := omega) only [jst_eq, jst_ne, jst_ni, jst_o, jI_i, jcpy_out, w32_id, jdiv_nn, *] <;> first | done | omega) | (intros; simp (disch := omega) only [jst_eq, jst_ne, jst_ni, jst_o, jI_i, jcpy_out, w32_id, jdiv_nn] at * <;> first | done | omega | assumption) | (intros; first | rfl | (exfalso; omega) | ((repeat' apply And.intro) <;> first | assumption | rfl | omega | trivial)))) -- o19 e3m
  · try dsimp only [Sum.elim_inl, Sum.elim_inr, jt2, jt3, jt4, jt5, jt6, jt7, jt8]
    refine ⟨?_, ?_, ?_, ?_, ?_⟩
    · (have l := LV_0 (E := E) (W := W) (pts := kP K) (A := kA K) p; omega) -- o20 init.1
    · (rw [z.1, z.2]; first | rfl | decide) -- o21 init.2
    · exact xt -- o22 init.3
    · exact fI_r _ -- o23 init.4
    · exact ak -- o24 init.5
theorem vX5_meeting (a1 : Int) {h : AH} {E : EV} {Rf : Int → TR} {W : Int → Int → Int → VW} {K : AK} {p : Nat} {T : TB} (ak : akX h E Rf W K) (xt : XT h E W K p T) (cc : ∀ f, 0 ≤ f → f < 120 → h 321 (120 * p + f) = ct E W (kP K) (kA K) p f) (ip : a1 = p ∧ p ≤ 12) : OK (gX5_meeting a1 h) (fun r => jt2 r fun v h' => (v = w64 (mtC E W K p)) ∧ (XT h' E W K p T ∧ fI h h' ∧ akX h' E Rf W K)) := by
  unfold gX5_meeting
  refine OK_jb (vX5_meeting_l5 (E := E) (Rf := Rf) (W := W) (K := K) (p := p) (T := T) _ _ _ (by exact ak) (by exact xt) (by exact cc) (by exact ip) (by exact ⟨rfl, rfl⟩)) (fun o1 r1 => ?_)
  obtain ⟨y3, h4⟩ := o1
  refine OK_jt2 ?_
  try dsimp only [Sum.elim_inl, Sum.elim_inr, jt2, jt3, jt4, jt5, jt6, jt7, jt8] at r1
  obtain ⟨mc1, fs1⟩ := r1
  try simp (disch := omega) only [jst_eq, jst_ne, jst_ni, jI_i, jcmp_lt, jcmp_gt, w32_id, jcpy_out, Sum.elim_inl, Sum.elim_inr, jt2, jt3, jt4, jt5, jt6, jt7, jt8] at mc1
  try simp (disch := omega) only [jst_eq, jst_ne, jst_ni, jI_i, jcmp_lt, jcmp_gt, w32_id, jcpy_out, Sum.elim_inl, Sum.elim_inr, jt2, jt3, jt4, jt5, jt6, jt7, jt8] at fs1
  refine OK_some ?_
  try dsimp only [Sum.elim_inl, Sum.elim_inr, jt2, jt3, jt4, jt5, jt6, jt7, jt8]
  try dsimp only [Sum.elim_inl, Sum.elim_inr, jt2, jt3, jt4, jt5, jt6, jt7, jt8]
  refine ⟨?_, ?_⟩
  · (first | assumption | omega | ((try dsimp only [jt2, jt3, jt4]); first | omega | (simp (disch := omega) only [jst_eq, jst_ne, jst_ni, jst_o, jI_i, jcpy_out, w32_id, jdiv_nn, jshr_k, jand_255] <;> first | done | omega | assumption)) | (intros; simp (disch := omega) only [jst_eq, jst_ne, jst_ni, jst_o, jI_i, jcpy_out, w32_id, jdiv_nn, *] <;> first | done | omega) | (intros; simp (disch := omega) only [jst_eq, jst_ne, jst_ni, jst_o, jI_i, jcpy_out, w32_id, jdiv_nn] at * <;> first | done | omega | assumption) | (intros; first | rfl | (exfalso; omega) | ((repeat' apply And.intro) <;> first | assumption | rfl | omega | trivial))) -- o6 e1.1
  · (first | assumption | omega | ((try dsimp only [jt2, jt3, jt4]); first | omega | (simp (disch := omega) only [jst_eq, jst_ne, jst_ni, jst_o, jI_i, jcpy_out, w32_id, jdiv_nn, jshr_k, jand_255] <;> first | done | omega | assumption)) | (intros; simp (disch := omega) only [jst_eq, jst_ne, jst_ni, jst_o, jI_i, jcpy_out, w32_id, jdiv_nn, *] <;> first | done | omega) | (intros; simp (disch := omega) only [jst_eq, jst_ne, jst_ni, jst_o, jI_i, jcpy_out, w32_id, jdiv_nn] at * <;> first | done | omega | assumption) | (intros; first | rfl | (exfalso; omega) | ((repeat' apply And.intro) <;> first | assumption | rfl | omega | trivial))) -- o7 e1.2
theorem vX1_known2 (a1 : Int) {h : AH} {E : EV} {Rf : Int → TR} {W : Int → Int → Int → VW} {K : AK} {cn : Int → Int → Int} (x4 : isX4 (h 200 16)) (ak : ¬ h (h 200 16) 19 = 0 → asX h E Rf W K cn) : OK (gX1_known a1 h) (fun r => jt2 r fun v h' => (rfs (¬ h 200 53 = 0) a1 (¬ h (h 200 16) 19 = 0) (lvK E W (kP K) (kA K) a1.toNat) v) ∧ (fU h h' ∧ (¬ h (h 200 16) 19 = 0 → asX h' E Rf W K cn) ∧ (v = 0 → akX h' E Rf W K ∧ ∃ (e : Nat) (f : Int), a1 ≤ e ∧ GSx h' E W (kA K) (kP K) (MKa E W K) cn e f))) := by
  unfold gX1_known
  refine OK_if (fun c1 => ?_) (fun c1 => ?_)
  · skip
    try simp (disch := omega) only [jst_eq, jst_ne, jst_ni, jI_i, jcmp_lt, jcmp_gt, w32_id, jcpy_out, Sum.elim_inl, Sum.elim_inr, jt2, jt3, jt4, jt5, jt6, jt7, jt8] at c1
    refine OK_jb (vX1_isIn _ _ _) (fun v3 r1 => ?_)
    try dsimp only [Sum.elim_inl, Sum.elim_inr, jt2, jt3, jt4, jt5, jt6, jt7, jt8] at r1
    have v1 := r1
    clear r1
    try simp (disch := omega) only [jst_eq, jst_ne, jst_ni, jI_i, jcmp_lt, jcmp_gt, w32_id, jcpy_out, Sum.elim_inl, Sum.elim_inr, jt2, jt3, jt4, jt5, jt6, jt7, jt8] at v1
    refine OK_if (fun c2 => ?_) (fun c2 => ?_)
    · skip
      try simp (disch := omega) only [jst_eq, jst_ne, jst_ni, jI_i, jcmp_lt, jcmp_gt, w32_id, jcpy_out, Sum.elim_inl, Sum.elim_inr, jt2, jt3, jt4, jt5, jt6, jt7, jt8] at c2
      refine OK_some ?_
      try dsimp only [Sum.elim_inl, Sum.elim_inr, jt2, jt3, jt4, jt5, jt6, jt7, jt8]
      try dsimp only [Sum.elim_inl, Sum.elim_inr, jt2, jt3, jt4, jt5, jt6, jt7, jt8]
      refine ⟨?_, ?_⟩
      · exact Or.inr (Or.inl ⟨fun y => y c1, by omega, rfl⟩) -- o1 e1.1
      · exact ⟨fU_r _, ak, fun y => by omega⟩ -- o2 e1.2
    · skip
      try simp (disch := omega) only [jst_eq, jst_ne, jst_ni, jI_i, jcmp_lt, jcmp_gt, w32_id, jcpy_out, Sum.elim_inl, Sum.elim_inr, jt2, jt3, jt4, jt5, jt6, jt7, jt8] at c2
      refine OK_if (fun c3 => ?_) (fun c3 => ?_)
      · skip
        try simp (disch := omega) only [jst_eq, jst_ne, jst_ni, jI_i, jcmp_lt, jcmp_gt, w32_id, jcpy_out, Sum.elim_inl, Sum.elim_inr, jt2, jt3, jt4, jt5, jt6, jt7, jt8] at c3
        refine OK_some ?_
        try dsimp only [Sum.elim_inl, Sum.elim_inr, jt2, jt3, jt4, jt5, jt6, jt7, jt8]
        try dsimp only [Sum.elim_inl, Sum.elim_inr, jt2, jt3, jt4, jt5, jt6, jt7, jt8]
        refine ⟨?_, ?_⟩
        · exact Or.inr (Or.inr (Or.inl ⟨fun y => y c1, by omega, fun y => y c3, rfl⟩)) -- o3 e2.1
        · exact ⟨fU_r _, ak, fun y => by omega⟩ -- o4 e2.2
      · skip
        try simp (disch := omega) only [jst_eq, jst_ne, jst_ni, jI_i, jcmp_lt, jcmp_gt, w32_id, jcpy_out, Sum.elim_inl, Sum.elim_inr, jt2, jt3, jt4, jt5, jt6, jt7, jt8] at c3
        obtain ⟨AKx, d, f0, gs⟩ := ak c3
        have p0 : 1 ≤ a1 ∧ a1 ≤ 12 := by omega
        refine OK_jb2 (vX5_grow (E := E) (Rf := Rf) (W := W) (f := fun _ _ _ => 0) (A := kA K) (pts := kP K) (wh := K.1.2.2.1) (rv := K.1.2.2.2) (M := MKa E W K) (cn := cn) (d := d) (fl := f0) _ (by exact AKx.1) (by exact AKx.2.2.2.2.2.2.1) (by exact AKx.2.2.2.2.1) (by exact AKx.2.2.2.2.2.1) (by omega) (by exact gs)) (fun v7 h8 r2 => ?_)
        try dsimp only [Sum.elim_inl, Sum.elim_inr, jt2, jt3, jt4, jt5, jt6, jt7, jt8] at r2
        obtain ⟨gr2, fs2⟩ := r2
        try simp (disch := omega) only [jst_eq, jst_ne, jst_ni, jI_i, jcmp_lt, jcmp_gt, w32_id, jcpy_out, Sum.elim_inl, Sum.elim_inr, jt2, jt3, jt4, jt5, jt6, jt7, jt8] at gr2
        try simp (disch := omega) only [jst_eq, jst_ne, jst_ni, jI_i, jcmp_lt, jcmp_gt, w32_id, jcpy_out, Sum.elim_inl, Sum.elim_inr, jt2, jt3, jt4, jt5, jt6, jt7, jt8] at fs2
        obtain ⟨e, f1, r1, r2, r3⟩ := gr2
        have AK8 := akX_n AKx (fS_A fs2.1) fs2.2
        have ep : ((a1.toNat : Nat) : Int) = a1 := by omega
        rw [← ep] at r1
        have LV8 := rch_lv r2.1 r1
        refine OK_if (fun c4 => ?_) (fun c4 => ?_)
        · skip
          try simp (disch := omega) only [jst_eq, jst_ne, jst_ni, jI_i, jcmp_lt, jcmp_gt, w32_id, jcpy_out, Sum.elim_inl, Sum.elim_inr, jt2, jt3, jt4, jt5, jt6, jt7, jt8] at c4
          refine OK_some ?_
          try dsimp only [Sum.elim_inl, Sum.elim_inr, jt2, jt3, jt4, jt5, jt6, jt7, jt8]
          try dsimp only [Sum.elim_inl, Sum.elim_inr, jt2, jt3, jt4, jt5, jt6, jt7, jt8]
          refine ⟨?_, ?_⟩
          · exact Or.inr (Or.inr (Or.inr (Or.inl ⟨fun y => y c1, p0, c3, fun y => by have := LV8.2 y; omega, rfl⟩))) -- o11 e3.1
          · exact ⟨fS_U fs2.1, fun _ => ⟨AK8, e, f1, r2⟩, fun y => by omega⟩ -- o12 e3.2
        · skip
          try simp (disch := omega) only [jst_eq, jst_ne, jst_ni, jI_i, jcmp_lt, jcmp_gt, w32_id, jcpy_out, Sum.elim_inl, Sum.elim_inr, jt2, jt3, jt4, jt5, jt6, jt7, jt8] at c4
          refine OK_some ?_
          try dsimp only [Sum.elim_inl, Sum.elim_inr, jt2, jt3, jt4, jt5, jt6, jt7, jt8]
          try dsimp only [Sum.elim_inl, Sum.elim_inr, jt2, jt3, jt4, jt5, jt6, jt7, jt8]
          refine ⟨?_, ?_⟩
          · exact Or.inr (Or.inr (Or.inr (Or.inr ⟨fun y => y c1, p0, c3, LV8.1 (by omega), rfl⟩))) -- o13 e4.1
          · exact ⟨fS_U fs2.1, fun _ => ⟨AK8, e, f1, r2⟩, fun _ => ⟨AK8, e, f1, by omega, r2⟩⟩ -- o14 e4.2
  · skip
    try simp (disch := omega) only [jst_eq, jst_ne, jst_ni, jI_i, jcmp_lt, jcmp_gt, w32_id, jcpy_out, Sum.elim_inl, Sum.elim_inr, jt2, jt3, jt4, jt5, jt6, jt7, jt8] at c1
    refine OK_some ?_
    try dsimp only [Sum.elim_inl, Sum.elim_inr, jt2, jt3, jt4, jt5, jt6, jt7, jt8]
    try dsimp only [Sum.elim_inl, Sum.elim_inr, jt2, jt3, jt4, jt5, jt6, jt7, jt8]
    refine ⟨?_, ?_⟩
    · exact Or.inl ⟨c1, rfl⟩ -- o15 e5.1
    · exact ⟨fU_r _, ak, fun y => by omega⟩ -- o16 e5.2
/-- a search that has come so far: its table -/
theorem GSx_TQ {h : AH} {E : EV} {Rf : Int → TR} {W : Int → Int → Int → VW} {K : AK} {cn : Int → Int → Int} {e : Nat} {f : Int} (ak : akX h E Rf W K) (g : GSx h E W (kA K) (kP K) (MKa E W K) cn e f) (e1 : 1 ≤ e) : ∃ T, XI h E W (kA K) (kP K) (MKa E W K) T ∧ eQ (LV E W (kP K) (kA K) e) (e + 1) T ∧ (f = 0 → T = LV E W (kP K) (kA K) e) ∧ (∀ m : Nat, m ≤ e → h 314 m = (LV E W (kP K) (kA K) m).1) ∧ cnX h cn ∧ TQ E W (kP K) (kA K) e T := by
  obtain ⟨g1, g2, g3, g4, g5⟩ := g
  rcases g5 with g5 | ⟨T, t1, t2, t3, t4, t5⟩
  · omega
  · have cq := ak_CQ ak g1.1 ⟨e1, g1.2.1⟩
    have gt := cq.2.1 e (Nat.le_refl _)
    refine ⟨T, t1, t2, t3, t4, t5, cq, t2.1, tyV_GT ak.1.1.2.1.2.1 (wOK_ty ak.1.1.2.1.2.2.1) ak.2.2.2.2.2.2.1 gt, fun a a0 a1 => ?_⟩
    by_cases y : a < (LV E W (kP K) (kA K) e).1
    · rw [(t2.1.2 a a0 y).2.1]
      have := gt.2.1 a a0 y
      have := g1.2.1
      omega
    · rw [t2.2 a (by omega) a1]
      rcases g1.2.2 with z | z
      · rw [t3 z] at a1
        omega
      · omega
theorem f17_S {h h' : AH} (f : f17 h h') : fS h h' := fun a s y1 y2 y3 y4 => f a s y1 y2 (by omega) (by omega)
theorem vX1_count (a1 : Int) {h : AH} {E : EV} {Rf : Int → TR} {W : Int → Int → Int → VW} {K : AK} (x4 : isX4 (h 200 16)) (ak : ¬ h (h 200 16) 19 = 0 → asX h E Rf W K (ct E W (kP K) (kA K))) : OK (gX1_count a1 h) (fun r => jt2 r fun v h' => (ansQ E W K (¬ h 200 53 = 0) (¬ h (h 200 16) 19 = 0) a1 (mtC E W K) v) ∧ (fU h h' ∧ (¬ h (h 200 16) 19 = 0 → asX h' E Rf W K (ct E W (kP K) (kA K))))) := by
  unfold gX1_count
  refine OK_jb2 (vX1_known2 (E := E) (Rf := Rf) (W := W) (K := K) (cn := ct E W (kP K) (kA K)) _ (by exact x4) (by exact ak)) (fun v2 h3 r1 => ?_)
  try dsimp only [Sum.elim_inl, Sum.elim_inr, jt2, jt3, jt4, jt5, jt6, jt7, jt8] at r1
  obtain ⟨rf1, st1⟩ := r1
  try simp (disch := omega) only [jst_eq, jst_ne, jst_ni, jI_i, jcmp_lt, jcmp_gt, w32_id, jcpy_out, Sum.elim_inl, Sum.elim_inr, jt2, jt3, jt4, jt5, jt6, jt7, jt8] at rf1
  try simp (disch := omega) only [jst_eq, jst_ne, jst_ni, jI_i, jcmp_lt, jcmp_gt, w32_id, jcpy_out, Sum.elim_inl, Sum.elim_inr, jt2, jt3, jt4, jt5, jt6, jt7, jt8] at st1
  obtain ⟨s1, s2, s3⟩ := st1
  refine OK_if (fun c1 => ?_) (fun c1 => ?_)
  · skip
    try simp (disch := omega) only [jst_eq, jst_ne, jst_ni, jI_i, jcmp_lt, jcmp_gt, w32_id, jcpy_out, Sum.elim_inl, Sum.elim_inr, jt2, jt3, jt4, jt5, jt6, jt7, jt8] at c1
    have v0 : v2 = 0 := by { unfold rfs at rf1; omega }
    obtain ⟨AK3, e, f1, e1, gs⟩ := s3 v0
    have rr : ¬ ¬ h 200 53 = 0 ∧ (1 ≤ a1 ∧ a1 ≤ 12) ∧ (¬ h (h 200 16) 19 = 0) ∧ lvK E W (kP K) (kA K) a1.toNat := by { rcases rf1 with r | r | r | r | r; { omega }; { omega }; { omega }; { omega }; { exact ⟨r.1, r.2.1, r.2.2.1, r.2.2.2.1⟩ } }
    obtain ⟨T, t1, t2, t3, t4, t5, t6⟩ := GSx_TQ AK3 gs (by omega)
    have ep : ((a1.toNat : Nat) : Int) = a1 := by omega
    have TQp := TQ_le t6 ⟨AK3.1.1.2.1.2.1, wOK_ty AK3.1.1.2.1.2.2.1⟩ (m := a1.toNat) (by omega) (by omega)
    have g4 := gs.2.2.2.1
    refine OK_jb (vX5_count (E := E) (Rf := Rf) (W := W) (A := kA K) (pts := kP K) (wh := K.1.2.2.1) (rv := K.1.2.2.2) (M := MKa E W K) (T := T) (p := a1.toNat) (n0 := (h3 307 17).toNat) _ (by exact ⟨AK3.1, t1, by omega, t5⟩) (by exact TQp) (by exact fun m l => t4 m (by omega)) (by exact ep.symm)) (fun h6 r2 => ?_)
    try dsimp only [Sum.elim_inl, Sum.elim_inr, jt2, jt3, jt4, jt5, jt6, jt7, jt8] at r2
    obtain ⟨ct2, fs2⟩ := r2
    try simp (disch := omega) only [jst_eq, jst_ne, jst_ni, jI_i, jcmp_lt, jcmp_gt, w32_id, jcpy_out, Sum.elim_inl, Sum.elim_inr, jt2, jt3, jt4, jt5, jt6, jt7, jt8] at ct2
    try simp (disch := omega) only [jst_eq, jst_ne, jst_ni, jI_i, jcmp_lt, jcmp_gt, w32_id, jcpy_out, Sum.elim_inl, Sum.elim_inr, jt2, jt3, jt4, jt5, jt6, jt7, jt8] at fs2
    obtain ⟨n, CTn, n1, n2⟩ := ct2
    have F6 := f17_S fs2.1
    have AK6 := akX_n AK3 (fS_A F6) fs2.2
    have GS6 : GSx h6 E W (kA K) (kP K) (MKa E W K) (ct E W (kP K) (kA K)) e f1 := ⟨gs.1, by rw [fs2.1 _ _ (by omega) (by omega) (by omega) (by omega)]; exact gs.2.1, by rw [fs2.1 _ _ (by omega) (by omega) (by omega) (by omega)]; exact gs.2.2.1, by (rw [CTn.2.2.1]; omega), Or.inr ⟨T, CTn.2.1, t2, t3, fun m l => by (rw [fs2.1 _ _ (by omega) (by omega) (by omega) (by omega)]; exact t4 m l), CTn.2.2.2⟩⟩
    obtain ⟨T2, xt2, cl2⟩ := GSx_T (p := a1.toNat) AK6 GS6 ⟨by omega, by omega⟩
    refine OK_jb2 (vX5_meeting (E := E) (Rf := Rf) (W := W) (K := K) (p := a1.toNat) (T := T2) _ (by exact AK6) (by exact xt2) (by exact fun f f0 f1 => by (rw [CTn.2.2.2 a1.toNat f (by omega) (by omega) f0 f1, if_pos (by (rw [CTn.2.2.1]; omega))])) (by exact ⟨ep.symm, by omega⟩)) (fun v8 h9 r3 => ?_)
    try dsimp only [Sum.elim_inl, Sum.elim_inr, jt2, jt3, jt4, jt5, jt6, jt7, jt8] at r3
    obtain ⟨mc3, fs3⟩ := r3
    try simp (disch := omega) only [jst_eq, jst_ne, jst_ni, jI_i, jcmp_lt, jcmp_gt, w32_id, jcpy_out, Sum.elim_inl, Sum.elim_inr, jt2, jt3, jt4, jt5, jt6, jt7, jt8] at mc3
    try simp (disch := omega) only [jst_eq, jst_ne, jst_ni, jI_i, jcmp_lt, jcmp_gt, w32_id, jcpy_out, Sum.elim_inl, Sum.elim_inr, jt2, jt3, jt4, jt5, jt6, jt7, jt8] at fs3
    have mb := mtC_b (K := K) TQp.1
    refine OK_some ?_
    try dsimp only [Sum.elim_inl, Sum.elim_inr, jt2, jt3, jt4, jt5, jt6, jt7, jt8]
    try dsimp only [Sum.elim_inl, Sum.elim_inr, jt2, jt3, jt4, jt5, jt6, jt7, jt8]
    refine ⟨?_, ?_⟩
    · exact ⟨v2, rf1, by (rw [if_pos c1, mc3, w64_id (by omega) (by omega)])⟩ -- o11 e1.1
    · exact ⟨fU_t s1 (fU_t (fS_U F6) (fI_U fs3.2.1)), fun _ => ⟨fs3.2.2, e, f1, cl2 _ fs3.2.1 fs3.1⟩⟩ -- o12 e1.2
  · skip
    try simp (disch := omega) only [jst_eq, jst_ne, jst_ni, jI_i, jcmp_lt, jcmp_gt, w32_id, jcpy_out, Sum.elim_inl, Sum.elim_inr, jt2, jt3, jt4, jt5, jt6, jt7, jt8] at c1
    refine OK_some ?_
    try dsimp only [Sum.elim_inl, Sum.elim_inr, jt2, jt3, jt4, jt5, jt6, jt7, jt8]
    try dsimp only [Sum.elim_inl, Sum.elim_inr, jt2, jt3, jt4, jt5, jt6, jt7, jt8]
    refine ⟨?_, ?_⟩
    · exact ⟨v2, rf1, by (rw [if_neg c1])⟩ -- o13 e2.1
    · exact ⟨s1, s2⟩ -- o14 e2.2

