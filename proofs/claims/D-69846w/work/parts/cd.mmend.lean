/-! m: a term is mended -/
theorem vX14_mend_l214 (i1 : Int) (i2 : Int) (i3 : Int) (i4 : Int) (a50 : Int) (a60 : Int) {h0 : AH} {E : EV} {Rf : Int → TR} {W : Int → Int → Int → VW} {K : AK} {tp : Int} {p : Nat} {T : TB} {R : TR} (md : mnM h0 E Rf W K tp p T R) (i : i1 = p ∧ i2 = 4400 ∧ 0 ≤ i4 ∧ i4 < sz R) (z : a50 = -1 ∧ a60 = 0) : OK (gX14_mend_l214 i1 i2 i3 i4 a50 a60 h0) (fun r => jt2 r fun b h' => (hitM E W K p R i4 i3 (LV E W (kP K) (kA K) p).1 b) ∧ (mnM h' E Rf W K tp p T R ∧ fMv h0 h')) := by
  unfold gX14_mend_l214
  refine OK_jit (I := (fun (s : Int × Int × AH) => jt3 s fun a5 a6 h => (0 ≤ a6 ∧ a6 ≤ (LV E W (kP K) (kA K) p).1) ∧ (hitM E W K p R i4 i3 a6 a5) ∧ (mnM h E Rf W K tp p T R ∧ fMv h0 h))) (m := (fun (s : Int × Int × AH) => jt3 s fun a5 a6 h => ((LV E W (kP K) (kA K) p).1 - a6).toNat)) ?_ ?_
  · intro s hs
    obtain ⟨a5, a6, h⟩ := s
    dsimp only [Sum.elim_inl, Sum.elim_inr, jt2, jt3, jt4, jt5, jt6, jt7, jt8] at hs
    obtain ⟨q0, q1, q2⟩ := hs
    unfold gX14_mend_b214
    refine OK_jt3 ?_
    have MM := q2
    obtain ⟨⟨m1, m2, m3, m4, m5, m6, m7, m8, m9, m10, m11⟩, mf⟩ := q2
    have C0 := akM_0 m1
    have X0 : h 454 38 = 476 ∨ h 454 38 = 615 := C0.1.1
    have n120 := m2.2.2.2.2.1
    refine OK_jb (vUp (E := E) (W := W) (K := K) (tp := tp) (p := p) (T := T) _ (by exact m2) (by exact i.1)) (fun v89 r1 => ?_)
    try dsimp only [Sum.elim_inl, Sum.elim_inr, jt2, jt3, jt4, jt5, jt6, jt7, jt8] at r1
    have ut1 := r1
    clear r1
    try simp (disch := omega) only [jst_eq, jst_ne, jst_ni, jI_i, jcmp_lt, jcmp_gt, w32_id, jcpy_out, Sum.elim_inl, Sum.elim_inr, jt2, jt3, jt4, jt5, jt6, jt7, jt8] at ut1
    refine OK_if (fun c1 => ?_) (fun c1 => ?_)
    · skip
      try simp (disch := omega) only [jst_eq, jst_ne, jst_ni, jI_i, jcmp_lt, jcmp_gt, w32_id, jcpy_out, Sum.elim_inl, Sum.elim_inr, jt2, jt3, jt4, jt5, jt6, jt7, jt8] at c1
      refine OK_ir ?_
      try dsimp only [Sum.elim_inl, Sum.elim_inr, jt2, jt3, jt4, jt5, jt6, jt7, jt8]
      refine ⟨?_, ?_⟩
      · (rw [show (LV E W (kP K) (kA K) p).1 = a6 by omega]; exact q1) -- o3 e1.1
      · exact MM -- o4 e1.2
    · skip
      try simp (disch := omega) only [jst_eq, jst_ne, jst_ni, jI_i, jcmp_lt, jcmp_gt, w32_id, jcpy_out, Sum.elim_inl, Sum.elim_inr, jt2, jt3, jt4, jt5, jt6, jt7, jt8] at c1
      have a6l : a6 < (LV E W (kP K) (kA K) p).1 := by omega
      have LA := MT_at m2 (a := a6) q0.1 a6l
      have WW := MT_w m2 (a := a6) q0.1 a6l
      have TT := m2.1.2.1.2.2.2.2.2.2 a6 q0.1 LA.1
      have P796 : h 796 i4 = 4400 + i4 := m9 i4 i.2.2.1 i.2.2.2
      have KD := m8 a6 q0.1 a6l
      have K461 : h 461 (4400 + i4) = kch (inf (sbT R i4)).2.2.1 := (cG_nd (cG_sbT (m := i4) m3.1 i.2.2.1 i.2.2.2)).2.2.2.2.1
      refine OK_jg (by (first | assumption | omega | ((try dsimp only [jt2, jt3, jt4]); first | omega | (simp (disch := omega) only [jst_eq, jst_ne, jst_ni, jst_o, jI_i, jcpy_out, w32_id, jdiv_nn, jshr_k, jand_255] <;> first | done | omega | assumption)) | (intros; simp (disch := omega) only [jst_eq, jst_ne, jst_ni, jst_o, jI_i, jcpy_out, w32_id, jdiv_nn, *] <;> first | done | omega) | (intros; simp (disch := omega) only [jst_eq, jst_ne, jst_ni, jst_o, jI_i, jcpy_out, w32_id, jdiv_nn] at * <;> first | done | omega | assumption) | (intros; first | rfl | (exfalso; omega) | ((repeat' apply And.intro) <;> first | assumption | rfl | omega | trivial)))) ?_ -- o5
      refine OK_jg (by (first | assumption | omega | ((try dsimp only [jt2, jt3, jt4]); first | omega | (simp (disch := omega) only [jst_eq, jst_ne, jst_ni, jst_o, jI_i, jcpy_out, w32_id, jdiv_nn, jshr_k, jand_255] <;> first | done | omega | assumption)) | (intros; simp (disch := omega) only [jst_eq, jst_ne, jst_ni, jst_o, jI_i, jcpy_out, w32_id, jdiv_nn, *] <;> first | done | omega) | (intros; simp (disch := omega) only [jst_eq, jst_ne, jst_ni, jst_o, jI_i, jcpy_out, w32_id, jdiv_nn] at * <;> first | done | omega | assumption) | (intros; first | rfl | (exfalso; omega) | ((repeat' apply And.intro) <;> first | assumption | rfl | omega | trivial)))) ?_ -- o6
      refine OK_if (fun c2 => ?_) (fun c2 => ?_)
      · skip
        try simp (disch := omega) only [jst_eq, jst_ne, jst_ni, jI_i, jcmp_lt, jcmp_gt, w32_id, jcpy_out, Sum.elim_inl, Sum.elim_inr, jt2, jt3, jt4, jt5, jt6, jt7, jt8] at c2
        refine OK_jg (by (first | assumption | omega | ((try dsimp only [jt2, jt3, jt4]); first | omega | (simp (disch := omega) only [jst_eq, jst_ne, jst_ni, jst_o, jI_i, jcpy_out, w32_id, jdiv_nn, jshr_k, jand_255] <;> first | done | omega | assumption)) | (intros; simp (disch := omega) only [jst_eq, jst_ne, jst_ni, jst_o, jI_i, jcpy_out, w32_id, jdiv_nn, *] <;> first | done | omega) | (intros; simp (disch := omega) only [jst_eq, jst_ne, jst_ni, jst_o, jI_i, jcpy_out, w32_id, jdiv_nn] at * <;> first | done | omega | assumption) | (intros; first | rfl | (exfalso; omega) | ((repeat' apply And.intro) <;> first | assumption | rfl | omega | trivial)))) ?_ -- o7
        refine OK_jg (by (first | assumption | omega | ((try dsimp only [jt2, jt3, jt4]); first | omega | (simp (disch := omega) only [jst_eq, jst_ne, jst_ni, jst_o, jI_i, jcpy_out, w32_id, jdiv_nn, jshr_k, jand_255] <;> first | done | omega | assumption)) | (intros; simp (disch := omega) only [jst_eq, jst_ne, jst_ni, jst_o, jI_i, jcpy_out, w32_id, jdiv_nn, *] <;> first | done | omega) | (intros; simp (disch := omega) only [jst_eq, jst_ne, jst_ni, jst_o, jI_i, jcpy_out, w32_id, jdiv_nn] at * <;> first | done | omega | assumption) | (intros; first | rfl | (exfalso; omega) | ((repeat' apply And.intro) <;> first | assumption | rfl | omega | trivial)))) ?_ -- o8
        refine OK_if (fun c3 => ?_) (fun c3 => ?_)
        · skip
          try simp (disch := omega) only [jst_eq, jst_ne, jst_ni, jI_i, jcmp_lt, jcmp_gt, w32_id, jcpy_out, Sum.elim_inl, Sum.elim_inr, jt2, jt3, jt4, jt5, jt6, jt7, jt8] at c3
          have KK : (LV E W (kP K) (kA K) p).2.1 a6 = (inf (sbT R i4)).2.2.1 := by { rw [TT.1, P796, K461, LA.2.1] at c3; exact (kch_e KD c3.symm).symm }
          refine OK_jb (vFR i2 (h 796 i4) (h 454 38 + 17 + a6) m1 m2 m3.1 (by omega) m4 m5 m6 ⟨i.2.2.1, i.2.2.2⟩ ⟨q0.1, a6l⟩ KK KD i.2.1 P796 rfl) (fun h94 r2 => ?_)
          obtain ⟨ev94, fr94, ak94⟩ := r2
          have C94 := akM_0 ak94
          have X94 : isX16 (h94 454 38) := C94.1.1
          have L94 : h94 754 (-2) = 101 ∧ h94 754 (-1) = 256 := by { rw [fr94 _ _ (by omega) (by omega), fr94 _ _ (by omega) (by omega)]; exact m11 }
          have VK := C94.2.2.2.2.2.2.1
          have OV94 : ∀ q, 0 ≤ q → q < kP K → okV (kR K) (mdV E W K p R i4 a6 q) := fun q q0' q1' => by { have TQ := md_ty m4 i.2.2.1 i.2.2.2 KD (m2.2.2.2.2.2.1 a6 q q0.1 a6l q0' q1') KK; have z := evT_ty (f := fun _ _ _ => 0) (hl := fun _ => 0) (p := (kA K).2.2.1 q) C94.1.2.1.2.1 (wOK_ty C94.1.2.2.1) (fun z => by rw [C94.1.2.2.2] at z; exact absurd z (by decide)) (fun c c0 c1 => VK.2.1 q c q0' q1' c0 c1) (fun c _ _ => by decide) TQ.1; rw [TQ.2, m7] at z; exact z }
          refine OK_jg (by (first | assumption | omega | ((try dsimp only [jt2, jt3, jt4]); first | omega | (simp (disch := omega) only [jst_eq, jst_ne, jst_ni, jst_o, jI_i, jcpy_out, w32_id, jdiv_nn, jshr_k, jand_255] <;> first | done | omega | assumption)) | (intros; simp (disch := omega) only [jst_eq, jst_ne, jst_ni, jst_o, jI_i, jcpy_out, w32_id, jdiv_nn, *] <;> first | done | omega) | (intros; simp (disch := omega) only [jst_eq, jst_ne, jst_ni, jst_o, jI_i, jcpy_out, w32_id, jdiv_nn] at * <;> first | done | omega | assumption) | (intros; first | rfl | (exfalso; omega) | ((repeat' apply And.intro) <;> first | assumption | rfl | omega | trivial)))) ?_ -- o9
          refine OK_jb2 (vMT2 ak94 L94 ev94 OV94) (fun v96 h97 r3 => ?_)
          obtain ⟨im97, fr97, ak97⟩ := r3
          try dsimp only at im97 fr97 ak97
          have F97 : fMv h h97 := fun a s y1 y2 => by { rw [fr97 a s (by omega), fr94 a s (by omega) (by omega)] }
          have MD97 := mnM_w MM.1 F97 ak97
          have MF97 := fMv_t MM.2 F97
          refine OK_if (fun c4 => ?_) (fun c4 => ?_)
          · skip
            try simp (disch := omega) only [jst_eq, jst_ne, jst_ni, jI_i, jcmp_lt, jcmp_gt, w32_id, jcpy_out, Sum.elim_inl, Sum.elim_inr, jt2, jt3, jt4, jt5, jt6, jt7, jt8] at c4
            have NQ : ¬ mdQ E W K p R i4 a6 := fun y => by { rcases im97 with w | w; { omega }; { exact w.2 y.2 } }
            unfold gX14_mend_j351_214
            refine OK_jlx (fun x103 ex103 => ?_)
            try simp (disch := omega) only [jst_eq, jst_ne, jst_ni, jI_i, jcmp_lt, jcmp_gt, w32_id, jcpy_out, Sum.elim_inl, Sum.elim_inr, jt2, jt3, jt4, jt5, jt6, jt7, jt8] at ex103
            refine OK_il ?_ ?_
            · try dsimp only [Sum.elim_inl, Sum.elim_inr, jt2, jt3, jt4, jt5, jt6, jt7, jt8]
              refine ⟨?_, ?_, ?_⟩
              · (first | assumption | omega | ((try dsimp only [jt2, jt3, jt4]); first | omega | (simp (disch := omega) only [jst_eq, jst_ne, jst_ni, jst_o, jI_i, jcpy_out, w32_id, jdiv_nn, jshr_k, jand_255] <;> first | done | omega | assumption)) | (intros; simp (disch := omega) only [jst_eq, jst_ne, jst_ni, jst_o, jI_i, jcpy_out, w32_id, jdiv_nn, *] <;> first | done | omega) | (intros; simp (disch := omega) only [jst_eq, jst_ne, jst_ni, jst_o, jI_i, jcpy_out, w32_id, jdiv_nn] at * <;> first | done | omega | assumption) | (intros; first | rfl | (exfalso; omega) | ((repeat' apply And.intro) <;> first | assumption | rfl | omega | trivial))) -- o10 e2i.1
              · (rw [ex103]; (try rw [w32_id (by omega) (by omega)]); exact hitM_k q1 (.inl (fun y => NQ y.2))) -- o11 e2i.2
              · exact ⟨MD97, MF97⟩ -- o12 e2i.3
            · (first | assumption | omega | ((try dsimp only [jt2, jt3, jt4]); first | omega | (simp (disch := omega) only [jst_eq, jst_ne, jst_ni, jst_o, jI_i, jcpy_out, w32_id, jdiv_nn, jshr_k, jand_255] <;> first | done | omega | assumption)) | (intros; simp (disch := omega) only [jst_eq, jst_ne, jst_ni, jst_o, jI_i, jcpy_out, w32_id, jdiv_nn, *] <;> first | done | omega) | (intros; simp (disch := omega) only [jst_eq, jst_ne, jst_ni, jst_o, jI_i, jcpy_out, w32_id, jdiv_nn] at * <;> first | done | omega | assumption) | (intros; first | rfl | (exfalso; omega) | ((repeat' apply And.intro) <;> first | assumption | rfl | omega | trivial))) -- o13 e2m
          · skip
            try simp (disch := omega) only [jst_eq, jst_ne, jst_ni, jI_i, jcmp_lt, jcmp_gt, w32_id, jcpy_out, Sum.elim_inl, Sum.elim_inr, jt2, jt3, jt4, jt5, jt6, jt7, jt8] at c4
            have YQ : mdQ E W K p R i4 a6 := ⟨KK, by rcases im97 with w | w; { exact w.2 }; { exact absurd w.1 c4 }⟩
            have WQ : (LV E W (kP K) (kA K) p).2.2.1 a6 = i3 := by { rw [← WW]; exact c2 }
            refine OK_if (fun c5 => ?_) (fun c5 => ?_)
            · skip
              try simp (disch := omega) only [jst_eq, jst_ne, jst_ni, jI_i, jcmp_lt, jcmp_gt, w32_id, jcpy_out, Sum.elim_inl, Sum.elim_inr, jt2, jt3, jt4, jt5, jt6, jt7, jt8] at c5
              unfold gX14_mend_j351_214
              refine OK_jlx (fun x103 ex103 => ?_)
              try simp (disch := omega) only [jst_eq, jst_ne, jst_ni, jI_i, jcmp_lt, jcmp_gt, w32_id, jcpy_out, Sum.elim_inl, Sum.elim_inr, jt2, jt3, jt4, jt5, jt6, jt7, jt8] at ex103
              refine OK_il ?_ ?_
              · try dsimp only [Sum.elim_inl, Sum.elim_inr, jt2, jt3, jt4, jt5, jt6, jt7, jt8]
                refine ⟨?_, ?_, ?_⟩
                · (first | assumption | omega | ((try dsimp only [jt2, jt3, jt4]); first | omega | (simp (disch := omega) only [jst_eq, jst_ne, jst_ni, jst_o, jI_i, jcpy_out, w32_id, jdiv_nn, jshr_k, jand_255] <;> first | done | omega | assumption)) | (intros; simp (disch := omega) only [jst_eq, jst_ne, jst_ni, jst_o, jI_i, jcpy_out, w32_id, jdiv_nn, *] <;> first | done | omega) | (intros; simp (disch := omega) only [jst_eq, jst_ne, jst_ni, jst_o, jI_i, jcpy_out, w32_id, jdiv_nn] at * <;> first | done | omega | assumption) | (intros; first | rfl | (exfalso; omega) | ((repeat' apply And.intro) <;> first | assumption | rfl | omega | trivial))) -- o14 e3i.1
                · (rw [ex103]; (try rw [w32_id (by omega) (by omega)]); exact hitM_t q1 c5 q0.1 WQ YQ) -- o15 e3i.2
                · exact ⟨MD97, MF97⟩ -- o16 e3i.3
              · (first | assumption | omega | ((try dsimp only [jt2, jt3, jt4]); first | omega | (simp (disch := omega) only [jst_eq, jst_ne, jst_ni, jst_o, jI_i, jcpy_out, w32_id, jdiv_nn, jshr_k, jand_255] <;> first | done | omega | assumption)) | (intros; simp (disch := omega) only [jst_eq, jst_ne, jst_ni, jst_o, jI_i, jcpy_out, w32_id, jdiv_nn, *] <;> first | done | omega) | (intros; simp (disch := omega) only [jst_eq, jst_ne, jst_ni, jst_o, jI_i, jcpy_out, w32_id, jdiv_nn] at * <;> first | done | omega | assumption) | (intros; first | rfl | (exfalso; omega) | ((repeat' apply And.intro) <;> first | assumption | rfl | omega | trivial))) -- o17 e3m
            · skip
              try simp (disch := omega) only [jst_eq, jst_ne, jst_ni, jI_i, jcmp_lt, jcmp_gt, w32_id, jcpy_out, Sum.elim_inl, Sum.elim_inr, jt2, jt3, jt4, jt5, jt6, jt7, jt8] at c5
              have b5 : 0 ≤ a5 ∧ a5 < a6 := by { rcases q1 with u | u; { omega }; { exact ⟨u.1, u.2.1⟩ } }
              have X97 : h97 454 38 = 476 ∨ h97 454 38 = 615 := (akM_0 ak97).1.1
              have so := MD97.2.1.2.2.2.2.2.2.2 a5 a6 b5.1 b5.2 LA.1
              have N6 := (MD97.2.1.1.2.1.2.2.2.2.2.2 a6 q0.1 LA.1).2.2.1
              have N5 := (MD97.2.1.1.2.1.2.2.2.2.2.2 a5 b5.1 (by omega)).2.2.1
              dsimp only at N5 N6
              have D6 := MD97.2.1.1.2.2.2 a6 q0.1 LA.1
              have D5 := MD97.2.1.1.2.2.2 a5 b5.1 (by omega)
              have sm := akM_s ak97
              have tpr := sm.2.2.2.2
              have t121 := MD97.2.1.1.1
              refine OK_jg (by (first | assumption | omega | ((try dsimp only [jt2, jt3, jt4]); first | omega | (simp (disch := omega) only [jst_eq, jst_ne, jst_ni, jst_o, jI_i, jcpy_out, w32_id, jdiv_nn, jshr_k, jand_255] <;> first | done | omega | assumption)) | (intros; simp (disch := omega) only [jst_eq, jst_ne, jst_ni, jst_o, jI_i, jcpy_out, w32_id, jdiv_nn, *] <;> first | done | omega) | (intros; simp (disch := omega) only [jst_eq, jst_ne, jst_ni, jst_o, jI_i, jcpy_out, w32_id, jdiv_nn] at * <;> first | done | omega | assumption) | (intros; first | rfl | (exfalso; omega) | ((repeat' apply And.intro) <;> first | assumption | rfl | omega | trivial)))) ?_ -- o18
              refine OK_jg (by (first | assumption | omega | ((try dsimp only [jt2, jt3, jt4]); first | omega | (simp (disch := omega) only [jst_eq, jst_ne, jst_ni, jst_o, jI_i, jcpy_out, w32_id, jdiv_nn, jshr_k, jand_255] <;> first | done | omega | assumption)) | (intros; simp (disch := omega) only [jst_eq, jst_ne, jst_ni, jst_o, jI_i, jcpy_out, w32_id, jdiv_nn, *] <;> first | done | omega) | (intros; simp (disch := omega) only [jst_eq, jst_ne, jst_ni, jst_o, jI_i, jcpy_out, w32_id, jdiv_nn] at * <;> first | done | omega | assumption) | (intros; first | rfl | (exfalso; omega) | ((repeat' apply And.intro) <;> first | assumption | rfl | omega | trivial)))) ?_ -- o19
              refine OK_jb (vX14_order (E := E) (A := kA K) (T := T) (tp := tp) (w := T.2.2.1 a6) (d := T.2.2.2.1 a6) (w' := T.2.2.1 a5) (d' := T.2.2.2.1 a5) (o := T.2.2.2.2.1 a6) (o' := T.2.2.2.2.1 a5) _ _ (by exact ⟨sm.1.1, sm.2.2.1.2.2.1, sm.2.2.1.2.2.2, by have := sm.2.2.1.1.2.2.1; omega, sm.2.2.1.1.2.2.2.1⟩) (by omega) (by exact MD97.2.1.2.2.2.2.2.2.2) (by exact fun a a0 a1 => by (have z := MD97.2.1.1.2.2.2 a a0 a1; exact ⟨z.2.1.1, by omega, z.2.2.2⟩)) (by (rw [N5, N6]; omega)) (by (rw [N6]; exact D6.2.2.2)) (by (rw [N5]; exact D5.2.2.2))) (fun v101 r4 => ?_)
              try dsimp only [Sum.elim_inl, Sum.elim_inr, jt2, jt3, jt4, jt5, jt6, jt7, jt8] at r4
              have sg2 := r4
              clear r4
              try simp (disch := omega) only [jst_eq, jst_ne, jst_ni, jI_i, jcmp_lt, jcmp_gt, w32_id, jcpy_out, Sum.elim_inl, Sum.elim_inr, jt2, jt3, jt4, jt5, jt6, jt7, jt8] at sg2
              refine OK_if (fun c6 => ?_) (fun c6 => ?_)
              · skip
                try simp (disch := omega) only [jst_eq, jst_ne, jst_ni, jI_i, jcmp_lt, jcmp_gt, w32_id, jcpy_out, Sum.elim_inl, Sum.elim_inr, jt2, jt3, jt4, jt5, jt6, jt7, jt8] at c6
                unfold gX14_mend_j351_214
                refine OK_jlx (fun x103 ex103 => ?_)
                try simp (disch := omega) only [jst_eq, jst_ne, jst_ni, jI_i, jcmp_lt, jcmp_gt, w32_id, jcpy_out, Sum.elim_inl, Sum.elim_inr, jt2, jt3, jt4, jt5, jt6, jt7, jt8] at ex103
                refine OK_il ?_ ?_
                · try dsimp only [Sum.elim_inl, Sum.elim_inr, jt2, jt3, jt4, jt5, jt6, jt7, jt8]
                  refine ⟨?_, ?_, ?_⟩
                  · (first | assumption | omega | ((try dsimp only [jt2, jt3, jt4]); first | omega | (simp (disch := omega) only [jst_eq, jst_ne, jst_ni, jst_o, jI_i, jcpy_out, w32_id, jdiv_nn, jshr_k, jand_255] <;> first | done | omega | assumption)) | (intros; simp (disch := omega) only [jst_eq, jst_ne, jst_ni, jst_o, jI_i, jcpy_out, w32_id, jdiv_nn, *] <;> first | done | omega) | (intros; simp (disch := omega) only [jst_eq, jst_ne, jst_ni, jst_o, jI_i, jcpy_out, w32_id, jdiv_nn] at * <;> first | done | omega | assumption) | (intros; first | rfl | (exfalso; omega) | ((repeat' apply And.intro) <;> first | assumption | rfl | omega | trivial))) -- o27 e4i.1
                  · (rw [ex103]; (try rw [w32_id (by omega) (by omega)]); exact hitM_k q1 (.inr b5.1)) -- o28 e4i.2
                  · exact ⟨MD97, MF97⟩ -- o29 e4i.3
                · (first | assumption | omega | ((try dsimp only [jt2, jt3, jt4]); first | omega | (simp (disch := omega) only [jst_eq, jst_ne, jst_ni, jst_o, jI_i, jcpy_out, w32_id, jdiv_nn, jshr_k, jand_255] <;> first | done | omega | assumption)) | (intros; simp (disch := omega) only [jst_eq, jst_ne, jst_ni, jst_o, jI_i, jcpy_out, w32_id, jdiv_nn, *] <;> first | done | omega) | (intros; simp (disch := omega) only [jst_eq, jst_ne, jst_ni, jst_o, jI_i, jcpy_out, w32_id, jdiv_nn] at * <;> first | done | omega | assumption) | (intros; first | rfl | (exfalso; omega) | ((repeat' apply And.intro) <;> first | assumption | rfl | omega | trivial))) -- o30 e4m
              · skip
                try simp (disch := omega) only [jst_eq, jst_ne, jst_ni, jI_i, jcmp_lt, jcmp_gt, w32_id, jcpy_out, Sum.elim_inl, Sum.elim_inr, jt2, jt3, jt4, jt5, jt6, jt7, jt8] at c6
                exfalso
                (unfold cL at sg2; omega)
        · skip
          try simp (disch := omega) only [jst_eq, jst_ne, jst_ni, jI_i, jcmp_lt, jcmp_gt, w32_id, jcpy_out, Sum.elim_inl, Sum.elim_inr, jt2, jt3, jt4, jt5, jt6, jt7, jt8] at c3
          have KN : ¬ mdQ E W K p R i4 a6 := fun y => by { apply c3; rw [TT.1, P796, K461, LA.2.1, y.1] }
          unfold gX14_mend_j351_214
          refine OK_jlx (fun x103 ex103 => ?_)
          try simp (disch := omega) only [jst_eq, jst_ne, jst_ni, jI_i, jcmp_lt, jcmp_gt, w32_id, jcpy_out, Sum.elim_inl, Sum.elim_inr, jt2, jt3, jt4, jt5, jt6, jt7, jt8] at ex103
          refine OK_il ?_ ?_
          · try dsimp only [Sum.elim_inl, Sum.elim_inr, jt2, jt3, jt4, jt5, jt6, jt7, jt8]
            refine ⟨?_, ?_, ?_⟩
            · (first | assumption | omega | ((try dsimp only [jt2, jt3, jt4]); first | omega | (simp (disch := omega) only [jst_eq, jst_ne, jst_ni, jst_o, jI_i, jcpy_out, w32_id, jdiv_nn, jshr_k, jand_255] <;> first | done | omega | assumption)) | (intros; simp (disch := omega) only [jst_eq, jst_ne, jst_ni, jst_o, jI_i, jcpy_out, w32_id, jdiv_nn, *] <;> first | done | omega) | (intros; simp (disch := omega) only [jst_eq, jst_ne, jst_ni, jst_o, jI_i, jcpy_out, w32_id, jdiv_nn] at * <;> first | done | omega | assumption) | (intros; first | rfl | (exfalso; omega) | ((repeat' apply And.intro) <;> first | assumption | rfl | omega | trivial))) -- o31 e5i.1
            · (rw [ex103]; (try rw [w32_id (by omega) (by omega)]); exact hitM_k q1 (.inl (fun y => KN y.2))) -- o32 e5i.2
            · exact MM -- o33 e5i.3
          · (first | assumption | omega | ((try dsimp only [jt2, jt3, jt4]); first | omega | (simp (disch := omega) only [jst_eq, jst_ne, jst_ni, jst_o, jI_i, jcpy_out, w32_id, jdiv_nn, jshr_k, jand_255] <;> first | done | omega | assumption)) | (intros; simp (disch := omega) only [jst_eq, jst_ne, jst_ni, jst_o, jI_i, jcpy_out, w32_id, jdiv_nn, *] <;> first | done | omega) | (intros; simp (disch := omega) only [jst_eq, jst_ne, jst_ni, jst_o, jI_i, jcpy_out, w32_id, jdiv_nn] at * <;> first | done | omega | assumption) | (intros; first | rfl | (exfalso; omega) | ((repeat' apply And.intro) <;> first | assumption | rfl | omega | trivial))) -- o34 e5m
      · skip
        try simp (disch := omega) only [jst_eq, jst_ne, jst_ni, jI_i, jcmp_lt, jcmp_gt, w32_id, jcpy_out, Sum.elim_inl, Sum.elim_inr, jt2, jt3, jt4, jt5, jt6, jt7, jt8] at c2
        unfold gX14_mend_j351_214
        refine OK_jlx (fun x103 ex103 => ?_)
        try simp (disch := omega) only [jst_eq, jst_ne, jst_ni, jI_i, jcmp_lt, jcmp_gt, w32_id, jcpy_out, Sum.elim_inl, Sum.elim_inr, jt2, jt3, jt4, jt5, jt6, jt7, jt8] at ex103
        refine OK_il ?_ ?_
        · try dsimp only [Sum.elim_inl, Sum.elim_inr, jt2, jt3, jt4, jt5, jt6, jt7, jt8]
          refine ⟨?_, ?_, ?_⟩
          · (first | assumption | omega | ((try dsimp only [jt2, jt3, jt4]); first | omega | (simp (disch := omega) only [jst_eq, jst_ne, jst_ni, jst_o, jI_i, jcpy_out, w32_id, jdiv_nn, jshr_k, jand_255] <;> first | done | omega | assumption)) | (intros; simp (disch := omega) only [jst_eq, jst_ne, jst_ni, jst_o, jI_i, jcpy_out, w32_id, jdiv_nn, *] <;> first | done | omega) | (intros; simp (disch := omega) only [jst_eq, jst_ne, jst_ni, jst_o, jI_i, jcpy_out, w32_id, jdiv_nn] at * <;> first | done | omega | assumption) | (intros; first | rfl | (exfalso; omega) | ((repeat' apply And.intro) <;> first | assumption | rfl | omega | trivial))) -- o35 e6i.1
          · (rw [ex103]; (try rw [w32_id (by omega) (by omega)]); exact hitM_k q1 (.inl (fun y => c2 (by rw [WW]; exact y.1)))) -- o36 e6i.2
          · exact MM -- o37 e6i.3
        · (first | assumption | omega | ((try dsimp only [jt2, jt3, jt4]); first | omega | (simp (disch := omega) only [jst_eq, jst_ne, jst_ni, jst_o, jI_i, jcpy_out, w32_id, jdiv_nn, jshr_k, jand_255] <;> first | done | omega | assumption)) | (intros; simp (disch := omega) only [jst_eq, jst_ne, jst_ni, jst_o, jI_i, jcpy_out, w32_id, jdiv_nn, *] <;> first | done | omega) | (intros; simp (disch := omega) only [jst_eq, jst_ne, jst_ni, jst_o, jI_i, jcpy_out, w32_id, jdiv_nn] at * <;> first | done | omega | assumption) | (intros; first | rfl | (exfalso; omega) | ((repeat' apply And.intro) <;> first | assumption | rfl | omega | trivial))) -- o38 e6m
  · try dsimp only [Sum.elim_inl, Sum.elim_inr, jt2, jt3, jt4, jt5, jt6, jt7, jt8]
    refine ⟨?_, ?_, ?_⟩
    · (have l := LV_0 (E := E) (W := W) (pts := kP K) (A := kA K) p; omega) -- o39 init.1
    · exact .inl ⟨z.1, fun f f0 f1 => by omega⟩ -- o40 init.2
    · exact ⟨md, fMv_r _⟩ -- o41 init.3
theorem vX14_mend_l199 (i1 : Int) (i2 : Int) (i3 : Int) (a40 : Int) {h0 : AH} {E : EV} {Rf : Int → TR} {W : Int → Int → Int → VW} {K : AK} {tp : Int} {p : Nat} {T : TB} {R : TR} (md : mnM h0 E Rf W K tp p T R) (i : i1 = p ∧ i2 = 4400) (z : a40 = 0) : OK (gX14_mend_l199 i1 i2 i3 a40 h0) (Sum.elim (fun r => jt3 r fun x y h' => ((0 ≤ x ∧ x < sz R) ∧ (0 ≤ y ∧ y < (LV E W (kP K) (kA K) p).1) ∧ (LV E W (kP K) (kA K) p).2.2.1 y = i3 ∧ mdQ E W K p R x y ∧ (∀ f, 0 ≤ f → f < y → (LV E W (kP K) (kA K) p).2.2.1 f = i3 → ¬ mdQ E W K p R x f) ∧ ∀ m f, 0 ≤ m → m < x → 0 ≤ f → f < (LV E W (kP K) (kA K) p).1 → (LV E W (kP K) (kA K) p).2.2.1 f = i3 → ¬ mdQ E W K p R m f) ∧ (mnM h' E Rf W K tp p T R ∧ fMv h0 h')) (fun h' => (∀ m f, 0 ≤ m → m < sz R → 0 ≤ f → f < (LV E W (kP K) (kA K) p).1 → (LV E W (kP K) (kA K) p).2.2.1 f = i3 → ¬ mdQ E W K p R m f) ∧ (mnM h' E Rf W K tp p T R ∧ fMv h0 h'))) := by
  unfold gX14_mend_l199
  refine OK_jit (I := (fun (s : Int × AH) => jt2 s fun a4 h => (0 ≤ a4 ∧ a4 ≤ sz R) ∧ (∀ m f, 0 ≤ m → m < a4 → 0 ≤ f → f < (LV E W (kP K) (kA K) p).1 → (LV E W (kP K) (kA K) p).2.2.1 f = i3 → ¬ mdQ E W K p R m f) ∧ (mnM h E Rf W K tp p T R ∧ fMv h0 h))) (m := (fun (s : Int × AH) => jt2 s fun a4 h => (sz R - a4).toNat)) ?_ ?_
  · intro s hs
    obtain ⟨a4, h⟩ := s
    dsimp only [Sum.elim_inl, Sum.elim_inr, jt2, jt3, jt4, jt5, jt6, jt7, jt8] at hs
    obtain ⟨q0, q1, q2⟩ := hs
    unfold gX14_mend_b199
    refine OK_jt2 ?_
    have MM := q2
    have N73 : h 454 73 = sz R := q2.1.2.2.2.2.2.2.2.2.2.1
    have s121 := q2.1.2.2.1.2
    refine OK_if (fun c1 => ?_) (fun c1 => ?_)
    · skip
      try simp (disch := omega) only [jst_eq, jst_ne, jst_ni, jI_i, jcmp_lt, jcmp_gt, w32_id, jcpy_out, Sum.elim_inl, Sum.elim_inr, jt2, jt3, jt4, jt5, jt6, jt7, jt8] at c1
      refine OK_ir ?_
      try dsimp only [Sum.elim_inl, Sum.elim_inr, jt2, jt3, jt4, jt5, jt6, jt7, jt8]
      refine ⟨?_, ?_⟩
      · exact fun m f m0 m1 f0 f1 w => q1 m f m0 (by omega) f0 f1 w -- o1 e1.1
      · exact MM -- o2 e1.2
    · skip
      try simp (disch := omega) only [jst_eq, jst_ne, jst_ni, jI_i, jcmp_lt, jcmp_gt, w32_id, jcpy_out, Sum.elim_inl, Sum.elim_inr, jt2, jt3, jt4, jt5, jt6, jt7, jt8] at c1
      refine OK_jb (vX14_mend_l214 (E := E) (Rf := Rf) (W := W) (K := K) (tp := tp) (p := p) (T := T) (R := R) _ _ _ _ _ _ (by exact MM.1) (by exact ⟨i.1, i.2, q0.1, by omega⟩) (by (first | assumption | omega | ((try dsimp only [jt2, jt3, jt4]); first | omega | (simp (disch := omega) only [jst_eq, jst_ne, jst_ni, jst_o, jI_i, jcpy_out, w32_id, jdiv_nn, jshr_k, jand_255] <;> first | done | omega | assumption)) | (intros; simp (disch := omega) only [jst_eq, jst_ne, jst_ni, jst_o, jI_i, jcpy_out, w32_id, jdiv_nn, *] <;> first | done | omega) | (intros; simp (disch := omega) only [jst_eq, jst_ne, jst_ni, jst_o, jI_i, jcpy_out, w32_id, jdiv_nn] at * <;> first | done | omega | assumption) | (intros; first | rfl | (exfalso; omega) | ((repeat' apply And.intro) <;> first | assumption | rfl | omega | trivial))))) (fun o82 r1 => ?_)
      obtain ⟨y84, h85⟩ := o82
      refine OK_jt2 ?_
      try dsimp only [Sum.elim_inl, Sum.elim_inr, jt2, jt3, jt4, jt5, jt6, jt7, jt8] at r1
      obtain ⟨hi1, md1⟩ := r1
      try simp (disch := omega) only [jst_eq, jst_ne, jst_ni, jI_i, jcmp_lt, jcmp_gt, w32_id, jcpy_out, Sum.elim_inl, Sum.elim_inr, jt2, jt3, jt4, jt5, jt6, jt7, jt8] at hi1
      try simp (disch := omega) only [jst_eq, jst_ne, jst_ni, jI_i, jcmp_lt, jcmp_gt, w32_id, jcpy_out, Sum.elim_inl, Sum.elim_inr, jt2, jt3, jt4, jt5, jt6, jt7, jt8] at md1
      refine OK_if (fun c2 => ?_) (fun c2 => ?_)
      · skip
        try simp (disch := omega) only [jst_eq, jst_ne, jst_ni, jI_i, jcmp_lt, jcmp_gt, w32_id, jcpy_out, Sum.elim_inl, Sum.elim_inr, jt2, jt3, jt4, jt5, jt6, jt7, jt8] at c2
        refine OK_jlx (fun x87 ex87 => ?_)
        try simp (disch := omega) only [jst_eq, jst_ne, jst_ni, jI_i, jcmp_lt, jcmp_gt, w32_id, jcpy_out, Sum.elim_inl, Sum.elim_inr, jt2, jt3, jt4, jt5, jt6, jt7, jt8] at ex87
        refine OK_il ?_ ?_
        · try dsimp only [Sum.elim_inl, Sum.elim_inr, jt2, jt3, jt4, jt5, jt6, jt7, jt8]
          refine ⟨?_, ?_, ?_⟩
          · (first | assumption | omega | ((try dsimp only [jt2, jt3, jt4]); first | omega | (simp (disch := omega) only [jst_eq, jst_ne, jst_ni, jst_o, jI_i, jcpy_out, w32_id, jdiv_nn, jshr_k, jand_255] <;> first | done | omega | assumption)) | (intros; simp (disch := omega) only [jst_eq, jst_ne, jst_ni, jst_o, jI_i, jcpy_out, w32_id, jdiv_nn, *] <;> first | done | omega) | (intros; simp (disch := omega) only [jst_eq, jst_ne, jst_ni, jst_o, jI_i, jcpy_out, w32_id, jdiv_nn] at * <;> first | done | omega | assumption) | (intros; first | rfl | (exfalso; omega) | ((repeat' apply And.intro) <;> first | assumption | rfl | omega | trivial))) -- o6 e2i.1
          · (intro m f m0 m1 f0 f1 w; rw [ex87] at m1; (try rw [w32_id (by omega) (by omega)] at m1); by_cases y : m = a4; { rw [y]; rcases hi1 with u | u; { exact u.2 f f0 f1 w }; { omega } }; { exact q1 m f m0 (by omega) f0 f1 w }) -- o7 e2i.2
          · exact ⟨md1.1, fMv_t MM.2 md1.2⟩ -- o8 e2i.3
        · (first | assumption | omega | ((try dsimp only [jt2, jt3, jt4]); first | omega | (simp (disch := omega) only [jst_eq, jst_ne, jst_ni, jst_o, jI_i, jcpy_out, w32_id, jdiv_nn, jshr_k, jand_255] <;> first | done | omega | assumption)) | (intros; simp (disch := omega) only [jst_eq, jst_ne, jst_ni, jst_o, jI_i, jcpy_out, w32_id, jdiv_nn, *] <;> first | done | omega) | (intros; simp (disch := omega) only [jst_eq, jst_ne, jst_ni, jst_o, jI_i, jcpy_out, w32_id, jdiv_nn] at * <;> first | done | omega | assumption) | (intros; first | rfl | (exfalso; omega) | ((repeat' apply And.intro) <;> first | assumption | rfl | omega | trivial))) -- o9 e2m
      · skip
        try simp (disch := omega) only [jst_eq, jst_ne, jst_ni, jI_i, jcmp_lt, jcmp_gt, w32_id, jcpy_out, Sum.elim_inl, Sum.elim_inr, jt2, jt3, jt4, jt5, jt6, jt7, jt8] at c2
        refine OK_ir ?_
        try dsimp only [Sum.elim_inl, Sum.elim_inr, jt2, jt3, jt4, jt5, jt6, jt7, jt8]
        refine ⟨?_, ?_⟩
        · (rcases hi1 with u | u; { omega }; { exact ⟨⟨q0.1, by omega⟩, ⟨u.1, u.2.1⟩, u.2.2.1, u.2.2.2.1, u.2.2.2.2, q1⟩ }) -- o10 e3.1
        · exact ⟨md1.1, fMv_t MM.2 md1.2⟩ -- o11 e3.2
  · try dsimp only [Sum.elim_inl, Sum.elim_inr, jt2, jt3, jt4, jt5, jt6, jt7, jt8]
    refine ⟨?_, ?_, ?_⟩
    · (have := sz_pos R; omega) -- o12 init.1
    · (intro m f m0 m1; omega) -- o13 init.2
    · exact ⟨md, fMv_r _⟩ -- o14 init.3
theorem vX14_mend_l191 (i1 : Int) (i2 : Int) (a30 : Int) {h0 : AH} {E : EV} {Rf : Int → TR} {W : Int → Int → Int → VW} {K : AK} {tp : Int} {p : Nat} {T : TB} {R : TR} (md : mnM h0 E Rf W K tp p T R) (i : i1 = p ∧ i2 = 4400 ∧ p ≤ 12) (z : a30 = 1) : OK (gX14_mend_l191 i1 i2 a30 h0) (Sum.elim (fun r => jt4 r fun q x y h' => (q = (LV E W (kP K) (kA K) p).2.2.1 y ∧ mdR E W K p R x y) ∧ (mnM h' E Rf W K tp p T R ∧ fMv h0 h')) (fun h' => (∀ m f, 0 ≤ m → m < sz R → 0 ≤ f → f < (LV E W (kP K) (kA K) p).1 → ¬ mdQ E W K p R m f) ∧ (mnM h' E Rf W K tp p T R ∧ fMv h0 h'))) := by
  unfold gX14_mend_l191
  refine OK_jit (I := (fun (s : Int × AH) => jt2 s fun a3 h => (1 ≤ a3 ∧ a3 ≤ p + 1) ∧ (∀ m f, 0 ≤ m → m < sz R → 0 ≤ f → f < (LV E W (kP K) (kA K) p).1 → (LV E W (kP K) (kA K) p).2.2.1 f < a3 → ¬ mdQ E W K p R m f) ∧ (mnM h E Rf W K tp p T R ∧ fMv h0 h))) (m := (fun (s : Int × AH) => jt2 s fun a3 h => ((p : Int) + 1 - a3).toNat)) ?_ ?_
  · intro s hs
    obtain ⟨a3, h⟩ := s
    dsimp only [Sum.elim_inl, Sum.elim_inr, jt2, jt3, jt4, jt5, jt6, jt7, jt8] at hs
    obtain ⟨q0, q1, q2⟩ := hs
    unfold gX14_mend_b191
    refine OK_jt2 ?_
    have MM := q2
    have GTp := q2.1.2.1.2.2.2.2.2.2.1
    refine OK_if (fun c1 => ?_) (fun c1 => ?_)
    · skip
      try simp (disch := omega) only [jst_eq, jst_ne, jst_ni, jI_i, jcmp_lt, jcmp_gt, w32_id, jcpy_out, Sum.elim_inl, Sum.elim_inr, jt2, jt3, jt4, jt5, jt6, jt7, jt8] at c1
      refine OK_ir ?_
      try dsimp only [Sum.elim_inl, Sum.elim_inr, jt2, jt3, jt4, jt5, jt6, jt7, jt8]
      refine ⟨?_, ?_⟩
      · exact fun m f m0 m1 f0 f1 => q1 m f m0 m1 f0 f1 (by have := (GTp.2.1 f f0 f1).2.1; omega) -- o1 e1.1
      · exact MM -- o2 e1.2
    · skip
      try simp (disch := omega) only [jst_eq, jst_ne, jst_ni, jI_i, jcmp_lt, jcmp_gt, w32_id, jcpy_out, Sum.elim_inl, Sum.elim_inr, jt2, jt3, jt4, jt5, jt6, jt7, jt8] at c1
      refine OK_jb (vX14_mend_l199 (E := E) (Rf := Rf) (W := W) (K := K) (tp := tp) (p := p) (T := T) (R := R) _ _ _ _ (by exact MM.1) (by (first | assumption | omega | ((try dsimp only [jt2, jt3, jt4]); first | omega | (simp (disch := omega) only [jst_eq, jst_ne, jst_ni, jst_o, jI_i, jcpy_out, w32_id, jdiv_nn, jshr_k, jand_255] <;> first | done | omega | assumption)) | (intros; simp (disch := omega) only [jst_eq, jst_ne, jst_ni, jst_o, jI_i, jcpy_out, w32_id, jdiv_nn, *] <;> first | done | omega) | (intros; simp (disch := omega) only [jst_eq, jst_ne, jst_ni, jst_o, jI_i, jcpy_out, w32_id, jdiv_nn] at * <;> first | done | omega | assumption) | (intros; first | rfl | (exfalso; omega) | ((repeat' apply And.intro) <;> first | assumption | rfl | omega | trivial)))) (by (first | assumption | omega | ((try dsimp only [jt2, jt3, jt4]); first | omega | (simp (disch := omega) only [jst_eq, jst_ne, jst_ni, jst_o, jI_i, jcpy_out, w32_id, jdiv_nn, jshr_k, jand_255] <;> first | done | omega | assumption)) | (intros; simp (disch := omega) only [jst_eq, jst_ne, jst_ni, jst_o, jI_i, jcpy_out, w32_id, jdiv_nn, *] <;> first | done | omega) | (intros; simp (disch := omega) only [jst_eq, jst_ne, jst_ni, jst_o, jI_i, jcpy_out, w32_id, jdiv_nn] at * <;> first | done | omega | assumption) | (intros; first | rfl | (exfalso; omega) | ((repeat' apply And.intro) <;> first | assumption | rfl | omega | trivial))))) (fun o73 r1 => ?_)
      rcases o73 with o75 | o76
      · skip
        have r2 := r1; clear r1
        dsimp only [Sum.elim_inl, Sum.elim_inr] at r2
        refine OK_jml ?_
        obtain ⟨y77, y78, h79⟩ := o75
        refine OK_jt3 ?_
        try dsimp only [Sum.elim_inl, Sum.elim_inr, jt2, jt3, jt4, jt5, jt6, jt7, jt8] at r2
        obtain ⟨fo1, md1⟩ := r2
        try simp (disch := omega) only [jst_eq, jst_ne, jst_ni, jI_i, jcmp_lt, jcmp_gt, w32_id, jcpy_out, Sum.elim_inl, Sum.elim_inr, jt2, jt3, jt4, jt5, jt6, jt7, jt8] at fo1
        try simp (disch := omega) only [jst_eq, jst_ne, jst_ni, jI_i, jcmp_lt, jcmp_gt, w32_id, jcpy_out, Sum.elim_inl, Sum.elim_inr, jt2, jt3, jt4, jt5, jt6, jt7, jt8] at md1
        refine OK_ir ?_
        try dsimp only [Sum.elim_inl, Sum.elim_inr, jt2, jt3, jt4, jt5, jt6, jt7, jt8]
        refine ⟨?_, ?_⟩
        · (obtain ⟨u1, u2, u3, u4, u5, u6⟩ := fo1; refine ⟨u3.symm, u1, u2, u4, fun m f m0 m1 f0 f1 hit => ?_⟩; have so := GTp.2.2.1; rw [u3]; rcases Int.lt_trichotomy ((LV E W (kP K) (kA K) p).2.2.1 f) a3 with w | w | w; { exact absurd hit (q1 m f m0 m1 f0 f1 w) }; { refine .inr ⟨w.symm, ?_⟩; rcases Int.lt_trichotomy x m with g | g | g; { exact .inl g }; { refine .inr ⟨g, ?_⟩; by_cases k : f < y; { rw [← g] at hit; exact absurd hit (u5 f f0 k w) }; { omega } }; { exact absurd hit (u6 m f m0 g f0 f1 w) } }; { exact .inl w }) -- o6 e2.1
        · exact ⟨md1.1, fMv_t MM.2 md1.2⟩ -- o7 e2.2
      · skip
        have r3 := r1; clear r1
        dsimp only [Sum.elim_inl, Sum.elim_inr] at r3
        try dsimp only [Sum.elim_inl, Sum.elim_inr, jt2, jt3, jt4, jt5, jt6, jt7, jt8] at r3
        obtain ⟨no2, md2⟩ := r3
        try simp (disch := omega) only [jst_eq, jst_ne, jst_ni, jI_i, jcmp_lt, jcmp_gt, w32_id, jcpy_out, Sum.elim_inl, Sum.elim_inr, jt2, jt3, jt4, jt5, jt6, jt7, jt8] at no2
        try simp (disch := omega) only [jst_eq, jst_ne, jst_ni, jI_i, jcmp_lt, jcmp_gt, w32_id, jcpy_out, Sum.elim_inl, Sum.elim_inr, jt2, jt3, jt4, jt5, jt6, jt7, jt8] at md2
        refine OK_jmr ?_
        refine OK_jlx (fun x80 ex80 => ?_)
        try simp (disch := omega) only [jst_eq, jst_ne, jst_ni, jI_i, jcmp_lt, jcmp_gt, w32_id, jcpy_out, Sum.elim_inl, Sum.elim_inr, jt2, jt3, jt4, jt5, jt6, jt7, jt8] at ex80
        refine OK_il ?_ ?_
        · try dsimp only [Sum.elim_inl, Sum.elim_inr, jt2, jt3, jt4, jt5, jt6, jt7, jt8]
          refine ⟨?_, ?_, ?_⟩
          · (first | assumption | omega | ((try dsimp only [jt2, jt3, jt4]); first | omega | (simp (disch := omega) only [jst_eq, jst_ne, jst_ni, jst_o, jI_i, jcpy_out, w32_id, jdiv_nn, jshr_k, jand_255] <;> first | done | omega | assumption)) | (intros; simp (disch := omega) only [jst_eq, jst_ne, jst_ni, jst_o, jI_i, jcpy_out, w32_id, jdiv_nn, *] <;> first | done | omega) | (intros; simp (disch := omega) only [jst_eq, jst_ne, jst_ni, jst_o, jI_i, jcpy_out, w32_id, jdiv_nn] at * <;> first | done | omega | assumption) | (intros; first | rfl | (exfalso; omega) | ((repeat' apply And.intro) <;> first | assumption | rfl | omega | trivial))) -- o8 e3i.1
          · (intro m f m0 m1 f0 f1 w; rw [ex80] at w; (try rw [w32_id (by omega) (by omega)] at w); by_cases y : (LV E W (kP K) (kA K) p).2.2.1 f = a3; { exact no2 m f m0 m1 f0 f1 y }; { exact q1 m f m0 m1 f0 f1 (by omega) }) -- o9 e3i.2
          · exact ⟨md2.1, fMv_t MM.2 md2.2⟩ -- o10 e3i.3
        · (first | assumption | omega | ((try dsimp only [jt2, jt3, jt4]); first | omega | (simp (disch := omega) only [jst_eq, jst_ne, jst_ni, jst_o, jI_i, jcpy_out, w32_id, jdiv_nn, jshr_k, jand_255] <;> first | done | omega | assumption)) | (intros; simp (disch := omega) only [jst_eq, jst_ne, jst_ni, jst_o, jI_i, jcpy_out, w32_id, jdiv_nn, *] <;> first | done | omega) | (intros; simp (disch := omega) only [jst_eq, jst_ne, jst_ni, jst_o, jI_i, jcpy_out, w32_id, jdiv_nn] at * <;> first | done | omega | assumption) | (intros; first | rfl | (exfalso; omega) | ((repeat' apply And.intro) <;> first | assumption | rfl | omega | trivial))) -- o11 e3m
  · try dsimp only [Sum.elim_inl, Sum.elim_inr, jt2, jt3, jt4, jt5, jt6, jt7, jt8]
    refine ⟨?_, ?_, ?_⟩
    · (first | assumption | omega | ((try dsimp only [jt2, jt3, jt4]); first | omega | (simp (disch := omega) only [jst_eq, jst_ne, jst_ni, jst_o, jI_i, jcpy_out, w32_id, jdiv_nn, jshr_k, jand_255] <;> first | done | omega | assumption)) | (intros; simp (disch := omega) only [jst_eq, jst_ne, jst_ni, jst_o, jI_i, jcpy_out, w32_id, jdiv_nn, *] <;> first | done | omega) | (intros; simp (disch := omega) only [jst_eq, jst_ne, jst_ni, jst_o, jI_i, jcpy_out, w32_id, jdiv_nn] at * <;> first | done | omega | assumption) | (intros; first | rfl | (exfalso; omega) | ((repeat' apply And.intro) <;> first | assumption | rfl | omega | trivial))) -- o12 init.1
    · (intro m f m0 m1 f0 f1 w; have GTp := md.2.1.2.2.2.2.2.2.1; have := (GTp.2.1 f f0 f1).1; omega) -- o13 init.2
    · exact ⟨md, fMv_r _⟩ -- o14 init.3

