/-! m: the i-th term of a price -/
theorem vX14_search_l6 {F : Int → Int → Int → Int → AH → Option (Int × AH)} (i1 : Int) (i2 : Int) (a50 : Int) (a70 : Int) {h0 : AH} {E : EV} {Rf : Int → TR} {W : Int → Int → Int → VW} {K : AK} {tp : Int} {p D : Nat} {T : TB} {w : Int → Int} {d i : Int} (mr : MR h0 E Rf W K tp p T ((p : Int) + 1)) (tq : tqM E W K p p) (q1 : 1 ≤ i1 ∧ i1 ≤ p) (rx : rowM h0 i2 w (LV E W (kP K) (kA K) p).1 ∧ wBd w) (i0 : 0 ≤ i ∧ i < 9223372036854775808) (z : a50 = i ∧ a70 = 0) : OK (gX14_search_l6 F i1 i2 a50 a70 h0) (Sum.elim (fun r => jt4 r fun y5 y6 y7 h' => ((0 ≤ y6 ∧ y6 < (kA K).1) ∧ i1 = 1 ∧ y7 = ixL (kP K) (kA K) (LV E W (kP K) (kA K) p) y6 ∧ sumN (hwC E W (kP K) (kA K) (LV E W (kP K) (kA K) p) (ct E W (kP K) (kA K)) w i1) y6.toNat ≤ i ∧ i < sumN (hwC E W (kP K) (kA K) (LV E W (kP K) (kA K) p) (ct E W (kP K) (kA K)) w i1) (y6 + 1).toNat ∧ y5 = i - sumN (hwC E W (kP K) (kA K) (LV E W (kP K) (kA K) p) (ct E W (kP K) (kA K)) w i1) y6.toNat) ∧ (MR h' E Rf W K tp p T ((p : Int) + 1)) ∧ (f754 h0 h')) (fun r => jt2 r fun v h' => (sumN (hwC E W (kP K) (kA K) (LV E W (kP K) (kA K) p) (ct E W (kP K) (kA K)) w i1) (kA K).1.toNat ≤ i ∧ v = i - sumN (hwC E W (kP K) (kA K) (LV E W (kP K) (kA K) p) (ct E W (kP K) (kA K)) w i1) (kA K).1.toNat) ∧ (MR h' E Rf W K tp p T ((p : Int) + 1)) ∧ (f754 h0 h'))) := by
  unfold gX14_search_l6
  refine OK_jit (I := (fun (s : Int × Int × AH) => jt3 s fun a5 a7 h => (0 ≤ a7 ∧ a7 ≤ (kA K).1) ∧ (sumN (hwC E W (kP K) (kA K) (LV E W (kP K) (kA K) p) (ct E W (kP K) (kA K)) w i1) a7.toNat ≤ i ∧ a5 = i - sumN (hwC E W (kP K) (kA K) (LV E W (kP K) (kA K) p) (ct E W (kP K) (kA K)) w i1) a7.toNat) ∧ (MR h E Rf W K tp p T ((p : Int) + 1)) ∧ (f754 h0 h))) (m := (fun (s : Int × Int × AH) => jt3 s fun a5 a7 h => ((kA K).1 - a7).toNat)) ?_ ?_
  · intro s hs
    obtain ⟨a5, a7, h⟩ := s
    dsimp only [Sum.elim_inl, Sum.elim_inr, jt2, jt3, jt4, jt5, jt6, jt7, jt8] at hs
    obtain ⟨q0, qs, ms, fr⟩ := hs
    unfold gX14_search_b6
    refine OK_jt3 ?_
    have a0 := akM_0 ms.1
    have pk := a0.2.1.1
    have x16 := a0.1.1
    have n12 := tq.1.1.1
    have A3 := tq.1.1.2.2.2.2.2
    have L120 := tq.2.2
    have RX := rowM_R rx.1 (f754_R fr)
    have RX1 := RX.2.1
    have w0 : ∀ f, 0 ≤ w f := fun f => (rx.2 f).1
    have w62 : w32 (a7 + 1) = a7 + 1 := w32_id (by omega) (by omega)
    have S0 : 0 ≤ sumN (hwC E W (kP K) (kA K) (LV E W (kP K) (kA K) p) (ct E W (kP K) (kA K)) w i1) a7.toNat := sumN_n (fun j _ => hwC_0 ct_0 w0 i1 j) _
    have e3 := pk.2.1
    refine OK_jg (by (first | assumption | omega | ((try dsimp only [jt2, jt3, jt4]); first | omega | (simp (disch := omega) only [jst_eq, jst_ne, jst_ni, jst_o, jI_i, jcpy_out, w32_id, jdiv_nn, jshr_k, jand_255] <;> first | done | omega | assumption)) | (intros; simp (disch := omega) only [jst_eq, jst_ne, jst_ni, jst_o, jI_i, jcpy_out, w32_id, jdiv_nn, *] <;> first | done | omega) | (intros; simp (disch := omega) only [jst_eq, jst_ne, jst_ni, jst_o, jI_i, jcpy_out, w32_id, jdiv_nn] at * <;> first | done | omega | assumption) | (intros; first | rfl | (exfalso; omega) | ((repeat' apply And.intro) <;> first | assumption | rfl | omega | trivial)))) ?_ -- o1
    refine OK_if (fun c1 => ?_) (fun c1 => ?_)
    · skip
      try simp (disch := omega) only [jst_eq, jst_ne, jst_ni, jI_i, jcmp_lt, jcmp_gt, w32_id, jcpy_out, Sum.elim_inl, Sum.elim_inr, jt2, jt3, jt4, jt5, jt6, jt7, jt8] at c1
      refine OK_ir ?_
      try dsimp only [Sum.elim_inl, Sum.elim_inr, jt2, jt3, jt4, jt5, jt6, jt7, jt8]
      refine ⟨?_, ?_, ?_⟩
      · (rw [show (kA K).1 = a7 by omega]; exact qs) -- o2 e1.1
      · exact ms -- o3 e1.2
      · exact fr -- o4 e1.3
    · skip
      try simp (disch := omega) only [jst_eq, jst_ne, jst_ni, jI_i, jcmp_lt, jcmp_gt, w32_id, jcpy_out, Sum.elim_inl, Sum.elim_inr, jt2, jt3, jt4, jt5, jt6, jt7, jt8] at c1
      have pr : prL (kA K) a7 = 1 := if_pos (by omega)
      have lf : iLf (kA K) a7 := Or.inl (by omega)
      have SS := sumN_s (g := hwC E W (kP K) (kA K) (LV E W (kP K) (kA K) p) (ct E W (kP K) (kA K)) w i1) q0.1
      refine OK_if (fun c2 => ?_) (fun c2 => ?_)
      · skip
        try simp (disch := omega) only [jst_eq, jst_ne, jst_ni, jI_i, jcmp_lt, jcmp_gt, w32_id, jcpy_out, Sum.elim_inl, Sum.elim_inr, jt2, jt3, jt4, jt5, jt6, jt7, jt8] at c2
        have HH := lf_has tq.1.1 q0.1 (by omega) lf (by omega)
        have IX := ixT_h HH
        have IXr : 0 ≤ ixL (kP K) (kA K) (LV E W (kP K) (kA K) p) a7 ∧ ixL (kP K) (kA K) (LV E W (kP K) (kA K) p) a7 < (LV E W (kP K) (kA K) p).1 := ⟨IX.1, IX.2.1⟩
        have HW1 : hwC E W (kP K) (kA K) (LV E W (kP K) (kA K) p) (ct E W (kP K) (kA K)) w i1 a7 = w (ixL (kP K) (kA K) (LV E W (kP K) (kA K) p) a7) := by { unfold hwC; rw [cif_y lf, cif_y (by omega)] }
        refine OK_jb2 (vX14_leafFunction (E := E) (Rf := Rf) (W := W) (K := K) (tp := tp) (p := p) (T := T) _ (by exact ms.1) (by exact ms.2.1) (by omega) (by exact HH)) (fun v58 h59 r1 => ?_)
        try dsimp only [Sum.elim_inl, Sum.elim_inr, jt2, jt3, jt4, jt5, jt6, jt7, jt8] at r1
        obtain ⟨lv1, fr1⟩ := r1
        try simp (disch := omega) only [jst_eq, jst_ne, jst_ni, jI_i, jcmp_lt, jcmp_gt, w32_id, jcpy_out, Sum.elim_inl, Sum.elim_inr, jt2, jt3, jt4, jt5, jt6, jt7, jt8] at lv1
        try simp (disch := omega) only [jst_eq, jst_ne, jst_ni, jI_i, jcmp_lt, jcmp_gt, w32_id, jcpy_out, Sum.elim_inl, Sum.elim_inr, jt2, jt3, jt4, jt5, jt6, jt7, jt8] at fr1
        have M2 := MR_R ms (by omega) (f754_R fr1) (cM_f ms.2.2.1 (fun a s y => fr1 a s (by omega))) (by unfold b20; rw [fr1 _ _ (by omega)]; exact ms.1.2.2)
        have V5 : v58 = ixL (kP K) (kA K) (LV E W (kP K) (kA K) p) a7 := lv1
        have RX2 := rowM_R RX (f754_R fr1)
        have RX3 := RX2.2.1
        have W5 : h59 i2 v58 = w (ixL (kP K) (kA K) (LV E W (kP K) (kA K) p) a7) := by { rw [V5]; exact RX2.2.2 _ IXr.1 IXr.2 }
        have WB : 0 ≤ w (ixL (kP K) (kA K) (LV E W (kP K) (kA K) p) a7) ∧ w (ixL (kP K) (kA K) (LV E W (kP K) (kA K) p) a7) < 9223372036854775808 := ⟨(rx.2 _).1, (rx.2 _).2 IXr.1⟩
        rw [W5]
        refine OK_jg (by (first | assumption | omega | ((try dsimp only [jt2, jt3, jt4]); first | omega | (simp (disch := omega) only [jst_eq, jst_ne, jst_ni, jst_o, jI_i, jcpy_out, w32_id, jdiv_nn, jshr_k, jand_255] <;> first | done | omega | assumption)) | (intros; simp (disch := omega) only [jst_eq, jst_ne, jst_ni, jst_o, jI_i, jcpy_out, w32_id, jdiv_nn, *] <;> first | done | omega) | (intros; simp (disch := omega) only [jst_eq, jst_ne, jst_ni, jst_o, jI_i, jcpy_out, w32_id, jdiv_nn] at * <;> first | done | omega | assumption) | (intros; first | rfl | (exfalso; omega) | ((repeat' apply And.intro) <;> first | assumption | rfl | omega | trivial)))) ?_ -- o9
        refine OK_if (fun c3 => ?_) (fun c3 => ?_)
        · skip
          try simp (disch := omega) only [jst_eq, jst_ne, jst_ni, jI_i, jcmp_lt, jcmp_gt, w32_id, jcpy_out, Sum.elim_inl, Sum.elim_inr, jt2, jt3, jt4, jt5, jt6, jt7, jt8] at c3
          have c3w : w (ixL (kP K) (kA K) (LV E W (kP K) (kA K) p) a7) ≤ a5 := by first | exact c3 | exact jcmp_ge.1 c3
          refine OK_jlx (fun x61 ex61 => ?_)
          try simp (disch := omega) only [jst_eq, jst_ne, jst_ni, jI_i, jcmp_lt, jcmp_gt, w32_id, jcpy_out, Sum.elim_inl, Sum.elim_inr, jt2, jt3, jt4, jt5, jt6, jt7, jt8] at ex61
          refine OK_jlx (fun x62 ex62 => ?_)
          try simp (disch := omega) only [jst_eq, jst_ne, jst_ni, jI_i, jcmp_lt, jcmp_gt, w32_id, jcpy_out, Sum.elim_inl, Sum.elim_inr, jt2, jt3, jt4, jt5, jt6, jt7, jt8] at ex62
          refine OK_il ?_ ?_
          · try dsimp only [Sum.elim_inl, Sum.elim_inr, jt2, jt3, jt4, jt5, jt6, jt7, jt8]
            refine ⟨?_, ?_, ?_, ?_⟩
            · omega -- o10 e2i.1
            · (have e61 : x61 = a5 - w (ixL (kP K) (kA K) (LV E W (kP K) (kA K) p) a7) := (by first | omega | (rw [ex61]; exact w64_id (by omega) (by omega))); rw [show x62 = a7 + 1 by omega, SS, HW1]; omega) -- o11 e2i.2
            · exact M2 -- o12 e2i.3
            · exact fun a s y => (fr1 a s y).trans (fr a s y) -- o13 e2i.4
          · (first | assumption | omega | ((try dsimp only [jt2, jt3, jt4]); first | omega | (simp (disch := omega) only [jst_eq, jst_ne, jst_ni, jst_o, jI_i, jcpy_out, w32_id, jdiv_nn, jshr_k, jand_255] <;> first | done | omega | assumption)) | (intros; simp (disch := omega) only [jst_eq, jst_ne, jst_ni, jst_o, jI_i, jcpy_out, w32_id, jdiv_nn, *] <;> first | done | omega) | (intros; simp (disch := omega) only [jst_eq, jst_ne, jst_ni, jst_o, jI_i, jcpy_out, w32_id, jdiv_nn] at * <;> first | done | omega | assumption) | (intros; first | rfl | (exfalso; omega) | ((repeat' apply And.intro) <;> first | assumption | rfl | omega | trivial))) -- o14 e2m
        · skip
          try simp (disch := omega) only [jst_eq, jst_ne, jst_ni, jI_i, jcmp_lt, jcmp_gt, w32_id, jcpy_out, Sum.elim_inl, Sum.elim_inr, jt2, jt3, jt4, jt5, jt6, jt7, jt8] at c3
          have c3w : ¬ w (ixL (kP K) (kA K) (LV E W (kP K) (kA K) p) a7) ≤ a5 := by first | exact c3 | exact fun y => c3 (jcmp_ge.2 y)
          refine OK_ir ?_
          try dsimp only [Sum.elim_inl, Sum.elim_inr, jt2, jt3, jt4, jt5, jt6, jt7, jt8]
          refine ⟨?_, ?_, ?_⟩
          · exact ⟨⟨q0.1, by omega⟩, by omega, V5, qs.1, by (rw [SS, HW1]; omega), qs.2⟩ -- o15 e3.1
          · exact M2 -- o16 e3.2
          · exact fun a s y => (fr1 a s y).trans (fr a s y) -- o17 e3.3
      · skip
        try simp (disch := omega) only [jst_eq, jst_ne, jst_ni, jI_i, jcmp_lt, jcmp_gt, w32_id, jcpy_out, Sum.elim_inl, Sum.elim_inr, jt2, jt3, jt4, jt5, jt6, jt7, jt8] at c2
        refine OK_ir ?_
        try dsimp only [Sum.elim_inl, Sum.elim_inr, jt2, jt3, jt4, jt5, jt6, jt7, jt8]
        refine ⟨?_, ?_, ?_⟩
        · (have ez : sumN (hwC E W (kP K) (kA K) (LV E W (kP K) (kA K) p) (ct E W (kP K) (kA K)) w i1) (kA K).1.toNat = sumN (hwC E W (kP K) (kA K) (LV E W (kP K) (kA K) p) (ct E W (kP K) (kA K)) w i1) a7.toNat := sumN_ex (fun j a b => by omega) (fun j a b => by (have l2 : iLf (kA K) j := Or.inl (by omega); have p2 : prL (kA K) j = 1 := if_pos (by omega); unfold hwC; rw [cif_y l2, cif_n (by omega)])); rw [ez]; exact qs) -- o18 e4.1
        · exact ms -- o19 e4.2
        · exact fr -- o20 e4.3
  · try dsimp only [Sum.elim_inl, Sum.elim_inr, jt2, jt3, jt4, jt5, jt6, jt7, jt8]
    refine ⟨?_, ?_, ?_, ?_⟩
    · (have A3 := tq.1.1.2.2.2.2.2; omega) -- o21 init.1
    · (rw [z.1, z.2]; show (0 : Int) ≤ i ∧ i = i - 0; omega) -- o22 init.2
    · exact mr -- o23 init.3
    · exact fun _ _ _ => rfl -- o24 init.4
/-- m's piece, or act: passed by, or found -/
theorem vX14_search_j202_99 {F : Int → Int → Int → Int → AH → Option (Int × AH)} (a1 : Int) (a2 : Int) (a5 : Int) (a7 : Int) {h : AH} {E : EV} {Rf : Int → TR} {W : Int → Int → Int → VW} {K : AK} {tp : Int} {p D : Nat} {T : TB} {w : Int → Int} {d i : Int} (mr : MR h E Rf W K tp p T ((p : Int) + 1)) (tq : tqM E W K p p) (q1 : 1 ≤ a1 ∧ a1 ≤ p) (rx : rowM h a2 w (LV E W (kP K) (kA K) p).1 ∧ wBd w) (k : 0 ≤ a7 ∧ a7 < (kA K).2.2.2.1) (pos : 0 ≤ a5 ∧ a5 < 9223372036854775808) (hb : 0 ≤ hwC E W (kP K) (kA K) (LV E W (kP K) (kA K) p) (ct E W (kP K) (kA K)) w a1 ((kA K).1 + a7) ∧ hwC E W (kP K) (kA K) (LV E W (kP K) (kA K) p) (ct E W (kP K) (kA K)) w a1 ((kA K).1 + a7) < 9223372036854775808) : OK (gX14_search_j202_99 F a1 a2 a5 a7 h) (Sum.elim (fun r => jt3 r fun x y h' => (y = a7 + 1 ∧ ((iLf (kA K) ((kA K).1 + a7) ∧ x = a5) ∨ (¬ iLf (kA K) ((kA K).1 + a7) ∧ hwC E W (kP K) (kA K) (LV E W (kP K) (kA K) p) (ct E W (kP K) (kA K)) w a1 ((kA K).1 + a7) ≤ a5 ∧ x = a5 - hwC E W (kP K) (kA K) (LV E W (kP K) (kA K) p) (ct E W (kP K) (kA K)) w a1 ((kA K).1 + a7)))) ∧ (MR h' E Rf W K tp p T ((p : Int) + 1)) ∧ (fR h h')) (Sum.elim (fun r => jt4 r fun x y z h' => (0 : Int) = 1) (Sum.elim (fun r => jt3 r fun x y h' => ((x = a5 ∧ y = a7) ∧ ¬ iLf (kA K) ((kA K).1 + a7) ∧ prL (kA K) ((kA K).1 + a7) < a1 ∧ a5 < hwC E W (kP K) (kA K) (LV E W (kP K) (kA K) p) (ct E W (kP K) (kA K)) w a1 ((kA K).1 + a7)) ∧ (MR h' E Rf W K tp p T ((p : Int) + 1)) ∧ (fR h h')) (fun h' => (0 : Int) = 1)))) := by
  have a0 := akM_0 mr.1
  have pc := a0.2.1.2.2.1
  have np12 := pc.2.2.1
  have PC := pc.2.2.2 a7 k.1 k.2
  have x16 := a0.1.1
  have n12 := tq.1.1.1
  have A3 := tq.1.1.2.2.2.2.2
  have pp := (tq.1.1.2.2.2.1.2.2 a7 k.1 k.2).1
  have wx : w32 (a7 + 1) = a7 + 1 := w32_id (by omega) (by omega)
  have wq : w32 (a1 - h (h 454 38 + 4) a7) = a1 - (kA K).2.2.2.2.2.2.2 a7 := by { rw [w32_id (by omega) (by omega)]; omega }
  have pe : prL (kA K) ((kA K).1 + a7) = (kA K).2.2.2.2.2.2.2 a7 := by { unfold prL; rw [if_neg (by omega), show (kA K).1 + a7 - (kA K).1 = a7 by omega] }
  have ae : (kA K).2.2.2.2.1 ((kA K).1 + a7 - (kA K).1) = (kA K).2.2.2.2.1 a7 := by { rw [show (kA K).1 + a7 - (kA K).1 = a7 by omega] }
  unfold gX14_search_j202_99
  refine OK_jg (by (first | assumption | omega | ((try dsimp only [jt2, jt3, jt4]); first | omega | (simp (disch := omega) only [jst_eq, jst_ne, jst_ni, jst_o, jI_i, jcpy_out, w32_id, jdiv_nn, jshr_k, jand_255] <;> first | done | omega | assumption)) | (intros; simp (disch := omega) only [jst_eq, jst_ne, jst_ni, jst_o, jI_i, jcpy_out, w32_id, jdiv_nn, *] <;> first | done | omega) | (intros; simp (disch := omega) only [jst_eq, jst_ne, jst_ni, jst_o, jI_i, jcpy_out, w32_id, jdiv_nn] at * <;> first | done | omega | assumption) | (intros; first | rfl | (exfalso; omega) | ((repeat' apply And.intro) <;> first | assumption | rfl | omega | trivial)))) ?_ -- o1
  refine OK_jg (by (first | assumption | omega | ((try dsimp only [jt2, jt3, jt4]); first | omega | (simp (disch := omega) only [jst_eq, jst_ne, jst_ni, jst_o, jI_i, jcpy_out, w32_id, jdiv_nn, jshr_k, jand_255] <;> first | done | omega | assumption)) | (intros; simp (disch := omega) only [jst_eq, jst_ne, jst_ni, jst_o, jI_i, jcpy_out, w32_id, jdiv_nn, *] <;> first | done | omega) | (intros; simp (disch := omega) only [jst_eq, jst_ne, jst_ni, jst_o, jI_i, jcpy_out, w32_id, jdiv_nn] at * <;> first | done | omega | assumption) | (intros; first | rfl | (exfalso; omega) | ((repeat' apply And.intro) <;> first | assumption | rfl | omega | trivial)))) ?_ -- o2
  refine OK_if (fun c1 => ?_) (fun c1 => ?_)
  · skip
    try simp (disch := omega) only [jst_eq, jst_ne, jst_ni, jI_i, jcmp_lt, jcmp_gt, w32_id, jcpy_out, Sum.elim_inl, Sum.elim_inr, jt2, jt3, jt4, jt5, jt6, jt7, jt8] at c1
    have LF : iLf (kA K) ((kA K).1 + a7) := Or.inr (by rw [ae]; rcases PC.2.2 with r | r; { exact r.1 }; { omega })
    unfold gX14_search_j283_99
    refine OK_jlx (fun x54 ex54 => ?_)
    try simp (disch := omega) only [jst_eq, jst_ne, jst_ni, jI_i, jcmp_lt, jcmp_gt, w32_id, jcpy_out, Sum.elim_inl, Sum.elim_inr, jt2, jt3, jt4, jt5, jt6, jt7, jt8] at ex54
    refine OK_some ?_
    try dsimp only [Sum.elim_inl, Sum.elim_inr, jt2, jt3, jt4, jt5, jt6, jt7, jt8]
    try dsimp only [Sum.elim_inl, Sum.elim_inr, jt2, jt3, jt4, jt5, jt6, jt7, jt8]
    refine ⟨?_, ?_, ?_⟩
    · exact ⟨by omega, Or.inl ⟨LF, rfl⟩⟩ -- o3 e1.1
    · exact mr -- o4 e1.2
    · exact fun _ _ _ _ _ => rfl -- o5 e1.3
  · skip
    try simp (disch := omega) only [jst_eq, jst_ne, jst_ni, jI_i, jcmp_lt, jcmp_gt, w32_id, jcpy_out, Sum.elim_inl, Sum.elim_inr, jt2, jt3, jt4, jt5, jt6, jt7, jt8] at c1
    have an : 0 ≤ (kA K).2.2.2.2.1 a7 := by omega
    have nl : ¬ iLf (kA K) ((kA K).1 + a7) := fun y => by (rcases y with y | y; { omega }; { rw [ae] at y; omega })
    have HA := hd_ac tq.1 (h := (kA K).1 + a7) (by omega) (by omega) nl
    rw [ae, show (kA K).1 + a7 - (kA K).1 = a7 by omega] at HA
    refine OK_if (fun c2 => ?_) (fun c2 => ?_)
    · skip
      try simp (disch := omega) only [jst_eq, jst_ne, jst_ni, jI_i, jcmp_lt, jcmp_gt, w32_id, jcpy_out, Sum.elim_inl, Sum.elim_inr, jt2, jt3, jt4, jt5, jt6, jt7, jt8] at c2
      have HW1 : hwC E W (kP K) (kA K) (LV E W (kP K) (kA K) p) (ct E W (kP K) (kA K)) w a1 ((kA K).1 + a7) = rsW E W (kP K) (LV E W (kP K) (kA K) p) (ct E W (kP K) (kA K)) ((kA K).2.2.2.2.1 a7) w (eO E ((kA K).2.2.2.2.1 a7)).toNat 0 (a1 - (kA K).2.2.2.2.2.2.2 a7) s0T := by { unfold hwC; rw [cif_n nl, cif_y (by omega), ae, pe] }
      refine OK_jb2 (vX14_rest (E := E) (Rf := Rf) (W := W) (K := K) (tp := tp) (p := p) (T := T) (w := w) (sg := s0T) (used := 0) (ac := (kA K).2.2.2.2.1 a7) _ _ _ _ _ _ _ (by exact mr) (by exact tq) (by exact HA.1) (by exact ⟨opS_0 _, rfl, rfl, rfl⟩) (by (have oo := tq.1.1.2.2.2.2.1.2.2.1 _ HA.1.2.2.1 HA.1.2.2.2; omega)) (by exact rx.1) (by exact rx.2)) (fun v50 h51 r1 => ?_)
      try dsimp only [Sum.elim_inl, Sum.elim_inr, jt2, jt3, jt4, jt5, jt6, jt7, jt8] at r1
      obtain ⟨vv1, mr1, fs1⟩ := r1
      try simp (disch := omega) only [jst_eq, jst_ne, jst_ni, jI_i, jcmp_lt, jcmp_gt, w32_id, jcpy_out, Sum.elim_inl, Sum.elim_inr, jt2, jt3, jt4, jt5, jt6, jt7, jt8] at vv1
      try simp (disch := omega) only [jst_eq, jst_ne, jst_ni, jI_i, jcmp_lt, jcmp_gt, w32_id, jcpy_out, Sum.elim_inl, Sum.elim_inr, jt2, jt3, jt4, jt5, jt6, jt7, jt8] at mr1
      try simp (disch := omega) only [jst_eq, jst_ne, jst_ni, jI_i, jcmp_lt, jcmp_gt, w32_id, jcpy_out, Sum.elim_inl, Sum.elim_inr, jt2, jt3, jt4, jt5, jt6, jt7, jt8] at fs1
      try rw [wq] at vv1
      try rw [PC.2.1] at vv1
      rw [show eO E ((kA K).2.2.2.2.1 a7) - 0 = eO E ((kA K).2.2.2.2.1 a7) by omega, ← HW1, w64_id (by omega) (by omega)] at vv1
      have VV : v50 = hwC E W (kP K) (kA K) (LV E W (kP K) (kA K) p) (ct E W (kP K) (kA K)) w a1 ((kA K).1 + a7) := vv1
      rw [VV]
      refine OK_if (fun c3 => ?_) (fun c3 => ?_)
      · skip
        try simp (disch := omega) only [jst_eq, jst_ne, jst_ni, jI_i, jcmp_lt, jcmp_gt, w32_id, jcpy_out, Sum.elim_inl, Sum.elim_inr, jt2, jt3, jt4, jt5, jt6, jt7, jt8] at c3
        have c3w : hwC E W (kP K) (kA K) (LV E W (kP K) (kA K) p) (ct E W (kP K) (kA K)) w a1 ((kA K).1 + a7) ≤ a5 := by first | exact c3 | exact jcmp_ge.1 c3
        refine OK_jlx (fun x53 ex53 => ?_)
        try simp (disch := omega) only [jst_eq, jst_ne, jst_ni, jI_i, jcmp_lt, jcmp_gt, w32_id, jcpy_out, Sum.elim_inl, Sum.elim_inr, jt2, jt3, jt4, jt5, jt6, jt7, jt8] at ex53
        unfold gX14_search_j283_99
        refine OK_jlx (fun x54 ex54 => ?_)
        try simp (disch := omega) only [jst_eq, jst_ne, jst_ni, jI_i, jcmp_lt, jcmp_gt, w32_id, jcpy_out, Sum.elim_inl, Sum.elim_inr, jt2, jt3, jt4, jt5, jt6, jt7, jt8] at ex54
        refine OK_some ?_
        try dsimp only [Sum.elim_inl, Sum.elim_inr, jt2, jt3, jt4, jt5, jt6, jt7, jt8]
        try dsimp only [Sum.elim_inl, Sum.elim_inr, jt2, jt3, jt4, jt5, jt6, jt7, jt8]
        refine ⟨?_, ?_, ?_⟩
        · (refine ⟨by omega, Or.inr ⟨nl, c3w, ?_⟩⟩; first | omega | (rw [ex53]; exact w64_id (by omega) (by omega))) -- o13 e2.1
        · exact mr1 -- o14 e2.2
        · exact fs1 -- o15 e2.3
      · skip
        try simp (disch := omega) only [jst_eq, jst_ne, jst_ni, jI_i, jcmp_lt, jcmp_gt, w32_id, jcpy_out, Sum.elim_inl, Sum.elim_inr, jt2, jt3, jt4, jt5, jt6, jt7, jt8] at c3
        have c3w : ¬ hwC E W (kP K) (kA K) (LV E W (kP K) (kA K) p) (ct E W (kP K) (kA K)) w a1 ((kA K).1 + a7) ≤ a5 := by first | exact c3 | exact fun y => c3 (jcmp_ge.2 y)
        refine OK_some ?_
        try dsimp only [Sum.elim_inl, Sum.elim_inr, jt2, jt3, jt4, jt5, jt6, jt7, jt8]
        try dsimp only [Sum.elim_inl, Sum.elim_inr, jt2, jt3, jt4, jt5, jt6, jt7, jt8]
        refine ⟨?_, ?_, ?_⟩
        · exact ⟨⟨rfl, rfl⟩, nl, by omega, by omega⟩ -- o16 e3.1
        · exact mr1 -- o17 e3.2
        · exact fs1 -- o18 e3.3
    · skip
      try simp (disch := omega) only [jst_eq, jst_ne, jst_ni, jI_i, jcmp_lt, jcmp_gt, w32_id, jcpy_out, Sum.elim_inl, Sum.elim_inr, jt2, jt3, jt4, jt5, jt6, jt7, jt8] at c2
      have HW0 : hwC E W (kP K) (kA K) (LV E W (kP K) (kA K) p) (ct E W (kP K) (kA K)) w a1 ((kA K).1 + a7) = 0 := by { unfold hwC; rw [cif_n nl, cif_n (by omega)] }
      unfold gX14_search_j283_99
      refine OK_jlx (fun x54 ex54 => ?_)
      try simp (disch := omega) only [jst_eq, jst_ne, jst_ni, jI_i, jcmp_lt, jcmp_gt, w32_id, jcpy_out, Sum.elim_inl, Sum.elim_inr, jt2, jt3, jt4, jt5, jt6, jt7, jt8] at ex54
      refine OK_some ?_
      try dsimp only [Sum.elim_inl, Sum.elim_inr, jt2, jt3, jt4, jt5, jt6, jt7, jt8]
      try dsimp only [Sum.elim_inl, Sum.elim_inr, jt2, jt3, jt4, jt5, jt6, jt7, jt8]
      refine ⟨?_, ?_, ?_⟩
      · exact ⟨by omega, Or.inr ⟨nl, by (rw [HW0]; omega), by (rw [HW0]; omega)⟩⟩ -- o19 e4.1
      · exact mr -- o20 e4.2
      · exact fun _ _ _ _ _ => rfl -- o21 e4.3
theorem vX14_search_l99 {F : Int → Int → Int → Int → AH → Option (Int × AH)} (i1 : Int) (i2 : Int) (a50 : Int) (a70 : Int) {h0 : AH} {E : EV} {Rf : Int → TR} {W : Int → Int → Int → VW} {K : AK} {tp : Int} {p D : Nat} {T : TB} {w : Int → Int} {d i : Int} (mr : MR h0 E Rf W K tp p T ((p : Int) + 1)) (tq : tqM E W K p p) (q1 : 1 ≤ i1 ∧ i1 ≤ p) (rx : rowM h0 i2 w (LV E W (kP K) (kA K) p).1 ∧ wBd w) (tb : 0 ≤ i ∧ i < twC E W (kP K) (kA K) (LV E W (kP K) (kA K) p) w i1 ∧ twC E W (kP K) (kA K) (LV E W (kP K) (kA K) p) w i1 < 9223372036854775808) (st : sumN (hwC E W (kP K) (kA K) (LV E W (kP K) (kA K) p) (ct E W (kP K) (kA K)) w i1) (kA K).1.toNat ≤ i ∧ a50 = i - sumN (hwC E W (kP K) (kA K) (LV E W (kP K) (kA K) p) (ct E W (kP K) (kA K)) w i1) (kA K).1.toNat) (z : a70 = 0) : OK (gX14_search_l99 F i1 i2 a50 a70 h0) (Sum.elim (fun r => jt4 r fun y5 y6 y7 h' => ((0 ≤ y6 ∧ y6 < (kA K).2.2.2.1) ∧ (kA K).2.2.2.2.1 y6 = -1 ∧ prL (kA K) ((kA K).1 + y6) = i1 ∧ y7 = ixL (kP K) (kA K) (LV E W (kP K) (kA K) p) ((kA K).1 + y6) ∧ sumN (hwC E W (kP K) (kA K) (LV E W (kP K) (kA K) p) (ct E W (kP K) (kA K)) w i1) ((kA K).1 + y6).toNat ≤ i ∧ i < sumN (hwC E W (kP K) (kA K) (LV E W (kP K) (kA K) p) (ct E W (kP K) (kA K)) w i1) ((kA K).1 + y6 + 1).toNat ∧ y5 = i - sumN (hwC E W (kP K) (kA K) (LV E W (kP K) (kA K) p) (ct E W (kP K) (kA K)) w i1) ((kA K).1 + y6).toNat) ∧ (MR h' E Rf W K tp p T ((p : Int) + 1)) ∧ (fR h0 h')) (Sum.elim (fun r => jt3 r fun y5 y6 h' => ((0 ≤ y6 ∧ y6 < (kA K).2.2.2.1) ∧ ¬ iLf (kA K) ((kA K).1 + y6) ∧ prL (kA K) ((kA K).1 + y6) < i1 ∧ sumN (hwC E W (kP K) (kA K) (LV E W (kP K) (kA K) p) (ct E W (kP K) (kA K)) w i1) ((kA K).1 + y6).toNat ≤ i ∧ i < sumN (hwC E W (kP K) (kA K) (LV E W (kP K) (kA K) p) (ct E W (kP K) (kA K)) w i1) ((kA K).1 + y6 + 1).toNat ∧ y5 = i - sumN (hwC E W (kP K) (kA K) (LV E W (kP K) (kA K) p) (ct E W (kP K) (kA K)) w i1) ((kA K).1 + y6).toNat) ∧ (MR h' E Rf W K tp p T ((p : Int) + 1)) ∧ (fR h0 h')) (fun h' => (0 : Int) = 1))) := by
  unfold gX14_search_l99
  refine OK_jit (I := (fun (s : Int × Int × AH) => jt3 s fun a5 a7 h => (0 ≤ a7 ∧ a7 ≤ (kA K).2.2.2.1) ∧ (sumN (hwC E W (kP K) (kA K) (LV E W (kP K) (kA K) p) (ct E W (kP K) (kA K)) w i1) ((kA K).1 + a7).toNat ≤ i ∧ a5 = i - sumN (hwC E W (kP K) (kA K) (LV E W (kP K) (kA K) p) (ct E W (kP K) (kA K)) w i1) ((kA K).1 + a7).toNat) ∧ (MR h E Rf W K tp p T ((p : Int) + 1)) ∧ (fR h0 h))) (m := (fun (s : Int × Int × AH) => jt3 s fun a5 a7 h => ((kA K).2.2.2.1 - a7).toNat)) ?_ ?_
  · intro s hs
    obtain ⟨a5, a7, h⟩ := s
    dsimp only [Sum.elim_inl, Sum.elim_inr, jt2, jt3, jt4, jt5, jt6, jt7, jt8] at hs
    obtain ⟨q0, qs, ms, fr⟩ := hs
    unfold gX14_search_b99
    refine OK_jt3 ?_
    have a0 := akM_0 ms.1
    have pc := a0.2.1.2.2.1
    have pc1 := pc.1
    have pc0 := pc.2.1
    have np12 := pc.2.2.1
    have x16 := a0.1.1
    have n12 := tq.1.1.1
    have A3 := tq.1.1.2.2.2.2.2
    have L120 := tq.2.2
    have RX := rowM_R rx.1 fr
    have RX1 := RX.2.1
    have w0 : ∀ f, 0 ≤ w f := fun f => (rx.2 f).1
    have WT := (⟨tq.1.1.2.2.2.2.1, wOK_ty a0.1.2.2.1⟩ : acE E ∧ wTy E W)
    have S0 : 0 ≤ sumN (hwC E W (kP K) (kA K) (LV E W (kP K) (kA K) p) (ct E W (kP K) (kA K)) w i1) ((kA K).1 + a7).toNat := sumN_n (fun j _ => hwC_0 ct_0 w0 i1 j) _
    refine OK_jg (by (first | assumption | omega | ((try dsimp only [jt2, jt3, jt4]); first | omega | (simp (disch := omega) only [jst_eq, jst_ne, jst_ni, jst_o, jI_i, jcpy_out, w32_id, jdiv_nn, jshr_k, jand_255] <;> first | done | omega | assumption)) | (intros; simp (disch := omega) only [jst_eq, jst_ne, jst_ni, jst_o, jI_i, jcpy_out, w32_id, jdiv_nn, *] <;> first | done | omega) | (intros; simp (disch := omega) only [jst_eq, jst_ne, jst_ni, jst_o, jI_i, jcpy_out, w32_id, jdiv_nn] at * <;> first | done | omega | assumption) | (intros; first | rfl | (exfalso; omega) | ((repeat' apply And.intro) <;> first | assumption | rfl | omega | trivial)))) ?_ -- o1
    refine OK_if (fun c1 => ?_) (fun c1 => ?_)
    · skip
      try simp (disch := omega) only [jst_eq, jst_ne, jst_ni, jI_i, jcmp_lt, jcmp_gt, w32_id, jcpy_out, Sum.elim_inl, Sum.elim_inr, jt2, jt3, jt4, jt5, jt6, jt7, jt8] at c1
      have TE : twC E W (kP K) (kA K) (LV E W (kP K) (kA K) p) w i1 = sumN (hwC E W (kP K) (kA K) (LV E W (kP K) (kA K) p) (ct E W (kP K) (kA K)) w i1) ((kA K).1 + a7).toNat := by { have e := tw_h (w := w) (TQ_le tq.1 WT (m := i1.toNat) (by omega) (by omega)) tq.2.1; rw [show ((i1.toNat : Nat) : Int) = i1 by omega, show ((kA K).1 + (kA K).2.2.2.1).toNat = ((kA K).1 + a7).toNat by omega] at e; exact e }
      refine OK_ir ?_
      (have t1 := tb.2.1; rw [TE] at t1; omega) -- o2 e1
    · skip
      try simp (disch := omega) only [jst_eq, jst_ne, jst_ni, jI_i, jcmp_lt, jcmp_gt, w32_id, jcpy_out, Sum.elim_inl, Sum.elim_inr, jt2, jt3, jt4, jt5, jt6, jt7, jt8] at c1
      have PC := pc.2.2.2 a7 q0.1 (by omega)
      have HT := hw_tw (w := w) (h := (kA K).1 + a7) tq.1 WT tq.2.1 q1 w0 (by omega) (by omega)
      have H0 := hwC_0 (E := E) (W := W) (pts := kP K) (A := kA K) (L := (LV E W (kP K) (kA K) p)) (c := (ct E W (kP K) (kA K))) ct_0 w0 i1 ((kA K).1 + a7)
      have SS := sumN_s (g := hwC E W (kP K) (kA K) (LV E W (kP K) (kA K) p) (ct E W (kP K) (kA K)) w i1) (a := (kA K).1 + a7) (by omega)
      have pe : prL (kA K) ((kA K).1 + a7) = (kA K).2.2.2.2.2.2.2 a7 := by { unfold prL; rw [if_neg (by omega), show (kA K).1 + a7 - (kA K).1 = a7 by omega] }
      have ae : (kA K).2.2.2.2.1 ((kA K).1 + a7 - (kA K).1) = (kA K).2.2.2.2.1 a7 := by { rw [show (kA K).1 + a7 - (kA K).1 = a7 by omega] }
      refine OK_jg (by (first | assumption | omega | ((try dsimp only [jt2, jt3, jt4]); first | omega | (simp (disch := omega) only [jst_eq, jst_ne, jst_ni, jst_o, jI_i, jcpy_out, w32_id, jdiv_nn, jshr_k, jand_255] <;> first | done | omega | assumption)) | (intros; simp (disch := omega) only [jst_eq, jst_ne, jst_ni, jst_o, jI_i, jcpy_out, w32_id, jdiv_nn, *] <;> first | done | omega) | (intros; simp (disch := omega) only [jst_eq, jst_ne, jst_ni, jst_o, jI_i, jcpy_out, w32_id, jdiv_nn] at * <;> first | done | omega | assumption) | (intros; first | rfl | (exfalso; omega) | ((repeat' apply And.intro) <;> first | assumption | rfl | omega | trivial)))) ?_ -- o3
      refine OK_if (fun c2 => ?_) (fun c2 => ?_)
      · skip
        try simp (disch := omega) only [jst_eq, jst_ne, jst_ni, jI_i, jcmp_lt, jcmp_gt, w32_id, jcpy_out, Sum.elim_inl, Sum.elim_inr, jt2, jt3, jt4, jt5, jt6, jt7, jt8] at c2
        have NL : ¬ iLf (kA K) ((kA K).1 + a7) := fun y => by (rcases y with y | y; { omega }; { rw [ae] at y; rcases PC.2.2 with r | r; { omega }; { omega } })
        refine OK_mono (vX14_search_j202_99 (E := E) (Rf := Rf) (W := W) (K := K) (tp := tp) (p := p) (T := T) (w := w) (D := D) (d := d) (i := i) _ _ _ _ (by exact ms) (by exact tq) (by exact q1) (by exact ⟨RX, rx.2⟩) (by exact ⟨q0.1, by omega⟩) (by omega) (by exact ⟨H0, by omega⟩)) (fun r r1 => ?_)
        rcases r with r | r
        · skip
          have r2 := r1; clear r1; dsimp only [Sum.elim_inl, Sum.elim_inr] at r2
          obtain ⟨y1, y2, y3⟩ := r
          try dsimp only [Sum.elim_inl, Sum.elim_inr, jt2, jt3, jt4, jt5, jt6, jt7, jt8] at r2
          obtain ⟨nx1, mr1, fs1⟩ := r2
          try simp (disch := omega) only [jst_eq, jst_ne, jst_ni, jI_i, jcmp_lt, jcmp_gt, w32_id, jcpy_out, Sum.elim_inl, Sum.elim_inr, jt2, jt3, jt4, jt5, jt6, jt7, jt8] at nx1
          try simp (disch := omega) only [jst_eq, jst_ne, jst_ni, jI_i, jcmp_lt, jcmp_gt, w32_id, jcpy_out, Sum.elim_inl, Sum.elim_inr, jt2, jt3, jt4, jt5, jt6, jt7, jt8] at mr1
          try simp (disch := omega) only [jst_eq, jst_ne, jst_ni, jI_i, jcmp_lt, jcmp_gt, w32_id, jcpy_out, Sum.elim_inl, Sum.elim_inr, jt2, jt3, jt4, jt5, jt6, jt7, jt8] at fs1
          try dsimp only [Sum.elim_inl, Sum.elim_inr, jt2, jt3, jt4, jt5, jt6, jt7, jt8]
          refine ⟨?_, ?_⟩
          · try dsimp only [Sum.elim_inl, Sum.elim_inr, jt2, jt3, jt4, jt5, jt6, jt7, jt8]
            refine ⟨?_, ?_, ?_, ?_⟩
            · (rw [nx1.1]; omega) -- o11 e2i.1
            · (rw [nx1.1, show (kA K).1 + (a7 + 1) = (kA K).1 + a7 + 1 by omega, SS]; rcases nx1.2 with u | u; { exact absurd u.1 NL }; { have u1 := u.2; omega }) -- o12 e2i.2
            · exact mr1 -- o13 e2i.3
            · exact fR_t fr fs1 -- o14 e2i.4
          · (rw [nx1.1]; omega) -- o15 e2m
        · skip
          have r3 := r1; clear r1; dsimp only [Sum.elim_inl, Sum.elim_inr] at r3
          rcases r with r | r
          · skip
            have r4 := r3; clear r3; dsimp only [Sum.elim_inl, Sum.elim_inr] at r4
            obtain ⟨y4, y5, y6, y7⟩ := r
            try dsimp only [Sum.elim_inl, Sum.elim_inr, jt2, jt3, jt4, jt5, jt6, jt7, jt8] at r4
            have no2 := r4
            clear r4
            try simp (disch := omega) only [jst_eq, jst_ne, jst_ni, jI_i, jcmp_lt, jcmp_gt, w32_id, jcpy_out, Sum.elim_inl, Sum.elim_inr, jt2, jt3, jt4, jt5, jt6, jt7, jt8] at no2
            try dsimp only [Sum.elim_inl, Sum.elim_inr, jt2, jt3, jt4, jt5, jt6, jt7, jt8]
            try dsimp only [Sum.elim_inl, Sum.elim_inr, jt2, jt3, jt4, jt5, jt6, jt7, jt8]
            refine ⟨?_, ?_, ?_⟩
            · (first | assumption | omega | ((try dsimp only [jt2, jt3, jt4]); first | omega | (simp (disch := omega) only [jst_eq, jst_ne, jst_ni, jst_o, jI_i, jcpy_out, w32_id, jdiv_nn, jshr_k, jand_255] <;> first | done | omega | assumption)) | (intros; simp (disch := omega) only [jst_eq, jst_ne, jst_ni, jst_o, jI_i, jcpy_out, w32_id, jdiv_nn, *] <;> first | done | omega) | (intros; simp (disch := omega) only [jst_eq, jst_ne, jst_ni, jst_o, jI_i, jcpy_out, w32_id, jdiv_nn] at * <;> first | done | omega | assumption) | (intros; first | rfl | (exfalso; omega) | ((repeat' apply And.intro) <;> first | assumption | rfl | omega | trivial))) -- o16 e3.1
            · (first | assumption | omega | ((try dsimp only [jt2, jt3, jt4]); first | omega | (simp (disch := omega) only [jst_eq, jst_ne, jst_ni, jst_o, jI_i, jcpy_out, w32_id, jdiv_nn, jshr_k, jand_255] <;> first | done | omega | assumption)) | (intros; simp (disch := omega) only [jst_eq, jst_ne, jst_ni, jst_o, jI_i, jcpy_out, w32_id, jdiv_nn, *] <;> first | done | omega) | (intros; simp (disch := omega) only [jst_eq, jst_ne, jst_ni, jst_o, jI_i, jcpy_out, w32_id, jdiv_nn] at * <;> first | done | omega | assumption) | (intros; first | rfl | (exfalso; omega) | ((repeat' apply And.intro) <;> first | assumption | rfl | omega | trivial))) -- o17 e3.2
            · (first | assumption | omega | ((try dsimp only [jt2, jt3, jt4]); first | omega | (simp (disch := omega) only [jst_eq, jst_ne, jst_ni, jst_o, jI_i, jcpy_out, w32_id, jdiv_nn, jshr_k, jand_255] <;> first | done | omega | assumption)) | (intros; simp (disch := omega) only [jst_eq, jst_ne, jst_ni, jst_o, jI_i, jcpy_out, w32_id, jdiv_nn, *] <;> first | done | omega) | (intros; simp (disch := omega) only [jst_eq, jst_ne, jst_ni, jst_o, jI_i, jcpy_out, w32_id, jdiv_nn] at * <;> first | done | omega | assumption) | (intros; first | rfl | (exfalso; omega) | ((repeat' apply And.intro) <;> first | assumption | rfl | omega | trivial))) -- o18 e3.3
          · skip
            have r5 := r3; clear r3; dsimp only [Sum.elim_inl, Sum.elim_inr] at r5
            rcases r with r | r
            · skip
              have r6 := r5; clear r5; dsimp only [Sum.elim_inl, Sum.elim_inr] at r6
              obtain ⟨y8, y9, y10⟩ := r
              try dsimp only [Sum.elim_inl, Sum.elim_inr, jt2, jt3, jt4, jt5, jt6, jt7, jt8] at r6
              obtain ⟨fd3, mr3, fs3⟩ := r6
              try simp (disch := omega) only [jst_eq, jst_ne, jst_ni, jI_i, jcmp_lt, jcmp_gt, w32_id, jcpy_out, Sum.elim_inl, Sum.elim_inr, jt2, jt3, jt4, jt5, jt6, jt7, jt8] at fd3
              try simp (disch := omega) only [jst_eq, jst_ne, jst_ni, jI_i, jcmp_lt, jcmp_gt, w32_id, jcpy_out, Sum.elim_inl, Sum.elim_inr, jt2, jt3, jt4, jt5, jt6, jt7, jt8] at mr3
              try simp (disch := omega) only [jst_eq, jst_ne, jst_ni, jI_i, jcmp_lt, jcmp_gt, w32_id, jcpy_out, Sum.elim_inl, Sum.elim_inr, jt2, jt3, jt4, jt5, jt6, jt7, jt8] at fs3
              try dsimp only [Sum.elim_inl, Sum.elim_inr, jt2, jt3, jt4, jt5, jt6, jt7, jt8]
              try dsimp only [Sum.elim_inl, Sum.elim_inr, jt2, jt3, jt4, jt5, jt6, jt7, jt8]
              refine ⟨?_, ?_, ?_⟩
              · (rw [fd3.1.1, fd3.1.2]; exact ⟨⟨q0.1, by omega⟩, NL, fd3.2.2.1, qs.1, by (have u := fd3.2.2.2; rw [SS]; omega), qs.2⟩) -- o19 e4.1
              · exact mr3 -- o20 e4.2
              · exact fR_t fr fs3 -- o21 e4.3
            · skip
              have r7 := r5; clear r5; dsimp only [Sum.elim_inl, Sum.elim_inr] at r7
              try dsimp only [Sum.elim_inl, Sum.elim_inr, jt2, jt3, jt4, jt5, jt6, jt7, jt8] at r7
              have no4 := r7
              clear r7
              try simp (disch := omega) only [jst_eq, jst_ne, jst_ni, jI_i, jcmp_lt, jcmp_gt, w32_id, jcpy_out, Sum.elim_inl, Sum.elim_inr, jt2, jt3, jt4, jt5, jt6, jt7, jt8] at no4
              try dsimp only [Sum.elim_inl, Sum.elim_inr, jt2, jt3, jt4, jt5, jt6, jt7, jt8]
              (first | assumption | omega | ((try dsimp only [jt2, jt3, jt4]); first | omega | (simp (disch := omega) only [jst_eq, jst_ne, jst_ni, jst_o, jI_i, jcpy_out, w32_id, jdiv_nn, jshr_k, jand_255] <;> first | done | omega | assumption)) | (intros; simp (disch := omega) only [jst_eq, jst_ne, jst_ni, jst_o, jI_i, jcpy_out, w32_id, jdiv_nn, *] <;> first | done | omega) | (intros; simp (disch := omega) only [jst_eq, jst_ne, jst_ni, jst_o, jI_i, jcpy_out, w32_id, jdiv_nn] at * <;> first | done | omega | assumption) | (intros; first | rfl | (exfalso; omega) | ((repeat' apply And.intro) <;> first | assumption | rfl | omega | trivial))) -- o22 e5
      · skip
        try simp (disch := omega) only [jst_eq, jst_ne, jst_ni, jI_i, jcmp_lt, jcmp_gt, w32_id, jcpy_out, Sum.elim_inl, Sum.elim_inr, jt2, jt3, jt4, jt5, jt6, jt7, jt8] at c2
        have AM : (kA K).2.2.2.2.1 a7 = -1 := by { rcases PC.2.2 with r | r; { exact r.1 }; { omega } }
        have LF : iLf (kA K) ((kA K).1 + a7) := Or.inr (by rw [ae]; exact AM)
        refine OK_if (fun c3 => ?_) (fun c3 => ?_)
        · skip
          try simp (disch := omega) only [jst_eq, jst_ne, jst_ni, jI_i, jcmp_lt, jcmp_gt, w32_id, jcpy_out, Sum.elim_inl, Sum.elim_inr, jt2, jt3, jt4, jt5, jt6, jt7, jt8] at c3
          have HH := lf_has tq.1.1 (h := (kA K).1 + a7) (by omega) (by omega) LF (by omega)
          have IX := ixT_h HH
          have IXr : 0 ≤ ixL (kP K) (kA K) (LV E W (kP K) (kA K) p) ((kA K).1 + a7) ∧ ixL (kP K) (kA K) (LV E W (kP K) (kA K) p) ((kA K).1 + a7) < (LV E W (kP K) (kA K) p).1 := ⟨IX.1, IX.2.1⟩
          have HW1 : hwC E W (kP K) (kA K) (LV E W (kP K) (kA K) p) (ct E W (kP K) (kA K)) w i1 ((kA K).1 + a7) = w (ixL (kP K) (kA K) (LV E W (kP K) (kA K) p) ((kA K).1 + a7)) := by { unfold hwC; rw [cif_y LF, cif_y (by omega)] }
          refine OK_jb2 (vX14_valueFunction (E := E) (Rf := Rf) (W := W) (K := K) (tp := tp) (p := p) (T := T) _ (by exact ms.1) (by exact ms.2.1) (by exact ⟨q0.1, by omega, AM⟩) (by exact HH)) (fun v43 h44 r8 => ?_)
          try dsimp only [Sum.elim_inl, Sum.elim_inr, jt2, jt3, jt4, jt5, jt6, jt7, jt8] at r8
          obtain ⟨lv5, fr5⟩ := r8
          try simp (disch := omega) only [jst_eq, jst_ne, jst_ni, jI_i, jcmp_lt, jcmp_gt, w32_id, jcpy_out, Sum.elim_inl, Sum.elim_inr, jt2, jt3, jt4, jt5, jt6, jt7, jt8] at lv5
          try simp (disch := omega) only [jst_eq, jst_ne, jst_ni, jI_i, jcmp_lt, jcmp_gt, w32_id, jcpy_out, Sum.elim_inl, Sum.elim_inr, jt2, jt3, jt4, jt5, jt6, jt7, jt8] at fr5
          have M2 := MR_R ms (by omega) (f754_R fr5) (cM_f ms.2.2.1 (fun a s y => fr5 a s (by omega))) (by unfold b20; rw [fr5 _ _ (by omega)]; exact ms.1.2.2)
          have V5 : v43 = ixL (kP K) (kA K) (LV E W (kP K) (kA K) p) ((kA K).1 + a7) := lv5
          have RX2 := rowM_R RX (f754_R fr5)
          have RX3 := RX2.2.1
          have W5 : h44 i2 v43 = w (ixL (kP K) (kA K) (LV E W (kP K) (kA K) p) ((kA K).1 + a7)) := by { rw [V5]; exact RX2.2.2 _ IXr.1 IXr.2 }
          have WB : 0 ≤ w (ixL (kP K) (kA K) (LV E W (kP K) (kA K) p) ((kA K).1 + a7)) ∧ w (ixL (kP K) (kA K) (LV E W (kP K) (kA K) p) ((kA K).1 + a7)) < 9223372036854775808 := ⟨(rx.2 _).1, (rx.2 _).2 IXr.1⟩
          rw [W5]
          refine OK_jg (by (first | assumption | omega | ((try dsimp only [jt2, jt3, jt4]); first | omega | (simp (disch := omega) only [jst_eq, jst_ne, jst_ni, jst_o, jI_i, jcpy_out, w32_id, jdiv_nn, jshr_k, jand_255] <;> first | done | omega | assumption)) | (intros; simp (disch := omega) only [jst_eq, jst_ne, jst_ni, jst_o, jI_i, jcpy_out, w32_id, jdiv_nn, *] <;> first | done | omega) | (intros; simp (disch := omega) only [jst_eq, jst_ne, jst_ni, jst_o, jI_i, jcpy_out, w32_id, jdiv_nn] at * <;> first | done | omega | assumption) | (intros; first | rfl | (exfalso; omega) | ((repeat' apply And.intro) <;> first | assumption | rfl | omega | trivial)))) ?_ -- o27
          refine OK_if (fun c4 => ?_) (fun c4 => ?_)
          · skip
            try simp (disch := omega) only [jst_eq, jst_ne, jst_ni, jI_i, jcmp_lt, jcmp_gt, w32_id, jcpy_out, Sum.elim_inl, Sum.elim_inr, jt2, jt3, jt4, jt5, jt6, jt7, jt8] at c4
            have c4w : w (ixL (kP K) (kA K) (LV E W (kP K) (kA K) p) ((kA K).1 + a7)) ≤ a5 := by first | exact c4 | exact jcmp_ge.1 c4
            refine OK_jlx (fun x46 ex46 => ?_)
            try simp (disch := omega) only [jst_eq, jst_ne, jst_ni, jI_i, jcmp_lt, jcmp_gt, w32_id, jcpy_out, Sum.elim_inl, Sum.elim_inr, jt2, jt3, jt4, jt5, jt6, jt7, jt8] at ex46
            have e46 : x46 = a5 - w (ixL (kP K) (kA K) (LV E W (kP K) (kA K) p) ((kA K).1 + a7)) := by { first | omega | (rw [ex46]; exact w64_id (by omega) (by omega)) }
            refine OK_mono (vX14_search_j202_99 (E := E) (Rf := Rf) (W := W) (K := K) (tp := tp) (p := p) (T := T) (w := w) (D := D) (d := d) (i := i) _ _ _ _ (by exact M2) (by exact tq) (by exact q1) (by exact ⟨RX2, rx.2⟩) (by exact ⟨q0.1, by omega⟩) (by omega) (by exact ⟨H0, by omega⟩)) (fun r r9 => ?_)
            rcases r with r | r
            · skip
              have r10 := r9; clear r9; dsimp only [Sum.elim_inl, Sum.elim_inr] at r10
              obtain ⟨y11, y12, y13⟩ := r
              try dsimp only [Sum.elim_inl, Sum.elim_inr, jt2, jt3, jt4, jt5, jt6, jt7, jt8] at r10
              obtain ⟨nx6, mr6, fs6⟩ := r10
              try simp (disch := omega) only [jst_eq, jst_ne, jst_ni, jI_i, jcmp_lt, jcmp_gt, w32_id, jcpy_out, Sum.elim_inl, Sum.elim_inr, jt2, jt3, jt4, jt5, jt6, jt7, jt8] at nx6
              try simp (disch := omega) only [jst_eq, jst_ne, jst_ni, jI_i, jcmp_lt, jcmp_gt, w32_id, jcpy_out, Sum.elim_inl, Sum.elim_inr, jt2, jt3, jt4, jt5, jt6, jt7, jt8] at mr6
              try simp (disch := omega) only [jst_eq, jst_ne, jst_ni, jI_i, jcmp_lt, jcmp_gt, w32_id, jcpy_out, Sum.elim_inl, Sum.elim_inr, jt2, jt3, jt4, jt5, jt6, jt7, jt8] at fs6
              try dsimp only [Sum.elim_inl, Sum.elim_inr, jt2, jt3, jt4, jt5, jt6, jt7, jt8]
              refine ⟨?_, ?_⟩
              · try dsimp only [Sum.elim_inl, Sum.elim_inr, jt2, jt3, jt4, jt5, jt6, jt7, jt8]
                refine ⟨?_, ?_, ?_, ?_⟩
                · (rw [nx6.1]; omega) -- o35 e6i.1
                · (rw [nx6.1, show (kA K).1 + (a7 + 1) = (kA K).1 + a7 + 1 by omega, SS, HW1]; rcases nx6.2 with u | u; { have u1 := u.2; omega }; { exact absurd LF u.1 }) -- o36 e6i.2
                · exact mr6 -- o37 e6i.3
                · exact fR_t fr (fR_t (f754_R fr5) fs6) -- o38 e6i.4
              · (rw [nx6.1]; omega) -- o39 e6m
            · skip
              have r11 := r9; clear r9; dsimp only [Sum.elim_inl, Sum.elim_inr] at r11
              rcases r with r | r
              · skip
                have r12 := r11; clear r11; dsimp only [Sum.elim_inl, Sum.elim_inr] at r12
                obtain ⟨y14, y15, y16, y17⟩ := r
                try dsimp only [Sum.elim_inl, Sum.elim_inr, jt2, jt3, jt4, jt5, jt6, jt7, jt8] at r12
                have no7 := r12
                clear r12
                try simp (disch := omega) only [jst_eq, jst_ne, jst_ni, jI_i, jcmp_lt, jcmp_gt, w32_id, jcpy_out, Sum.elim_inl, Sum.elim_inr, jt2, jt3, jt4, jt5, jt6, jt7, jt8] at no7
                try dsimp only [Sum.elim_inl, Sum.elim_inr, jt2, jt3, jt4, jt5, jt6, jt7, jt8]
                try dsimp only [Sum.elim_inl, Sum.elim_inr, jt2, jt3, jt4, jt5, jt6, jt7, jt8]
                refine ⟨?_, ?_, ?_⟩
                · (first | assumption | omega | ((try dsimp only [jt2, jt3, jt4]); first | omega | (simp (disch := omega) only [jst_eq, jst_ne, jst_ni, jst_o, jI_i, jcpy_out, w32_id, jdiv_nn, jshr_k, jand_255] <;> first | done | omega | assumption)) | (intros; simp (disch := omega) only [jst_eq, jst_ne, jst_ni, jst_o, jI_i, jcpy_out, w32_id, jdiv_nn, *] <;> first | done | omega) | (intros; simp (disch := omega) only [jst_eq, jst_ne, jst_ni, jst_o, jI_i, jcpy_out, w32_id, jdiv_nn] at * <;> first | done | omega | assumption) | (intros; first | rfl | (exfalso; omega) | ((repeat' apply And.intro) <;> first | assumption | rfl | omega | trivial))) -- o40 e7.1
                · (first | assumption | omega | ((try dsimp only [jt2, jt3, jt4]); first | omega | (simp (disch := omega) only [jst_eq, jst_ne, jst_ni, jst_o, jI_i, jcpy_out, w32_id, jdiv_nn, jshr_k, jand_255] <;> first | done | omega | assumption)) | (intros; simp (disch := omega) only [jst_eq, jst_ne, jst_ni, jst_o, jI_i, jcpy_out, w32_id, jdiv_nn, *] <;> first | done | omega) | (intros; simp (disch := omega) only [jst_eq, jst_ne, jst_ni, jst_o, jI_i, jcpy_out, w32_id, jdiv_nn] at * <;> first | done | omega | assumption) | (intros; first | rfl | (exfalso; omega) | ((repeat' apply And.intro) <;> first | assumption | rfl | omega | trivial))) -- o41 e7.2
                · (first | assumption | omega | ((try dsimp only [jt2, jt3, jt4]); first | omega | (simp (disch := omega) only [jst_eq, jst_ne, jst_ni, jst_o, jI_i, jcpy_out, w32_id, jdiv_nn, jshr_k, jand_255] <;> first | done | omega | assumption)) | (intros; simp (disch := omega) only [jst_eq, jst_ne, jst_ni, jst_o, jI_i, jcpy_out, w32_id, jdiv_nn, *] <;> first | done | omega) | (intros; simp (disch := omega) only [jst_eq, jst_ne, jst_ni, jst_o, jI_i, jcpy_out, w32_id, jdiv_nn] at * <;> first | done | omega | assumption) | (intros; first | rfl | (exfalso; omega) | ((repeat' apply And.intro) <;> first | assumption | rfl | omega | trivial))) -- o42 e7.3
              · skip
                have r13 := r11; clear r11; dsimp only [Sum.elim_inl, Sum.elim_inr] at r13
                rcases r with r | r
                · skip
                  have r14 := r13; clear r13; dsimp only [Sum.elim_inl, Sum.elim_inr] at r14
                  obtain ⟨y18, y19, y20⟩ := r
                  try dsimp only [Sum.elim_inl, Sum.elim_inr, jt2, jt3, jt4, jt5, jt6, jt7, jt8] at r14
                  obtain ⟨fd8, mr8, fs8⟩ := r14
                  try simp (disch := omega) only [jst_eq, jst_ne, jst_ni, jI_i, jcmp_lt, jcmp_gt, w32_id, jcpy_out, Sum.elim_inl, Sum.elim_inr, jt2, jt3, jt4, jt5, jt6, jt7, jt8] at fd8
                  try simp (disch := omega) only [jst_eq, jst_ne, jst_ni, jI_i, jcmp_lt, jcmp_gt, w32_id, jcpy_out, Sum.elim_inl, Sum.elim_inr, jt2, jt3, jt4, jt5, jt6, jt7, jt8] at mr8
                  try simp (disch := omega) only [jst_eq, jst_ne, jst_ni, jI_i, jcmp_lt, jcmp_gt, w32_id, jcpy_out, Sum.elim_inl, Sum.elim_inr, jt2, jt3, jt4, jt5, jt6, jt7, jt8] at fs8
                  try dsimp only [Sum.elim_inl, Sum.elim_inr, jt2, jt3, jt4, jt5, jt6, jt7, jt8]
                  try dsimp only [Sum.elim_inl, Sum.elim_inr, jt2, jt3, jt4, jt5, jt6, jt7, jt8]
                  refine ⟨?_, ?_, ?_⟩
                  · exact absurd LF fd8.2.1 -- o43 e8.1
                  · exact mr8 -- o44 e8.2
                  · exact fR_t fr (fR_t (f754_R fr5) fs8) -- o45 e8.3
                · skip
                  have r15 := r13; clear r13; dsimp only [Sum.elim_inl, Sum.elim_inr] at r15
                  try dsimp only [Sum.elim_inl, Sum.elim_inr, jt2, jt3, jt4, jt5, jt6, jt7, jt8] at r15
                  have no9 := r15
                  clear r15
                  try simp (disch := omega) only [jst_eq, jst_ne, jst_ni, jI_i, jcmp_lt, jcmp_gt, w32_id, jcpy_out, Sum.elim_inl, Sum.elim_inr, jt2, jt3, jt4, jt5, jt6, jt7, jt8] at no9
                  try dsimp only [Sum.elim_inl, Sum.elim_inr, jt2, jt3, jt4, jt5, jt6, jt7, jt8]
                  (first | assumption | omega | ((try dsimp only [jt2, jt3, jt4]); first | omega | (simp (disch := omega) only [jst_eq, jst_ne, jst_ni, jst_o, jI_i, jcpy_out, w32_id, jdiv_nn, jshr_k, jand_255] <;> first | done | omega | assumption)) | (intros; simp (disch := omega) only [jst_eq, jst_ne, jst_ni, jst_o, jI_i, jcpy_out, w32_id, jdiv_nn, *] <;> first | done | omega) | (intros; simp (disch := omega) only [jst_eq, jst_ne, jst_ni, jst_o, jI_i, jcpy_out, w32_id, jdiv_nn] at * <;> first | done | omega | assumption) | (intros; first | rfl | (exfalso; omega) | ((repeat' apply And.intro) <;> first | assumption | rfl | omega | trivial))) -- o46 e9
          · skip
            try simp (disch := omega) only [jst_eq, jst_ne, jst_ni, jI_i, jcmp_lt, jcmp_gt, w32_id, jcpy_out, Sum.elim_inl, Sum.elim_inr, jt2, jt3, jt4, jt5, jt6, jt7, jt8] at c4
            have c4w : ¬ w (ixL (kP K) (kA K) (LV E W (kP K) (kA K) p) ((kA K).1 + a7)) ≤ a5 := by first | exact c4 | exact fun y => c4 (jcmp_ge.2 y)
            refine OK_ir ?_
            try dsimp only [Sum.elim_inl, Sum.elim_inr, jt2, jt3, jt4, jt5, jt6, jt7, jt8]
            refine ⟨?_, ?_, ?_⟩
            · exact ⟨⟨q0.1, by omega⟩, AM, by omega, V5, qs.1, by (rw [SS, HW1]; omega), qs.2⟩ -- o47 e10.1
            · exact M2 -- o48 e10.2
            · exact fR_t fr (f754_R fr5) -- o49 e10.3
        · skip
          try simp (disch := omega) only [jst_eq, jst_ne, jst_ni, jI_i, jcmp_lt, jcmp_gt, w32_id, jcpy_out, Sum.elim_inl, Sum.elim_inr, jt2, jt3, jt4, jt5, jt6, jt7, jt8] at c3
          have HW0 : hwC E W (kP K) (kA K) (LV E W (kP K) (kA K) p) (ct E W (kP K) (kA K)) w i1 ((kA K).1 + a7) = 0 := by { unfold hwC; rw [cif_y LF, cif_n (by omega)] }
          refine OK_mono (vX14_search_j202_99 (E := E) (Rf := Rf) (W := W) (K := K) (tp := tp) (p := p) (T := T) (w := w) (D := D) (d := d) (i := i) _ _ _ _ (by exact ms) (by exact tq) (by exact q1) (by exact ⟨RX, rx.2⟩) (by exact ⟨q0.1, by omega⟩) (by omega) (by exact ⟨H0, by omega⟩)) (fun r r16 => ?_)
          rcases r with r | r
          · skip
            have r17 := r16; clear r16; dsimp only [Sum.elim_inl, Sum.elim_inr] at r17
            obtain ⟨y21, y22, y23⟩ := r
            try dsimp only [Sum.elim_inl, Sum.elim_inr, jt2, jt3, jt4, jt5, jt6, jt7, jt8] at r17
            obtain ⟨nx10, mr10, fs10⟩ := r17
            try simp (disch := omega) only [jst_eq, jst_ne, jst_ni, jI_i, jcmp_lt, jcmp_gt, w32_id, jcpy_out, Sum.elim_inl, Sum.elim_inr, jt2, jt3, jt4, jt5, jt6, jt7, jt8] at nx10
            try simp (disch := omega) only [jst_eq, jst_ne, jst_ni, jI_i, jcmp_lt, jcmp_gt, w32_id, jcpy_out, Sum.elim_inl, Sum.elim_inr, jt2, jt3, jt4, jt5, jt6, jt7, jt8] at mr10
            try simp (disch := omega) only [jst_eq, jst_ne, jst_ni, jI_i, jcmp_lt, jcmp_gt, w32_id, jcpy_out, Sum.elim_inl, Sum.elim_inr, jt2, jt3, jt4, jt5, jt6, jt7, jt8] at fs10
            try dsimp only [Sum.elim_inl, Sum.elim_inr, jt2, jt3, jt4, jt5, jt6, jt7, jt8]
            refine ⟨?_, ?_⟩
            · try dsimp only [Sum.elim_inl, Sum.elim_inr, jt2, jt3, jt4, jt5, jt6, jt7, jt8]
              refine ⟨?_, ?_, ?_, ?_⟩
              · (rw [nx10.1]; omega) -- o57 e11i.1
              · (rw [nx10.1, show (kA K).1 + (a7 + 1) = (kA K).1 + a7 + 1 by omega, SS, HW0]; rcases nx10.2 with u | u; { have u1 := u.2; omega }; { exact absurd LF u.1 }) -- o58 e11i.2
              · exact mr10 -- o59 e11i.3
              · exact fR_t fr fs10 -- o60 e11i.4
            · (rw [nx10.1]; omega) -- o61 e11m
          · skip
            have r18 := r16; clear r16; dsimp only [Sum.elim_inl, Sum.elim_inr] at r18
            rcases r with r | r
            · skip
              have r19 := r18; clear r18; dsimp only [Sum.elim_inl, Sum.elim_inr] at r19
              obtain ⟨y24, y25, y26, y27⟩ := r
              try dsimp only [Sum.elim_inl, Sum.elim_inr, jt2, jt3, jt4, jt5, jt6, jt7, jt8] at r19
              have no11 := r19
              clear r19
              try simp (disch := omega) only [jst_eq, jst_ne, jst_ni, jI_i, jcmp_lt, jcmp_gt, w32_id, jcpy_out, Sum.elim_inl, Sum.elim_inr, jt2, jt3, jt4, jt5, jt6, jt7, jt8] at no11
              try dsimp only [Sum.elim_inl, Sum.elim_inr, jt2, jt3, jt4, jt5, jt6, jt7, jt8]
              try dsimp only [Sum.elim_inl, Sum.elim_inr, jt2, jt3, jt4, jt5, jt6, jt7, jt8]
              refine ⟨?_, ?_, ?_⟩
              · (first | assumption | omega | ((try dsimp only [jt2, jt3, jt4]); first | omega | (simp (disch := omega) only [jst_eq, jst_ne, jst_ni, jst_o, jI_i, jcpy_out, w32_id, jdiv_nn, jshr_k, jand_255] <;> first | done | omega | assumption)) | (intros; simp (disch := omega) only [jst_eq, jst_ne, jst_ni, jst_o, jI_i, jcpy_out, w32_id, jdiv_nn, *] <;> first | done | omega) | (intros; simp (disch := omega) only [jst_eq, jst_ne, jst_ni, jst_o, jI_i, jcpy_out, w32_id, jdiv_nn] at * <;> first | done | omega | assumption) | (intros; first | rfl | (exfalso; omega) | ((repeat' apply And.intro) <;> first | assumption | rfl | omega | trivial))) -- o62 e12.1
              · (first | assumption | omega | ((try dsimp only [jt2, jt3, jt4]); first | omega | (simp (disch := omega) only [jst_eq, jst_ne, jst_ni, jst_o, jI_i, jcpy_out, w32_id, jdiv_nn, jshr_k, jand_255] <;> first | done | omega | assumption)) | (intros; simp (disch := omega) only [jst_eq, jst_ne, jst_ni, jst_o, jI_i, jcpy_out, w32_id, jdiv_nn, *] <;> first | done | omega) | (intros; simp (disch := omega) only [jst_eq, jst_ne, jst_ni, jst_o, jI_i, jcpy_out, w32_id, jdiv_nn] at * <;> first | done | omega | assumption) | (intros; first | rfl | (exfalso; omega) | ((repeat' apply And.intro) <;> first | assumption | rfl | omega | trivial))) -- o63 e12.2
              · (first | assumption | omega | ((try dsimp only [jt2, jt3, jt4]); first | omega | (simp (disch := omega) only [jst_eq, jst_ne, jst_ni, jst_o, jI_i, jcpy_out, w32_id, jdiv_nn, jshr_k, jand_255] <;> first | done | omega | assumption)) | (intros; simp (disch := omega) only [jst_eq, jst_ne, jst_ni, jst_o, jI_i, jcpy_out, w32_id, jdiv_nn, *] <;> first | done | omega) | (intros; simp (disch := omega) only [jst_eq, jst_ne, jst_ni, jst_o, jI_i, jcpy_out, w32_id, jdiv_nn] at * <;> first | done | omega | assumption) | (intros; first | rfl | (exfalso; omega) | ((repeat' apply And.intro) <;> first | assumption | rfl | omega | trivial))) -- o64 e12.3
            · skip
              have r20 := r18; clear r18; dsimp only [Sum.elim_inl, Sum.elim_inr] at r20
              rcases r with r | r
              · skip
                have r21 := r20; clear r20; dsimp only [Sum.elim_inl, Sum.elim_inr] at r21
                obtain ⟨y28, y29, y30⟩ := r
                try dsimp only [Sum.elim_inl, Sum.elim_inr, jt2, jt3, jt4, jt5, jt6, jt7, jt8] at r21
                obtain ⟨fd12, mr12, fs12⟩ := r21
                try simp (disch := omega) only [jst_eq, jst_ne, jst_ni, jI_i, jcmp_lt, jcmp_gt, w32_id, jcpy_out, Sum.elim_inl, Sum.elim_inr, jt2, jt3, jt4, jt5, jt6, jt7, jt8] at fd12
                try simp (disch := omega) only [jst_eq, jst_ne, jst_ni, jI_i, jcmp_lt, jcmp_gt, w32_id, jcpy_out, Sum.elim_inl, Sum.elim_inr, jt2, jt3, jt4, jt5, jt6, jt7, jt8] at mr12
                try simp (disch := omega) only [jst_eq, jst_ne, jst_ni, jI_i, jcmp_lt, jcmp_gt, w32_id, jcpy_out, Sum.elim_inl, Sum.elim_inr, jt2, jt3, jt4, jt5, jt6, jt7, jt8] at fs12
                try dsimp only [Sum.elim_inl, Sum.elim_inr, jt2, jt3, jt4, jt5, jt6, jt7, jt8]
                try dsimp only [Sum.elim_inl, Sum.elim_inr, jt2, jt3, jt4, jt5, jt6, jt7, jt8]
                refine ⟨?_, ?_, ?_⟩
                · exact absurd LF fd12.2.1 -- o65 e13.1
                · exact mr12 -- o66 e13.2
                · exact fR_t fr fs12 -- o67 e13.3
              · skip
                have r22 := r20; clear r20; dsimp only [Sum.elim_inl, Sum.elim_inr] at r22
                try dsimp only [Sum.elim_inl, Sum.elim_inr, jt2, jt3, jt4, jt5, jt6, jt7, jt8] at r22
                have no13 := r22
                clear r22
                try simp (disch := omega) only [jst_eq, jst_ne, jst_ni, jI_i, jcmp_lt, jcmp_gt, w32_id, jcpy_out, Sum.elim_inl, Sum.elim_inr, jt2, jt3, jt4, jt5, jt6, jt7, jt8] at no13
                try dsimp only [Sum.elim_inl, Sum.elim_inr, jt2, jt3, jt4, jt5, jt6, jt7, jt8]
                (first | assumption | omega | ((try dsimp only [jt2, jt3, jt4]); first | omega | (simp (disch := omega) only [jst_eq, jst_ne, jst_ni, jst_o, jI_i, jcpy_out, w32_id, jdiv_nn, jshr_k, jand_255] <;> first | done | omega | assumption)) | (intros; simp (disch := omega) only [jst_eq, jst_ne, jst_ni, jst_o, jI_i, jcpy_out, w32_id, jdiv_nn, *] <;> first | done | omega) | (intros; simp (disch := omega) only [jst_eq, jst_ne, jst_ni, jst_o, jI_i, jcpy_out, w32_id, jdiv_nn] at * <;> first | done | omega | assumption) | (intros; first | rfl | (exfalso; omega) | ((repeat' apply And.intro) <;> first | assumption | rfl | omega | trivial))) -- o68 e14
  · try dsimp only [Sum.elim_inl, Sum.elim_inr, jt2, jt3, jt4, jt5, jt6, jt7, jt8]
    refine ⟨?_, ?_, ?_, ?_⟩
    · (have pc := (akM_0 mr.1).2.1.2.2.1; have np := pc.2.1; omega) -- o69 init.1
    · (rw [z, Int.add_zero]; exact st) -- o70 init.2
    · exact mr -- o71 init.3
    · exact fun _ _ _ _ _ => rfl -- o72 init.4
theorem lfM_f {h h' : AH} {d n : Int} {i : NI} (f : ∀ a, 460 ≤ a → a ≤ 466 → h' a d = h a d) (l : lfM h d n i) : lfM h' d n i := by
  unfold lfM at *
  rw [f 465 (by decide) (by decide), f 466 (by decide) (by decide), f 461 (by decide) (by decide), f 460 (by decide) (by decide), f 462 (by decide) (by decide), f 463 (by decide) (by decide)]
  exact l
theorem poD_l2 {h h' : AH} {v : Int} {i : NI} (hv : v = h 454 17 ∧ h' 454 17 = h 454 17 + 1) (l : lfM h' v 0 i) (fr : ∀ a s, 460 ≤ a → a ≤ 469 → ¬ (a ≠ 464 ∧ s = h 454 17) → h' a s = h a s) : poD (.leaf i) (pm h) v (pm h') := by
  have p0 : pm h 454 17 = h 454 17 := pm_i (Or.inr ⟨rfl, rfl⟩)
  have e : sz (.leaf i) = 1 := rfl
  refine ⟨by rw [p0]; exact hv.1, by rw [p0, pm_i (Or.inr ⟨rfl, rfl⟩)]; exact hv.2, ⟨?_, lfM_pm l⟩, fun a s y1 y2 y3 => ?_⟩
  · unfold rgN
    rw [p0, e, hv.1]
    omega
  · rw [p0, e] at y2
    by_cases z : 460 ≤ a ∧ a ≤ 469
    · rw [pm_i (Or.inl z), pm_i (Or.inl z)]
      exact fr a s z.1 z.2 (fun q => y2 (by omega))
    · unfold pm
      rw [if_neg (by omega), if_neg (by omega)]
theorem vX14_search_ {F : Int → Int → Int → Int → AH → Option (Int × AH)} (a1 : Int) (a2 : Int) (a3 : Int) {h : AH} {E : EV} {Rf : Int → TR} {W : Int → Int → Int → VW} {K : AK} {tp : Int} {p D : Nat} {T : TB} {w : Int → Int} {d i : Int} (hF : ITM E Rf W K tp p T F D) (mr : MR h E Rf W K tp p T ((p : Int) + 1)) (tq : tqM E W K p p) (q1 : 1 ≤ a1 ∧ a1 ≤ p ∧ a1 ≤ D + 1) (rx : rowM h a2 w (LV E W (kP K) (kA K) p).1 ∧ wBd w ∧ a2 < 770 + d) (st : stMo h d (a1 - 1) a1) (tb : 0 ≤ a3 ∧ a3 < twC E W (kP K) (kA K) (LV E W (kP K) (kA K) p) w a1 ∧ twC E W (kP K) (kA K) (LV E W (kP K) (kA K) p) w a1 < 9223372036854775808) : OK (gX14_search_ F a1 a2 a3 h) (fun r => jt2 r fun v h' => (∃ R f, itR E W (kP K) (kA K) (LV E W (kP K) (kA K) p) (ct E W (kP K) (kA K)) (D + 1) a1 w a3 R f v ∧ poD R (pm h) (h' 454 49) (pm h') ∧ h' 454 50 = f) ∧ (MR h' E Rf W K tp p T ((p : Int) + 1)) ∧ (fMo d h h') ∧ (h' 454 43 = d)) := by
  have n12 := tq.1.1.1
  have A3 := tq.1.1.2.2.2.2.2
  have st1 := st.1
  have st3 := st.2.2
  have w0 : ∀ f, 0 ≤ w f := fun f => (rx.2.1 f).1
  unfold gX14_search_
  refine OK_jb (vX14_search_l6 (E := E) (Rf := Rf) (W := W) (K := K) (tp := tp) (p := p) (T := T) (w := w) (D := D) (d := d) (i := a3) _ _ _ _ (by exact mr) (by exact tq) (by exact ⟨q1.1, q1.2.1⟩) (by exact ⟨rx.1, rx.2.1⟩) (by omega) (by exact ⟨rfl, rfl⟩)) (fun o1 r1 => ?_)
  rcases o1 with o3 | o4
  · skip
    have r2 := r1; clear r1
    dsimp only [Sum.elim_inl, Sum.elim_inr] at r2
    refine OK_jml ?_
    obtain ⟨y5, y6, y7, h8⟩ := o3
    refine OK_jt4 ?_
    try dsimp only [Sum.elim_inl, Sum.elim_inr, jt2, jt3, jt4, jt5, jt6, jt7, jt8] at r2
    obtain ⟨lf1, mr1, fs1⟩ := r2
    try simp (disch := omega) only [jst_eq, jst_ne, jst_ni, jI_i, jcmp_lt, jcmp_gt, w32_id, jcpy_out, Sum.elim_inl, Sum.elim_inr, jt2, jt3, jt4, jt5, jt6, jt7, jt8] at lf1
    try simp (disch := omega) only [jst_eq, jst_ne, jst_ni, jI_i, jcmp_lt, jcmp_gt, w32_id, jcpy_out, Sum.elim_inl, Sum.elim_inr, jt2, jt3, jt4, jt5, jt6, jt7, jt8] at mr1
    try simp (disch := omega) only [jst_eq, jst_ne, jst_ni, jI_i, jcmp_lt, jcmp_gt, w32_id, jcpy_out, Sum.elim_inl, Sum.elim_inr, jt2, jt3, jt4, jt5, jt6, jt7, jt8] at fs1
    have FR8 : fR h h8 := f754_R fs1
    have a8 := akM_0 mr1.1
    have pk8 := a8.2.1.1
    have x8 := a8.1.1
    have N8 : h8 454 17 = h 454 17 := fs1 _ _ (by omega)
    have U8 : h8 454 43 = d := (fs1 _ _ (by omega)).trans st1.1
    have lf11 := lf1.1
    refine OK_jg (by (first | assumption | omega | ((try dsimp only [jt2, jt3, jt4]); first | omega | (simp (disch := omega) only [jst_eq, jst_ne, jst_ni, jst_o, jI_i, jcpy_out, w32_id, jdiv_nn, jshr_k, jand_255] <;> first | done | omega | assumption)) | (intros; simp (disch := omega) only [jst_eq, jst_ne, jst_ni, jst_o, jI_i, jcpy_out, w32_id, jdiv_nn, *] <;> first | done | omega) | (intros; simp (disch := omega) only [jst_eq, jst_ne, jst_ni, jst_o, jI_i, jcpy_out, w32_id, jdiv_nn] at * <;> first | done | omega | assumption) | (intros; first | rfl | (exfalso; omega) | ((repeat' apply And.intro) <;> first | assumption | rfl | omega | trivial)))) ?_ -- o7
    refine OK_jg (by (first | assumption | omega | ((try dsimp only [jt2, jt3, jt4]); first | omega | (simp (disch := omega) only [jst_eq, jst_ne, jst_ni, jst_o, jI_i, jcpy_out, w32_id, jdiv_nn, jshr_k, jand_255] <;> first | done | omega | assumption)) | (intros; simp (disch := omega) only [jst_eq, jst_ne, jst_ni, jst_o, jI_i, jcpy_out, w32_id, jdiv_nn, *] <;> first | done | omega) | (intros; simp (disch := omega) only [jst_eq, jst_ne, jst_ni, jst_o, jI_i, jcpy_out, w32_id, jdiv_nn] at * <;> first | done | omega | assumption) | (intros; first | rfl | (exfalso; omega) | ((repeat' apply And.intro) <;> first | assumption | rfl | omega | trivial)))) ?_ -- o8
    refine OK_jb2 (vX14_node _ _ _ (by omega)) (fun v10 h11 r3 => ?_)
    try dsimp only [Sum.elim_inl, Sum.elim_inr, jt2, jt3, jt4, jt5, jt6, jt7, jt8] at r3
    obtain ⟨nv2, na2, fr2⟩ := r3
    try simp (disch := omega) only [jst_eq, jst_ne, jst_ni, jI_i, jcmp_lt, jcmp_gt, w32_id, jcpy_out, Sum.elim_inl, Sum.elim_inr, jt2, jt3, jt4, jt5, jt6, jt7, jt8] at nv2
    try simp (disch := omega) only [jst_eq, jst_ne, jst_ni, jI_i, jcmp_lt, jcmp_gt, w32_id, jcpy_out, Sum.elim_inl, Sum.elim_inr, jt2, jt3, jt4, jt5, jt6, jt7, jt8] at na2
    try simp (disch := omega) only [jst_eq, jst_ne, jst_ni, jI_i, jcmp_lt, jcmp_gt, w32_id, jcpy_out, Sum.elim_inl, Sum.elim_inr, jt2, jt3, jt4, jt5, jt6, jt7, jt8] at fr2
    refine OK_jl ?_
    have F12 : ∀ a s, ¬ (a = 454 ∧ s = 49) → jst h11 454 49 v10 a s = h11 a s := fun a s y => jst_o y
    have K12 : jst h11 454 49 v10 454 49 = v10 := jst_eq
    generalize eg12 : jst h11 454 49 v10 = g12 at *
    rw [K12]
    refine OK_jg (by (first | assumption | omega | ((try dsimp only [jt2, jt3, jt4]); first | omega | (simp (disch := omega) only [jst_eq, jst_ne, jst_ni, jst_o, jI_i, jcpy_out, w32_id, jdiv_nn, jshr_k, jand_255] <;> first | done | omega | assumption)) | (intros; simp (disch := omega) only [jst_eq, jst_ne, jst_ni, jst_o, jI_i, jcpy_out, w32_id, jdiv_nn, *] <;> first | done | omega) | (intros; simp (disch := omega) only [jst_eq, jst_ne, jst_ni, jst_o, jI_i, jcpy_out, w32_id, jdiv_nn] at * <;> first | done | omega | assumption) | (intros; first | rfl | (exfalso; omega) | ((repeat' apply And.intro) <;> first | assumption | rfl | omega | trivial)))) ?_ -- o10
    refine OK_jl ?_
    have F13 : ∀ a s, ¬ (a = 469 ∧ s = v10) → jst g12 469 v10 1 a s = g12 a s := fun a s y => jst_o y
    generalize eg13 : jst g12 469 v10 1 = g13 at *
    refine OK_jl ?_
    have F14 : ∀ a s, ¬ (a = 454 ∧ s = 50) → jst g13 454 50 y7 a s = g13 a s := fun a s y => jst_o y
    have K14 : jst g13 454 50 y7 454 50 = y7 := jst_eq
    generalize eg14 : jst g13 454 50 y7 = g14 at *
    have nv1 := nv2.1
    have E11 : ∀ a s, ¬ (a = 454 ∧ (s = 49 ∨ s = 50)) → ¬ (a = 469 ∧ s = v10) → g14 a s = h11 a s := fun a s y1 y2 => by { rw [F14 _ _ (by omega), F13 _ _ y2, F12 _ _ (by omega)] }
    have FE : ∀ a s, ¬ (a = 454 ∧ (s = 17 ∨ s = 49 ∨ s = 50)) → ¬ (460 ≤ a ∧ a ≤ 469 ∧ a ≠ 464 ∧ s = h8 454 17) → g14 a s = h8 a s := fun a s y1 y2 => by { rw [E11 a s (by omega) (by omega)]; exact fr2 a s (by omega) y2 }
    have M14 := MR_n (d := d) mr1 (by omega) (by omega) (fun a s y1 y2 y3 y4 => FE a s (by omega) (by omega))
    have LK : lkA (kA K) y6 = (kA K).2.1 y6 := if_pos lf1.1.2
    have LM : lfM g14 v10 0 (lfI (kA K) y6) := by { have e : lfI (kA K) y6 = (0, y6, lkA (kA K) y6, 0) := if_pos lf1.1.2; rw [e]; refine lfM_f (h := h11) (fun a a0 a1 => E11 _ _ (by omega) (by omega)) ?_; exact ⟨by omega, by omega, na2.2.2.2.1, na2.2.2.2.2, by rw [na2.2.1, LK]; exact a8.2.1.2.1 y6 lf1.1.1 lf1.1.2, fun _ => ⟨na2.1, na2.2.2.1⟩, fun z => by have : (0 : Int) = 1 := z; omega, fun z => by have : (0 : Int) = 2 := z; omega, fun z => by have : (0 : Int) = 4 := z; omega, fun z => by have : (0 : Int) = 3 := z; omega, by show (0 : Int) ≤ 0; decide, by show (0 : Int) ≤ 4; decide⟩ }
    have PM8 : pm h8 = pm h := pm_f (fun a s y => fs1 a s (by omega))
    have V49 : g14 454 49 = v10 := by { rw [F14 _ _ (by omega), F13 _ _ (by omega)]; exact K12 }
    have PO := poD_l2 (h := h8) (h' := g14) ⟨nv2.1, by rw [E11 _ _ (by omega) (by omega)]; exact nv2.2⟩ LM (fun a s a0 a1 y => FE a s (by omega) (by omega))
    refine OK_some ?_
    try dsimp only [Sum.elim_inl, Sum.elim_inr, jt2, jt3, jt4, jt5, jt6, jt7, jt8]
    try dsimp only [Sum.elim_inl, Sum.elim_inr, jt2, jt3, jt4, jt5, jt6, jt7, jt8]
    refine ⟨?_, ?_, ?_, ?_⟩
    · (refine ⟨.leaf (lfI (kA K) y6), ixL (kP K) (kA K) (LV E W (kP K) (kA K) p) y6, ⟨y6, lf1.1.1, by omega, lf1.2.2.2.1, lf1.2.2.2.2.1, Or.inl ⟨Or.inl lf1.1.2, (if_pos lf1.1.2).trans lf1.2.1.symm, rfl, rfl, lf1.2.2.2.2.2⟩⟩, by (rw [← PM8, V49]; exact PO), K14.trans lf1.2.2.1⟩) -- o11 e1.1
    · exact M14.1 -- o12 e1.2
    · exact fMo_t (fR_o FR8 (by omega)) M14.2 -- o13 e1.3
    · (rw [FE _ _ (by omega) (by omega)]; exact U8) -- o14 e1.4
  · skip
    have r4 := r1; clear r1
    dsimp only [Sum.elim_inl, Sum.elim_inr] at r4
    refine OK_jmr ?_
    obtain ⟨y15, h16⟩ := o4
    refine OK_jt2 ?_
    try dsimp only [Sum.elim_inl, Sum.elim_inr, jt2, jt3, jt4, jt5, jt6, jt7, jt8] at r4
    obtain ⟨nf3, mr3, fs3⟩ := r4
    try simp (disch := omega) only [jst_eq, jst_ne, jst_ni, jI_i, jcmp_lt, jcmp_gt, w32_id, jcpy_out, Sum.elim_inl, Sum.elim_inr, jt2, jt3, jt4, jt5, jt6, jt7, jt8] at nf3
    try simp (disch := omega) only [jst_eq, jst_ne, jst_ni, jI_i, jcmp_lt, jcmp_gt, w32_id, jcpy_out, Sum.elim_inl, Sum.elim_inr, jt2, jt3, jt4, jt5, jt6, jt7, jt8] at mr3
    try simp (disch := omega) only [jst_eq, jst_ne, jst_ni, jI_i, jcmp_lt, jcmp_gt, w32_id, jcpy_out, Sum.elim_inl, Sum.elim_inr, jt2, jt3, jt4, jt5, jt6, jt7, jt8] at fs3
    have FR16 : fR h h16 := f754_R fs3
    unfold gX14_search_j96
    refine OK_jb (vX14_search_l99 (E := E) (Rf := Rf) (W := W) (K := K) (tp := tp) (p := p) (T := T) (w := w) (D := D) (d := d) (i := a3) _ _ _ _ (by exact mr3) (by exact tq) (by exact ⟨q1.1, q1.2.1⟩) (by exact ⟨rowM_R rx.1 FR16, rx.2.1⟩) (by exact tb) (by exact nf3) (by rfl)) (fun o17 r5 => ?_)
    rcases o17 with o19 | o20
    · skip
      have r6 := r5; clear r5
      dsimp only [Sum.elim_inl, Sum.elim_inr] at r6
      refine OK_jml ?_
      obtain ⟨y21, y22, y23, h24⟩ := o19
      refine OK_jt4 ?_
      try dsimp only [Sum.elim_inl, Sum.elim_inr, jt2, jt3, jt4, jt5, jt6, jt7, jt8] at r6
      obtain ⟨lf4, mr4, fs4⟩ := r6
      try simp (disch := omega) only [jst_eq, jst_ne, jst_ni, jI_i, jcmp_lt, jcmp_gt, w32_id, jcpy_out, Sum.elim_inl, Sum.elim_inr, jt2, jt3, jt4, jt5, jt6, jt7, jt8] at lf4
      try simp (disch := omega) only [jst_eq, jst_ne, jst_ni, jI_i, jcmp_lt, jcmp_gt, w32_id, jcpy_out, Sum.elim_inl, Sum.elim_inr, jt2, jt3, jt4, jt5, jt6, jt7, jt8] at mr4
      try simp (disch := omega) only [jst_eq, jst_ne, jst_ni, jI_i, jcmp_lt, jcmp_gt, w32_id, jcpy_out, Sum.elim_inl, Sum.elim_inr, jt2, jt3, jt4, jt5, jt6, jt7, jt8] at fs4
      have FR24 : fR h h24 := fR_t FR16 fs4
      have a24 := akM_0 mr4.1
      have pc24 := a24.2.1.2.2.1
      have x24 := a24.1.1
      have np24 := pc24.2.2.1
      have N24 : h24 454 17 = h 454 17 := FR24 _ _ (by omega) (by omega) (by omega)
      have U24 : h24 454 43 = d := (FR24 _ _ (by omega) (by omega) (by omega)).trans st1.1
      have lf41 := lf4.1
      have PV := ((pc24.2.2.2 y22 lf4.1.1 lf4.1.2).2.2).resolve_right (fun q => by (have q1 := q.1; have q2 := lf4.2.1; omega))
      have PV1 := PV.2.1
      have PV2 := PV.2.2.1
      have KV : lkA (kA K) ((kA K).1 + y22) = (kA K).2.2.2.2.2.1 y22 := by { unfold lkA; rw [if_neg (by omega), show (kA K).1 + y22 - (kA K).1 = y22 by omega] }
      have VV : lvA (kA K) ((kA K).1 + y22) 0 = (kA K).2.2.2.2.2.2.1 y22 := by { unfold lvA; rw [if_neg (by omega), show (kA K).1 + y22 - (kA K).1 = y22 by omega] }
      have LI : lfI (kA K) ((kA K).1 + y22) = (1, lvA (kA K) ((kA K).1 + y22) 0, lkA (kA K) ((kA K).1 + y22), 0) := if_neg (by omega)
      have L24 : lfM h24 (h24 (h24 454 38 + 2) y22) 0 (lfI (kA K) ((kA K).1 + y22)) := by { rw [LI, KV, VV]; exact ⟨by omega, by omega, PV.2.2.2.2.2.2.1, PV.2.2.2.2.2.2.2.2.2, PV.2.2.2.2.1, fun z => by have : (1 : Int) = 0 := z; omega, fun _ => ⟨PV.2.2.2.1, PV.2.2.2.2.2.1⟩, fun z => by have : (1 : Int) = 2 := z; omega, fun z => by have : (1 : Int) = 4 := z; omega, fun z => by have : (1 : Int) = 3 := z; omega, by show (0 : Int) ≤ 1; decide, by show (1 : Int) ≤ 4; decide⟩ }
      refine OK_jg (by (first | assumption | omega | ((try dsimp only [jt2, jt3, jt4]); first | omega | (simp (disch := omega) only [jst_eq, jst_ne, jst_ni, jst_o, jI_i, jcpy_out, w32_id, jdiv_nn, jshr_k, jand_255] <;> first | done | omega | assumption)) | (intros; simp (disch := omega) only [jst_eq, jst_ne, jst_ni, jst_o, jI_i, jcpy_out, w32_id, jdiv_nn, *] <;> first | done | omega) | (intros; simp (disch := omega) only [jst_eq, jst_ne, jst_ni, jst_o, jI_i, jcpy_out, w32_id, jdiv_nn] at * <;> first | done | omega | assumption) | (intros; first | rfl | (exfalso; omega) | ((repeat' apply And.intro) <;> first | assumption | rfl | omega | trivial)))) ?_ -- o22
      refine OK_jg (by (first | assumption | omega | ((try dsimp only [jt2, jt3, jt4]); first | omega | (simp (disch := omega) only [jst_eq, jst_ne, jst_ni, jst_o, jI_i, jcpy_out, w32_id, jdiv_nn, jshr_k, jand_255] <;> first | done | omega | assumption)) | (intros; simp (disch := omega) only [jst_eq, jst_ne, jst_ni, jst_o, jI_i, jcpy_out, w32_id, jdiv_nn, *] <;> first | done | omega) | (intros; simp (disch := omega) only [jst_eq, jst_ne, jst_ni, jst_o, jI_i, jcpy_out, w32_id, jdiv_nn] at * <;> first | done | omega | assumption) | (intros; first | rfl | (exfalso; omega) | ((repeat' apply And.intro) <;> first | assumption | rfl | omega | trivial)))) ?_ -- o23
      refine OK_jb2 (vX14_copyNode _ (by exact L24) (by omega) (by omega)) (fun v26 h27 r7 => ?_)
      try dsimp only [Sum.elim_inl, Sum.elim_inr, jt2, jt3, jt4, jt5, jt6, jt7, jt8] at r7
      obtain ⟨vv5, lf5, fr5⟩ := r7
      try simp (disch := omega) only [jst_eq, jst_ne, jst_ni, jI_i, jcmp_lt, jcmp_gt, w32_id, jcpy_out, Sum.elim_inl, Sum.elim_inr, jt2, jt3, jt4, jt5, jt6, jt7, jt8] at vv5
      try simp (disch := omega) only [jst_eq, jst_ne, jst_ni, jI_i, jcmp_lt, jcmp_gt, w32_id, jcpy_out, Sum.elim_inl, Sum.elim_inr, jt2, jt3, jt4, jt5, jt6, jt7, jt8] at lf5
      try simp (disch := omega) only [jst_eq, jst_ne, jst_ni, jI_i, jcmp_lt, jcmp_gt, w32_id, jcpy_out, Sum.elim_inl, Sum.elim_inr, jt2, jt3, jt4, jt5, jt6, jt7, jt8] at fr5
      refine OK_jl ?_
      have F28 : ∀ a s, ¬ (a = 454 ∧ s = 49) → jst h27 454 49 v26 a s = h27 a s := fun a s y => jst_o y
      have K28 : jst h27 454 49 v26 454 49 = v26 := jst_eq
      generalize eg28 : jst h27 454 49 v26 = g28 at *
      rw [K28]
      have vv51 := vv5.1
      refine OK_jg (by (first | assumption | omega | ((try dsimp only [jt2, jt3, jt4]); first | omega | (simp (disch := omega) only [jst_eq, jst_ne, jst_ni, jst_o, jI_i, jcpy_out, w32_id, jdiv_nn, jshr_k, jand_255] <;> first | done | omega | assumption)) | (intros; simp (disch := omega) only [jst_eq, jst_ne, jst_ni, jst_o, jI_i, jcpy_out, w32_id, jdiv_nn, *] <;> first | done | omega) | (intros; simp (disch := omega) only [jst_eq, jst_ne, jst_ni, jst_o, jI_i, jcpy_out, w32_id, jdiv_nn] at * <;> first | done | omega | assumption) | (intros; first | rfl | (exfalso; omega) | ((repeat' apply And.intro) <;> first | assumption | rfl | omega | trivial)))) ?_ -- o27
      refine OK_jl ?_
      have F29 : ∀ a s, ¬ (a = 469 ∧ s = v26) → jst g28 469 v26 a1 a s = g28 a s := fun a s y => jst_o y
      generalize eg29 : jst g28 469 v26 a1 = g29 at *
      refine OK_jl ?_
      have F30 : ∀ a s, ¬ (a = 454 ∧ s = 50) → jst g29 454 50 y23 a s = g29 a s := fun a s y => jst_o y
      have K30 : jst g29 454 50 y23 454 50 = y23 := jst_eq
      generalize eg30 : jst g29 454 50 y23 = g30 at *
      have E27 : ∀ a s, ¬ (a = 454 ∧ (s = 49 ∨ s = 50)) → ¬ (a = 469 ∧ s = v26) → g30 a s = h27 a s := fun a s y1 y2 => by { rw [F30 _ _ (by omega), F29 _ _ y2, F28 _ _ (by omega)] }
      have FE2 : ∀ a s, ¬ (a = 454 ∧ (s = 17 ∨ s = 49 ∨ s = 50)) → ¬ (460 ≤ a ∧ a ≤ 469 ∧ a ≠ 464 ∧ s = h24 454 17) → g30 a s = h24 a s := fun a s y1 y2 => by { rw [E27 a s (by omega) (by omega)]; exact fr5 a s (by omega) y2 }
      have M30 := MR_n (d := d) mr4 (by omega) (by omega) (fun a s y1 y2 y3 y4 => FE2 a s (by omega) (by omega))
      have LM2 : lfM g30 v26 0 (lfI (kA K) ((kA K).1 + y22)) := lfM_f (fun a a0 a1 => E27 _ _ (by omega) (by omega)) lf5
      have PM24 : pm h24 = pm h := pm_f (fun a s y => FR24 a s (by omega) (by omega) (by omega))
      have V492 : g30 454 49 = v26 := by { rw [F30 _ _ (by omega), F29 _ _ (by omega)]; exact K28 }
      have PO2 := poD_l2 (h := h24) (h' := g30) ⟨vv5.1, by rw [E27 _ _ (by omega) (by omega)]; exact vv5.2⟩ LM2 (fun a s a0 a1 y => FE2 a s (by omega) (by omega))
      have LF22 : iLf (kA K) ((kA K).1 + y22) := Or.inr (by rw [show (kA K).1 + y22 - (kA K).1 = y22 by omega]; exact lf4.2.1)
      refine OK_some ?_
      try dsimp only [Sum.elim_inl, Sum.elim_inr, jt2, jt3, jt4, jt5, jt6, jt7, jt8]
      try dsimp only [Sum.elim_inl, Sum.elim_inr, jt2, jt3, jt4, jt5, jt6, jt7, jt8]
      refine ⟨?_, ?_, ?_, ?_⟩
      · (refine ⟨.leaf (lfI (kA K) ((kA K).1 + y22)), ixL (kP K) (kA K) (LV E W (kP K) (kA K) p) ((kA K).1 + y22), ⟨(kA K).1 + y22, by omega, by omega, lf4.2.2.2.2.1, lf4.2.2.2.2.2.1, Or.inl ⟨LF22, lf4.2.2.1, rfl, rfl, lf4.2.2.2.2.2.2⟩⟩, by (rw [← PM24, V492]; exact PO2), K30.trans lf4.2.2.2.1⟩) -- o28 e2.1
      · exact M30.1 -- o29 e2.2
      · exact fMo_t (fR_o FR24 (by omega)) M30.2 -- o30 e2.3
      · (rw [FE2 _ _ (by omega) (by omega)]; exact U24) -- o31 e2.4
    · skip
      have r8 := r5; clear r5
      dsimp only [Sum.elim_inl, Sum.elim_inr] at r8
      refine OK_jmr ?_
      rcases o20 with o31 | o32
      · skip
        have r9 := r8; clear r8
        dsimp only [Sum.elim_inl, Sum.elim_inr] at r9
        refine OK_jml ?_
        obtain ⟨y33, y34, h35⟩ := o31
        refine OK_jt3 ?_
        try dsimp only [Sum.elim_inl, Sum.elim_inr, jt2, jt3, jt4, jt5, jt6, jt7, jt8] at r9
        obtain ⟨ac6, mr6, fs6⟩ := r9
        try simp (disch := omega) only [jst_eq, jst_ne, jst_ni, jI_i, jcmp_lt, jcmp_gt, w32_id, jcpy_out, Sum.elim_inl, Sum.elim_inr, jt2, jt3, jt4, jt5, jt6, jt7, jt8] at ac6
        try simp (disch := omega) only [jst_eq, jst_ne, jst_ni, jI_i, jcmp_lt, jcmp_gt, w32_id, jcpy_out, Sum.elim_inl, Sum.elim_inr, jt2, jt3, jt4, jt5, jt6, jt7, jt8] at mr6
        try simp (disch := omega) only [jst_eq, jst_ne, jst_ni, jI_i, jcmp_lt, jcmp_gt, w32_id, jcpy_out, Sum.elim_inl, Sum.elim_inr, jt2, jt3, jt4, jt5, jt6, jt7, jt8] at fs6
        have FR35 : fR h h35 := fR_t FR16 fs6
        have a35 := akM_0 mr6.1
        have WT := (⟨tq.1.1.2.2.2.2.1, wOK_ty a35.1.2.2.1⟩ : acE E ∧ wTy E W)
        have ac61 := ac6.1
        have HA := hd_ac tq.1 (h := (kA K).1 + y34) (by omega) (by omega) ac6.2.1
        have ye : (kA K).1 + y34 - (kA K).1 = y34 := by omega
        have HT := hw_tw (w := w) (h := (kA K).1 + y34) tq.1 WT tq.2.1 ⟨q1.1, q1.2.1⟩ w0 (by omega) (by omega)
        have SS := sumN_s (g := hwC E W (kP K) (kA K) (LV E W (kP K) (kA K) p) (ct E W (kP K) (kA K)) w a1) (a := (kA K).1 + y34) (by omega)
        have HW1 : hwC E W (kP K) (kA K) (LV E W (kP K) (kA K) p) (ct E W (kP K) (kA K)) w a1 ((kA K).1 + y34) = rsW E W (kP K) (LV E W (kP K) (kA K) p) (ct E W (kP K) (kA K)) ((kA K).2.2.2.2.1 y34) w (eO E ((kA K).2.2.2.2.1 y34)).toNat 0 (a1 - (kA K).2.2.2.2.2.2.2 y34) s0T := by { unfold hwC; rw [cif_n ac6.2.1, cif_y ac6.2.2.1, HA.2.1, ye] }
        rw [ye] at HA
        have HA2 := HA.2
        have ac63 := ac6.2.2.1
        have N35 : h35 454 17 = h 454 17 := FR35 _ _ (by omega) (by omega) (by omega)
        have U35 : h35 454 43 = d := (FR35 _ _ (by omega) (by omega) (by omega)).trans st1.1
        refine OK_jb2 (hF _ _ _ _ _ w d ((kA K).2.2.2.2.1 y34) (by exact mr6) (by exact HA.1) (by omega) (by exact ⟨rowM_R rx.1 FR35, rx.2.1, rx.2.2⟩) (by exact ⟨⟨U35, st1.2.1, by omega⟩, lnW_o st.2.1 (fR_o (d := 0) FR35 (by decide)) (Int.le_refl _), by omega, by omega⟩) (by (rw [← HW1]; have s1 := ac6.2.2.2.1; have s2 := ac6.2.2.2.2.1; have s3 := ac6.2.2.2.2.2; rw [SS] at s2; omega))) (fun v37 h38 r10 => ?_)
        try dsimp only [Sum.elim_inl, Sum.elim_inr, jt2, jt3, jt4, jt5, jt6, jt7, jt8] at r10
        obtain ⟨dd7, mr7, fs7, us7⟩ := r10
        try simp (disch := omega) only [jst_eq, jst_ne, jst_ni, jI_i, jcmp_lt, jcmp_gt, w32_id, jcpy_out, Sum.elim_inl, Sum.elim_inr, jt2, jt3, jt4, jt5, jt6, jt7, jt8] at dd7
        try simp (disch := omega) only [jst_eq, jst_ne, jst_ni, jI_i, jcmp_lt, jcmp_gt, w32_id, jcpy_out, Sum.elim_inl, Sum.elim_inr, jt2, jt3, jt4, jt5, jt6, jt7, jt8] at mr7
        try simp (disch := omega) only [jst_eq, jst_ne, jst_ni, jI_i, jcmp_lt, jcmp_gt, w32_id, jcpy_out, Sum.elim_inl, Sum.elim_inr, jt2, jt3, jt4, jt5, jt6, jt7, jt8] at fs7
        try simp (disch := omega) only [jst_eq, jst_ne, jst_ni, jI_i, jcmp_lt, jcmp_gt, w32_id, jcpy_out, Sum.elim_inl, Sum.elim_inr, jt2, jt3, jt4, jt5, jt6, jt7, jt8] at us7
        have PM35 : pm h35 = pm h := pm_f (fun a s y => FR35 a s (by omega) (by omega) (by omega))
        refine OK_some ?_
        try dsimp only [Sum.elim_inl, Sum.elim_inr, jt2, jt3, jt4, jt5, jt6, jt7, jt8]
        try dsimp only [Sum.elim_inl, Sum.elim_inr, jt2, jt3, jt4, jt5, jt6, jt7, jt8]
        refine ⟨?_, ?_, ?_, ?_⟩
        · (obtain ⟨R, f, z1, z2, z3⟩ := dd7; exact ⟨R, f, ⟨(kA K).1 + y34, by omega, by omega, ac6.2.2.2.1, ac6.2.2.2.2.1, Or.inr ⟨ac6.2.1, ac6.2.2.1, by (rw [HA.2.1, ye, ← ac6.2.2.2.2.2]; exact z1)⟩⟩, by (rw [← PM35]; exact z2), z3⟩) -- o38 e3.1
        · exact mr7 -- o39 e3.2
        · exact fMo_t (fR_o FR35 (by omega)) fs7 -- o40 e3.3
        · exact us7 -- o41 e3.4
      · skip
        have r11 := r8; clear r8
        dsimp only [Sum.elim_inl, Sum.elim_inr] at r11
        try dsimp only [Sum.elim_inl, Sum.elim_inr, jt2, jt3, jt4, jt5, jt6, jt7, jt8] at r11
        have no8 := r11
        clear r11
        try simp (disch := omega) only [jst_eq, jst_ne, jst_ni, jI_i, jcmp_lt, jcmp_gt, w32_id, jcpy_out, Sum.elim_inl, Sum.elim_inr, jt2, jt3, jt4, jt5, jt6, jt7, jt8] at no8
        refine OK_jmr ?_
        refine OK_some ?_
        try dsimp only [Sum.elim_inl, Sum.elim_inr, jt2, jt3, jt4, jt5, jt6, jt7, jt8]
        try dsimp only [Sum.elim_inl, Sum.elim_inr, jt2, jt3, jt4, jt5, jt6, jt7, jt8]
        refine ⟨?_, ?_, ?_, ?_⟩
        · (first | assumption | omega | ((try dsimp only [jt2, jt3, jt4]); first | omega | (simp (disch := omega) only [jst_eq, jst_ne, jst_ni, jst_o, jI_i, jcpy_out, w32_id, jdiv_nn, jshr_k, jand_255] <;> first | done | omega | assumption)) | (intros; simp (disch := omega) only [jst_eq, jst_ne, jst_ni, jst_o, jI_i, jcpy_out, w32_id, jdiv_nn, *] <;> first | done | omega) | (intros; simp (disch := omega) only [jst_eq, jst_ne, jst_ni, jst_o, jI_i, jcpy_out, w32_id, jdiv_nn] at * <;> first | done | omega | assumption) | (intros; first | rfl | (exfalso; omega) | ((repeat' apply And.intro) <;> first | assumption | rfl | omega | trivial))) -- o42 e4.1
        · (first | assumption | omega | ((try dsimp only [jt2, jt3, jt4]); first | omega | (simp (disch := omega) only [jst_eq, jst_ne, jst_ni, jst_o, jI_i, jcpy_out, w32_id, jdiv_nn, jshr_k, jand_255] <;> first | done | omega | assumption)) | (intros; simp (disch := omega) only [jst_eq, jst_ne, jst_ni, jst_o, jI_i, jcpy_out, w32_id, jdiv_nn, *] <;> first | done | omega) | (intros; simp (disch := omega) only [jst_eq, jst_ne, jst_ni, jst_o, jI_i, jcpy_out, w32_id, jdiv_nn] at * <;> first | done | omega | assumption) | (intros; first | rfl | (exfalso; omega) | ((repeat' apply And.intro) <;> first | assumption | rfl | omega | trivial))) -- o43 e4.2
        · (first | assumption | omega | ((try dsimp only [jt2, jt3, jt4]); first | omega | (simp (disch := omega) only [jst_eq, jst_ne, jst_ni, jst_o, jI_i, jcpy_out, w32_id, jdiv_nn, jshr_k, jand_255] <;> first | done | omega | assumption)) | (intros; simp (disch := omega) only [jst_eq, jst_ne, jst_ni, jst_o, jI_i, jcpy_out, w32_id, jdiv_nn, *] <;> first | done | omega) | (intros; simp (disch := omega) only [jst_eq, jst_ne, jst_ni, jst_o, jI_i, jcpy_out, w32_id, jdiv_nn] at * <;> first | done | omega | assumption) | (intros; first | rfl | (exfalso; omega) | ((repeat' apply And.intro) <;> first | assumption | rfl | omega | trivial))) -- o44 e4.3
        · (first | assumption | omega | ((try dsimp only [jt2, jt3, jt4]); first | omega | (simp (disch := omega) only [jst_eq, jst_ne, jst_ni, jst_o, jI_i, jcpy_out, w32_id, jdiv_nn, jshr_k, jand_255] <;> first | done | omega | assumption)) | (intros; simp (disch := omega) only [jst_eq, jst_ne, jst_ni, jst_o, jI_i, jcpy_out, w32_id, jdiv_nn, *] <;> first | done | omega) | (intros; simp (disch := omega) only [jst_eq, jst_ne, jst_ni, jst_o, jI_i, jcpy_out, w32_id, jdiv_nn] at * <;> first | done | omega | assumption) | (intros; first | rfl | (exfalso; omega) | ((repeat' apply And.intro) <;> first | assumption | rfl | omega | trivial))) -- o45 e4.4

