/-! x: the i-th term of a price -/
theorem vX5_ith_j95_8 {F : Int → Int → Int → AH → Option (Int × AH)} (a1 : Int) (a2 : Int) (a6 : Int) (a7 : Int) (a8 : Int) {h : AH} {E : EV} {Rf : Int → TR} {W : Int → Int → Int → VW} {A : AD} {pts wh : Int} {rv : Int → Int} {M : Int → (Int → Int) → Prop} {T : TB} {n : Nat} {w : Int → Int} {p U : Int} (jx : JXq h E Rf W A pts wh rv M T n) (tq : TQ E W pts A n T) (q1 : 1 ≤ a1 ∧ a1 ≤ n) (rx : rowX h a2 U w T) (st : (h 307 20 = p ∧ 0 ≤ p ∧ p < 9223372036854775808) ∧ h 307 19 = U ∧ U ≤ 4800) (lf : (0 ≤ a6 ∧ a6 < A.1 + A.2.2.2.1) ∧ iLf A a6 ∧ a8 = prL A a6 ∧ a7 = a6 - A.1) : OK (gX5_ith_j95_8 F a1 a2 a6 a7 a8 h) (Sum.elim (fun r => jt2 r fun x h' => (x = a6 + 1 ∧ hwC E W pts A T (ct E W pts A) w a1 a6 ≤ p ∧ h' 307 20 = p - hwC E W pts A T (ct E W pts A) w a1 a6) ∧ (JXq h' E Rf W A pts wh rv M T n) ∧ (fJx U h h' ∧ h' 307 19 = U ∧ pj h' = pj h)) (Sum.elim (fun r => jt4 r fun x y z h' => ((x = a6 ∧ y = a7 ∧ z = ixL pts A T a6) ∧ prL A a6 = a1 ∧ h' 307 20 = p ∧ p < hwC E W pts A T (ct E W pts A) w a1 a6) ∧ (JXq h' E Rf W A pts wh rv M T n) ∧ (fJx U h h' ∧ h' 307 19 = U ∧ pj h' = pj h)) (Sum.elim (fun r => jt2 r fun x h' => (0 : Int) = 1) (fun h' => (0 : Int) = 1)))) := by
  have NP := jx.1.2.2.2.1
  have A3 := jx.1.2.1
  have T120 := jx.2.1.1
  have w36 : w32 (a6 + 1) = a6 + 1 := w32_id (by omega) (by omega)
  unfold gX5_ith_j95_8
  refine OK_if (fun c1 => ?_) (fun c1 => ?_)
  · skip
    try simp (disch := omega) only [jst_eq, jst_ne, jst_ni, jI_i, jcmp_lt, jcmp_gt, w32_id, jcpy_out, Sum.elim_inl, Sum.elim_inr, jt2, jt3, jt4, jt5, jt6, jt7, jt8] at c1
    have HH := hasT_e tq.2.1 (lf_has tq.1 lf.1.1 lf.1.2 lf.2.1 (by omega))
    have IX := ixT_h HH
    have HW : hwC E W pts A T (ct E W pts A) w a1 a6 = w (ixL pts A T a6) := by { unfold hwC; rw [cif_y lf.2.1, cif_y (by omega)] }
    refine OK_jb2 (vX5_leafFunction (E := E) (Rf := Rf) (W := W) (f := fun _ _ _ => 0) (A := A) (pts := pts) (wh := wh) (rv := rv) (M := M) (T := T) _ (by exact jx.1) (by exact jx.2.1) (by exact lf.1) (by exact HH)) (fun v32 h33 r1 => ?_)
    try dsimp only [Sum.elim_inl, Sum.elim_inr, jt2, jt3, jt4, jt5, jt6, jt7, jt8] at r1
    obtain ⟨lv1, fs1⟩ := r1
    try simp (disch := omega) only [jst_eq, jst_ne, jst_ni, jI_i, jcmp_lt, jcmp_gt, w32_id, jcpy_out, Sum.elim_inl, Sum.elim_inr, jt2, jt3, jt4, jt5, jt6, jt7, jt8] at lv1
    try simp (disch := omega) only [jst_eq, jst_ne, jst_ni, jI_i, jcmp_lt, jcmp_gt, w32_id, jcpy_out, Sum.elim_inl, Sum.elim_inr, jt2, jt3, jt4, jt5, jt6, jt7, jt8] at fs1
    have G33 := fG_3 fs1.2.1
    have J2 := JX_G jx G33 fs1.1 fs1.2.2
    have LVE : v32 = ixL pts A T a6 := by { first | exact lv1 | assumption }
    have IXr : 0 ≤ ixL pts A T a6 ∧ ixL pts A T a6 < T.1 := ⟨IX.1, IX.2.1⟩
    have wa : w32 (a2 + v32) = a2 + v32 := w32_id (by have := rx.1; omega) (by have := rx.1; omega)
    have R33 : h33 322 (a2 + v32) = w (ixL pts A T a6) := by { rw [G33 _ _ (by omega) (by omega) (by omega) (by omega), LVE]; exact rx.2.1 _ IXr.1 IXr.2 }
    have P33 : h33 307 20 = p := by { rw [G33 _ _ (by omega) (by omega) (by omega) (by omega)]; exact st.1.1 }
    have W0 := rx.2.2 (ixL pts A T a6)
    have rx1 := rx.1
    rw [wa, R33, P33]
    refine OK_jg (by (first | assumption | omega | ((try dsimp only [jt2, jt3, jt4]); first | omega | (simp (disch := omega) only [jst_eq, jst_ne, jst_ni, jst_o, jI_i, jcpy_out, w32_id, jdiv_nn, jshr_k, jand_255] <;> first | done | omega | assumption)) | (intros; simp (disch := omega) only [jst_eq, jst_ne, jst_ni, jst_o, jI_i, jcpy_out, w32_id, jdiv_nn, *] <;> first | done | omega) | (intros; simp (disch := omega) only [jst_eq, jst_ne, jst_ni, jst_o, jI_i, jcpy_out, w32_id, jdiv_nn] at * <;> first | done | omega | assumption) | (intros; first | rfl | (exfalso; omega) | ((repeat' apply And.intro) <;> first | assumption | rfl | omega | trivial)))) ?_ -- o5
    refine OK_if (fun c2 => ?_) (fun c2 => ?_)
    · skip
      try simp (disch := omega) only [jst_eq, jst_ne, jst_ni, jI_i, jcmp_lt, jcmp_gt, w32_id, jcpy_out, Sum.elim_inl, Sum.elim_inr, jt2, jt3, jt4, jt5, jt6, jt7, jt8] at c2
      have c2w := jcmp_ge.1 c2
      refine OK_jl ?_
      unfold gX5_ith_j235_8
      refine OK_jlx (fun x36 ex36 => ?_)
      try simp (disch := omega) only [jst_eq, jst_ne, jst_ni, jI_i, jcmp_lt, jcmp_gt, w32_id, jcpy_out, Sum.elim_inl, Sum.elim_inr, jt2, jt3, jt4, jt5, jt6, jt7, jt8] at ex36
      refine OK_some ?_
      try dsimp only [Sum.elim_inl, Sum.elim_inr, jt2, jt3, jt4, jt5, jt6, jt7, jt8]
      try dsimp only [Sum.elim_inl, Sum.elim_inr, jt2, jt3, jt4, jt5, jt6, jt7, jt8]
      refine ⟨?_, ?_, ?_⟩
      · (refine ⟨by omega, by (rw [HW]; exact c2w), ?_⟩; rw [HW]; exact jst_eq.trans (w64_id (by omega) (by omega))) -- o6 e1.1
      · exact JX_n J2 (fun a s y1 y2 => jst_o (by omega)) -- o7 e1.2
      · exact ⟨fJ_t (fJ_W (fG_W G33)) (fun a s y1 y2 y3 y4 y5 y6 => jst_o (by omega)), by (rw [jst_o (by omega), G33 _ _ (by omega) (by omega) (by omega) (by omega)]; exact st.2.1), (pj_f (fun a s a0 a1 => jst_o (by omega))).trans (fWx_pj (lo := U) (fG_W G33))⟩ -- o8 e1.3
    · skip
      try simp (disch := omega) only [jst_eq, jst_ne, jst_ni, jI_i, jcmp_lt, jcmp_gt, w32_id, jcpy_out, Sum.elim_inl, Sum.elim_inr, jt2, jt3, jt4, jt5, jt6, jt7, jt8] at c2
      have c2w : ¬ w (ixL pts A T a6) ≤ p := fun y => c2 (jcmp_ge.2 y)
      refine OK_some ?_
      try dsimp only [Sum.elim_inl, Sum.elim_inr, jt2, jt3, jt4, jt5, jt6, jt7, jt8]
      try dsimp only [Sum.elim_inl, Sum.elim_inr, jt2, jt3, jt4, jt5, jt6, jt7, jt8]
      refine ⟨?_, ?_, ?_⟩
      · exact ⟨⟨rfl, rfl, LVE⟩, by omega, P33, by (rw [HW]; omega)⟩ -- o9 e2.1
      · exact J2 -- o10 e2.2
      · exact ⟨fJ_W (fG_W G33), by (rw [G33 _ _ (by omega) (by omega) (by omega) (by omega)]; exact st.2.1), fWx_pj (lo := U) (fG_W G33)⟩ -- o11 e2.3
  · skip
    try simp (disch := omega) only [jst_eq, jst_ne, jst_ni, jI_i, jcmp_lt, jcmp_gt, w32_id, jcpy_out, Sum.elim_inl, Sum.elim_inr, jt2, jt3, jt4, jt5, jt6, jt7, jt8] at c1
    have HW : hwC E W pts A T (ct E W pts A) w a1 a6 = 0 := by { unfold hwC; rw [cif_y lf.2.1, cif_n (by omega)] }
    unfold gX5_ith_j235_8
    refine OK_jlx (fun x36 ex36 => ?_)
    try simp (disch := omega) only [jst_eq, jst_ne, jst_ni, jI_i, jcmp_lt, jcmp_gt, w32_id, jcpy_out, Sum.elim_inl, Sum.elim_inr, jt2, jt3, jt4, jt5, jt6, jt7, jt8] at ex36
    refine OK_some ?_
    try dsimp only [Sum.elim_inl, Sum.elim_inr, jt2, jt3, jt4, jt5, jt6, jt7, jt8]
    try dsimp only [Sum.elim_inl, Sum.elim_inr, jt2, jt3, jt4, jt5, jt6, jt7, jt8]
    refine ⟨?_, ?_, ?_⟩
    · exact ⟨by omega, by (rw [HW]; exact st.1.2.1), by (rw [HW, Int.sub_zero]; exact st.1.1)⟩ -- o12 e3.1
    · exact jx -- o13 e3.2
    · exact ⟨fJ_r _, st.2.1, rfl⟩ -- o14 e3.3
theorem vX5_ith_l8 {F : Int → Int → Int → AH → Option (Int × AH)} (i1 : Int) (i2 : Int) (a60 : Int) {h0 : AH} {E : EV} {Rf : Int → TR} {W : Int → Int → Int → VW} {A : AD} {pts wh : Int} {rv : Int → Int} {M : Int → (Int → Int) → Prop} {T : TB} {n D : Nat} {w : Int → Int} {i U : Int} (hF : ITX E Rf W A pts wh rv M T n F D) (jx : JXq h0 E Rf W A pts wh rv M T n) (tq : TQ E W pts A n T) (q1 : 1 ≤ i1 ∧ i1 ≤ n ∧ i1 ≤ D + 1) (rx : rowX h0 i2 U w T) (st : stX2 h0 i U (i1 - 1) i1) (tb : i < twC E W pts A T w i1 ∧ twC E W pts A T w i1 < 9223372036854775808) (z : a60 = 0) : OK (gX5_ith_l8 F i1 i2 a60 h0) (Sum.elim (fun r => jt4 r fun y6 y7 y8 h' => ((0 ≤ y6 ∧ y6 < A.1 + A.2.2.2.1) ∧ iLf A y6 ∧ prL A y6 = i1 ∧ y7 = y6 - A.1 ∧ y8 = ixL pts A T y6 ∧ sumN (hwC E W pts A T (ct E W pts A) w i1) y6.toNat ≤ i ∧ i < sumN (hwC E W pts A T (ct E W pts A) w i1) (y6 + 1).toNat ∧ h' 307 20 = i - sumN (hwC E W pts A T (ct E W pts A) w i1) y6.toNat) ∧ (JXq h' E Rf W A pts wh rv M T n) ∧ (fJx U h0 h' ∧ h' 307 19 = U ∧ pj h' = pj h0)) (Sum.elim (fun r => jt2 r fun v h' => (0 ≤ v ∧ ∃ R f r, itR E W pts A T (ct E W pts A) (D + 1) i1 w i R f r ∧ poC 324 R (pj h0) v (pj h') ∧ h' 307 21 = f ∧ h' 307 20 = r) ∧ (JXq h' E Rf W A pts wh rv M T n) ∧ (fJx U h0 h' ∧ h' 307 19 = U)) (fun h' => (0 : Int) = 1))) := by
  unfold gX5_ith_l8
  refine OK_jit (I := (fun (s : Int × AH) => jt2 s fun a6 h => (0 ≤ a6 ∧ a6 ≤ A.1 + A.2.2.2.1) ∧ (sumN (hwC E W pts A T (ct E W pts A) w i1) a6.toNat ≤ i ∧ h 307 20 = i - sumN (hwC E W pts A T (ct E W pts A) w i1) a6.toNat) ∧ (JXq h E Rf W A pts wh rv M T n) ∧ (fJx U h0 h ∧ h 307 19 = U ∧ pj h = pj h0))) (m := (fun (s : Int × AH) => jt2 s fun a6 h => (A.1 + A.2.2.2.1 - a6).toNat)) ?_ ?_
  · intro s hs
    obtain ⟨a6, h⟩ := s
    dsimp only [Sum.elim_inl, Sum.elim_inr, jt2, jt3, jt4, jt5, jt6, jt7, jt8] at hs
    obtain ⟨q0, qs, JJ, fr⟩ := hs
    unfold gX5_ith_b8
    refine OK_jt2 ?_
    have SE := JJ.1
    have NP := SE.2.2.2.1
    have A3 := SE.2.1
    have T120 := JJ.2.1.1
    have n12 := tq.1.1
    have WT := (⟨SE.1.2.1.2.1, wOK_ty SE.1.2.1.2.2.1⟩ : acE E ∧ wTy E W)
    have W1 : w32 (h (h 200 16) 1 + h (h 200 16) 3) = A.1 + A.2.2.2.1 := by { rw [w32_id (by omega) (by omega)]; omega }
    have S0 : 0 ≤ sumN (hwC E W pts A T (ct E W pts A) w i1) a6.toNat := sumN_n (fun j _ => hwC_0 ct_0 rx.2.2 i1 j) _
    refine OK_if (fun c1 => ?_) (fun c1 => ?_)
    · skip
      try simp (disch := omega) only [jst_eq, jst_ne, jst_ni, jI_i, jcmp_lt, jcmp_gt, w32_id, jcpy_out, Sum.elim_inl, Sum.elim_inr, jt2, jt3, jt4, jt5, jt6, jt7, jt8] at c1
      have TE : twC E W pts A T w i1 = sumN (hwC E W pts A T (ct E W pts A) w i1) a6.toNat := by { have e := tw_h (w := w) (TQ_le tq WT (m := i1.toNat) (by omega) (by omega)) JJ.2.1.2.2.2.2; rw [show ((i1.toNat : Nat) : Int) = i1 by omega, show (A.1 + A.2.2.2.1).toNat = a6.toNat by omega] at e; exact e }
      refine OK_ir ?_
      (have t1 := tb.1; rw [TE] at t1; omega) -- o1 e1
    · skip
      try simp (disch := omega) only [jst_eq, jst_ne, jst_ni, jI_i, jcmp_lt, jcmp_gt, w32_id, jcpy_out, Sum.elim_inl, Sum.elim_inr, jt2, jt3, jt4, jt5, jt6, jt7, jt8] at c1
      have HT := hw_tw (w := w) (h := a6) tq WT JJ.2.1.2.2.2.2 ⟨q1.1, q1.2.1⟩ rx.2.2 q0.1 (by omega)
      have H0 := hwC_0 (E := E) (W := W) (pts := pts) (A := A) (L := T) (c := ct E W pts A) ct_0 rx.2.2 i1 a6
      have w36 : w32 (a6 + 1) = a6 + 1 := w32_id (by omega) (by omega)
      have SS := sumN_s (g := hwC E W pts A T (ct E W pts A) w i1) q0.1
      have RX := rowX_J T120 rx fr.1 (Int.le_refl _)
      have st1 := st.1
      have st2 := st.2.1
      have st4 := st.2.2.2
      have P0 : pj h 324 0 = pj h0 324 0 := by { rw [fr.2.2] }
      have P1 : h 324 0 = h0 324 0 := by { rw [pj_i (by decide), pj_i (by decide)] at P0; exact P0 }
      refine OK_jlx (fun x21 ex21 => ?_)
      try simp (disch := omega) only [jst_eq, jst_ne, jst_ni, jI_i, jcmp_lt, jcmp_gt, w32_id, jcpy_out, Sum.elim_inl, Sum.elim_inr, jt2, jt3, jt4, jt5, jt6, jt7, jt8] at ex21
      have X21 : x21 = a6 - A.1 := by { first | omega | (rw [ex21, w32_id (by omega) (by omega)]; omega) }
      refine OK_if (fun c2 => ?_) (fun c2 => ?_)
      · skip
        try simp (disch := omega) only [jst_eq, jst_ne, jst_ni, jI_i, jcmp_lt, jcmp_gt, w32_id, jcpy_out, Sum.elim_inl, Sum.elim_inr, jt2, jt3, jt4, jt5, jt6, jt7, jt8] at c2
        have NK := NP.2.2.2 x21 (by omega) (by omega)
        have PR : prL A a6 = A.2.2.2.2.2.2.2 x21 := by { unfold prL; rw [if_neg (by omega), X21] }
        refine OK_jg (by (first | assumption | omega | ((try dsimp only [jt2, jt3, jt4]); first | omega | (simp (disch := omega) only [jst_eq, jst_ne, jst_ni, jst_o, jI_i, jcpy_out, w32_id, jdiv_nn, jshr_k, jand_255] <;> first | done | omega | assumption)) | (intros; simp (disch := omega) only [jst_eq, jst_ne, jst_ni, jst_o, jI_i, jcpy_out, w32_id, jdiv_nn, *] <;> first | done | omega) | (intros; simp (disch := omega) only [jst_eq, jst_ne, jst_ni, jst_o, jI_i, jcpy_out, w32_id, jdiv_nn] at * <;> first | done | omega | assumption) | (intros; first | rfl | (exfalso; omega) | ((repeat' apply And.intro) <;> first | assumption | rfl | omega | trivial)))) ?_ -- o2
        unfold gX5_ith_j71_8
        refine OK_if (fun c3 => ?_) (fun c3 => ?_)
        · skip
          try simp (disch := omega) only [jst_eq, jst_ne, jst_ni, jI_i, jcmp_lt, jcmp_gt, w32_id, jcpy_out, Sum.elim_inl, Sum.elim_inr, jt2, jt3, jt4, jt5, jt6, jt7, jt8] at c3
          exfalso
          omega
        · skip
          try simp (disch := omega) only [jst_eq, jst_ne, jst_ni, jI_i, jcmp_lt, jcmp_gt, w32_id, jcpy_out, Sum.elim_inl, Sum.elim_inr, jt2, jt3, jt4, jt5, jt6, jt7, jt8] at c3
          refine OK_jg (by (first | assumption | omega | ((try dsimp only [jt2, jt3, jt4]); first | omega | (simp (disch := omega) only [jst_eq, jst_ne, jst_ni, jst_o, jI_i, jcpy_out, w32_id, jdiv_nn, jshr_k, jand_255] <;> first | done | omega | assumption)) | (intros; simp (disch := omega) only [jst_eq, jst_ne, jst_ni, jst_o, jI_i, jcpy_out, w32_id, jdiv_nn, *] <;> first | done | omega) | (intros; simp (disch := omega) only [jst_eq, jst_ne, jst_ni, jst_o, jI_i, jcpy_out, w32_id, jdiv_nn] at * <;> first | done | omega | assumption) | (intros; first | rfl | (exfalso; omega) | ((repeat' apply And.intro) <;> first | assumption | rfl | omega | trivial)))) ?_ -- o3
          refine OK_if (fun c4 => ?_) (fun c4 => ?_)
          · skip
            try simp (disch := omega) only [jst_eq, jst_ne, jst_ni, jI_i, jcmp_lt, jcmp_gt, w32_id, jcpy_out, Sum.elim_inl, Sum.elim_inr, jt2, jt3, jt4, jt5, jt6, jt7, jt8] at c4
            have LF : iLf A a6 := Or.inr (by rw [← X21, ← NK.1]; assumption)
            refine OK_mono (vX5_ith_j95_8 (E := E) (Rf := Rf) (W := W) (A := A) (pts := pts) (wh := wh) (rv := rv) (M := M) (T := T) (n := n) (w := w) (p := i - sumN (hwC E W pts A T (ct E W pts A) w i1) a6.toNat) (U := U) _ _ _ _ _ (by exact JJ) (by exact tq) (by exact ⟨q1.1, q1.2.1⟩) (by exact RX) (by exact ⟨⟨qs.2, by omega, by omega⟩, fr.2.1, by omega⟩) (by exact ⟨⟨q0.1, by omega⟩, LF, by omega, X21⟩)) (fun r r1 => ?_)
            rcases r with r | r
            · skip
              have r2 := r1; clear r1; dsimp only [Sum.elim_inl, Sum.elim_inr] at r2
              obtain ⟨y1, y2⟩ := r
              try dsimp only [Sum.elim_inl, Sum.elim_inr, jt2, jt3, jt4, jt5, jt6, jt7, jt8] at r2
              obtain ⟨nx1, jj1, fs1⟩ := r2
              try simp (disch := omega) only [jst_eq, jst_ne, jst_ni, jI_i, jcmp_lt, jcmp_gt, w32_id, jcpy_out, Sum.elim_inl, Sum.elim_inr, jt2, jt3, jt4, jt5, jt6, jt7, jt8] at nx1
              try simp (disch := omega) only [jst_eq, jst_ne, jst_ni, jI_i, jcmp_lt, jcmp_gt, w32_id, jcpy_out, Sum.elim_inl, Sum.elim_inr, jt2, jt3, jt4, jt5, jt6, jt7, jt8] at jj1
              try simp (disch := omega) only [jst_eq, jst_ne, jst_ni, jI_i, jcmp_lt, jcmp_gt, w32_id, jcpy_out, Sum.elim_inl, Sum.elim_inr, jt2, jt3, jt4, jt5, jt6, jt7, jt8] at fs1
              try dsimp only [Sum.elim_inl, Sum.elim_inr, jt2, jt3, jt4, jt5, jt6, jt7, jt8]
              refine ⟨?_, ?_⟩
              · try dsimp only [Sum.elim_inl, Sum.elim_inr, jt2, jt3, jt4, jt5, jt6, jt7, jt8]
                refine ⟨?_, ?_, ?_, ?_⟩
                · (rw [nx1.1]; omega) -- o10 e2i.1
                · (rw [nx1.1, SS]; omega) -- o11 e2i.2
                · exact jj1 -- o12 e2i.3
                · exact ⟨fJ_t fr.1 fs1.1, fs1.2.1, fs1.2.2.trans fr.2.2⟩ -- o13 e2i.4
              · (rw [nx1.1]; omega) -- o14 e2m
            · skip
              have r3 := r1; clear r1; dsimp only [Sum.elim_inl, Sum.elim_inr] at r3
              rcases r with r | r
              · skip
                have r4 := r3; clear r3; dsimp only [Sum.elim_inl, Sum.elim_inr] at r4
                obtain ⟨y3, y4, y5, y6⟩ := r
                try dsimp only [Sum.elim_inl, Sum.elim_inr, jt2, jt3, jt4, jt5, jt6, jt7, jt8] at r4
                obtain ⟨fd2, jj2, fs2⟩ := r4
                try simp (disch := omega) only [jst_eq, jst_ne, jst_ni, jI_i, jcmp_lt, jcmp_gt, w32_id, jcpy_out, Sum.elim_inl, Sum.elim_inr, jt2, jt3, jt4, jt5, jt6, jt7, jt8] at fd2
                try simp (disch := omega) only [jst_eq, jst_ne, jst_ni, jI_i, jcmp_lt, jcmp_gt, w32_id, jcpy_out, Sum.elim_inl, Sum.elim_inr, jt2, jt3, jt4, jt5, jt6, jt7, jt8] at jj2
                try simp (disch := omega) only [jst_eq, jst_ne, jst_ni, jI_i, jcmp_lt, jcmp_gt, w32_id, jcpy_out, Sum.elim_inl, Sum.elim_inr, jt2, jt3, jt4, jt5, jt6, jt7, jt8] at fs2
                try dsimp only [Sum.elim_inl, Sum.elim_inr, jt2, jt3, jt4, jt5, jt6, jt7, jt8]
                try dsimp only [Sum.elim_inl, Sum.elim_inr, jt2, jt3, jt4, jt5, jt6, jt7, jt8]
                refine ⟨?_, ?_, ?_⟩
                · (rw [fd2.1.1, fd2.1.2.1, fd2.1.2.2]; exact ⟨⟨q0.1, by omega⟩, LF, fd2.2.1, X21, rfl, qs.1, by (rw [SS]; omega), fd2.2.2.1⟩) -- o15 e3.1
                · exact jj2 -- o16 e3.2
                · exact ⟨fJ_t fr.1 fs2.1, fs2.2.1, fs2.2.2.trans fr.2.2⟩ -- o17 e3.3
              · skip
                have r5 := r3; clear r3; dsimp only [Sum.elim_inl, Sum.elim_inr] at r5
                rcases r with r | r
                · skip
                  have r6 := r5; clear r5; dsimp only [Sum.elim_inl, Sum.elim_inr] at r6
                  obtain ⟨y7, y8⟩ := r
                  try dsimp only [Sum.elim_inl, Sum.elim_inr, jt2, jt3, jt4, jt5, jt6, jt7, jt8] at r6
                  have no3 := r6
                  clear r6
                  try simp (disch := omega) only [jst_eq, jst_ne, jst_ni, jI_i, jcmp_lt, jcmp_gt, w32_id, jcpy_out, Sum.elim_inl, Sum.elim_inr, jt2, jt3, jt4, jt5, jt6, jt7, jt8] at no3
                  try dsimp only [Sum.elim_inl, Sum.elim_inr, jt2, jt3, jt4, jt5, jt6, jt7, jt8]
                  try dsimp only [Sum.elim_inl, Sum.elim_inr, jt2, jt3, jt4, jt5, jt6, jt7, jt8]
                  refine ⟨?_, ?_, ?_⟩
                  · (first | assumption | omega | ((try dsimp only [jt2, jt3, jt4]); first | omega | (simp (disch := omega) only [jst_eq, jst_ne, jst_ni, jst_o, jI_i, jcpy_out, w32_id, jdiv_nn, jshr_k, jand_255] <;> first | done | omega | assumption)) | (intros; simp (disch := omega) only [jst_eq, jst_ne, jst_ni, jst_o, jI_i, jcpy_out, w32_id, jdiv_nn, *] <;> first | done | omega) | (intros; simp (disch := omega) only [jst_eq, jst_ne, jst_ni, jst_o, jI_i, jcpy_out, w32_id, jdiv_nn] at * <;> first | done | omega | assumption) | (intros; first | rfl | (exfalso; omega) | ((repeat' apply And.intro) <;> first | assumption | rfl | omega | trivial))) -- o18 e4.1
                  · (first | assumption | omega | ((try dsimp only [jt2, jt3, jt4]); first | omega | (simp (disch := omega) only [jst_eq, jst_ne, jst_ni, jst_o, jI_i, jcpy_out, w32_id, jdiv_nn, jshr_k, jand_255] <;> first | done | omega | assumption)) | (intros; simp (disch := omega) only [jst_eq, jst_ne, jst_ni, jst_o, jI_i, jcpy_out, w32_id, jdiv_nn, *] <;> first | done | omega) | (intros; simp (disch := omega) only [jst_eq, jst_ne, jst_ni, jst_o, jI_i, jcpy_out, w32_id, jdiv_nn] at * <;> first | done | omega | assumption) | (intros; first | rfl | (exfalso; omega) | ((repeat' apply And.intro) <;> first | assumption | rfl | omega | trivial))) -- o19 e4.2
                  · (first | assumption | omega | ((try dsimp only [jt2, jt3, jt4]); first | omega | (simp (disch := omega) only [jst_eq, jst_ne, jst_ni, jst_o, jI_i, jcpy_out, w32_id, jdiv_nn, jshr_k, jand_255] <;> first | done | omega | assumption)) | (intros; simp (disch := omega) only [jst_eq, jst_ne, jst_ni, jst_o, jI_i, jcpy_out, w32_id, jdiv_nn, *] <;> first | done | omega) | (intros; simp (disch := omega) only [jst_eq, jst_ne, jst_ni, jst_o, jI_i, jcpy_out, w32_id, jdiv_nn] at * <;> first | done | omega | assumption) | (intros; first | rfl | (exfalso; omega) | ((repeat' apply And.intro) <;> first | assumption | rfl | omega | trivial))) -- o20 e4.3
                · skip
                  have r7 := r5; clear r5; dsimp only [Sum.elim_inl, Sum.elim_inr] at r7
                  try dsimp only [Sum.elim_inl, Sum.elim_inr, jt2, jt3, jt4, jt5, jt6, jt7, jt8] at r7
                  have no4 := r7
                  clear r7
                  try simp (disch := omega) only [jst_eq, jst_ne, jst_ni, jI_i, jcmp_lt, jcmp_gt, w32_id, jcpy_out, Sum.elim_inl, Sum.elim_inr, jt2, jt3, jt4, jt5, jt6, jt7, jt8] at no4
                  try dsimp only [Sum.elim_inl, Sum.elim_inr, jt2, jt3, jt4, jt5, jt6, jt7, jt8]
                  (first | assumption | omega | ((try dsimp only [jt2, jt3, jt4]); first | omega | (simp (disch := omega) only [jst_eq, jst_ne, jst_ni, jst_o, jI_i, jcpy_out, w32_id, jdiv_nn, jshr_k, jand_255] <;> first | done | omega | assumption)) | (intros; simp (disch := omega) only [jst_eq, jst_ne, jst_ni, jst_o, jI_i, jcpy_out, w32_id, jdiv_nn, *] <;> first | done | omega) | (intros; simp (disch := omega) only [jst_eq, jst_ne, jst_ni, jst_o, jI_i, jcpy_out, w32_id, jdiv_nn] at * <;> first | done | omega | assumption) | (intros; first | rfl | (exfalso; omega) | ((repeat' apply And.intro) <;> first | assumption | rfl | omega | trivial))) -- o21 e5
          · skip
            try simp (disch := omega) only [jst_eq, jst_ne, jst_ni, jI_i, jcmp_lt, jcmp_gt, w32_id, jcpy_out, Sum.elim_inl, Sum.elim_inr, jt2, jt3, jt4, jt5, jt6, jt7, jt8] at c4
            have NLF : ¬ iLf A a6 := fun y => by (rcases y with y | y; { omega }; { rw [← X21, ← NK.1] at y; exact c4 y })
            have HA := hd_ac tq q0.1 (by omega) NLF
            refine OK_if (fun c5 => ?_) (fun c5 => ?_)
            · skip
              try simp (disch := omega) only [jst_eq, jst_ne, jst_ni, jI_i, jcmp_lt, jcmp_gt, w32_id, jcpy_out, Sum.elim_inl, Sum.elim_inr, jt2, jt3, jt4, jt5, jt6, jt7, jt8] at c5
              have HW : hwC E W pts A T (ct E W pts A) w i1 a6 = rsW E W pts T (ct E W pts A) (A.2.2.2.2.1 (a6 - A.1)) w (eO E (A.2.2.2.2.1 (a6 - A.1))).toNat 0 (i1 - prL A a6) s0T := by { unfold hwC; rw [cif_n NLF, cif_y (by omega)] }
              have WQ : w32 (i1 - h (h 200 16 + 5) x21) = i1 - prL A a6 := by { rw [w32_id (by omega) (by omega)]; omega }
              try rw [WQ]
              have CP := capT_J (by have := rx.1; omega) st.2.2.1 fr.1
              refine OK_jb2 (hF _ _ _ _ w (i - sumN (hwC E W pts A T (ct E W pts A) w i1) a6.toNat) U (A.2.2.2.2.1 (a6 - A.1)) (by exact JJ) (by (rw [X21]; exact HA.1)) (by omega) (by exact RX) (by exact ⟨⟨qs.2, by omega, by omega⟩, ⟨fr.2.1, by omega⟩, CP, by omega, by omega⟩) (by (rw [← HW]; omega))) (fun v27 h28 r8 => ?_)
              try dsimp only [Sum.elim_inl, Sum.elim_inr, jt2, jt3, jt4, jt5, jt6, jt7, jt8] at r8
              obtain ⟨dd5, jj5, fs5, us5⟩ := r8
              try simp (disch := omega) only [jst_eq, jst_ne, jst_ni, jI_i, jcmp_lt, jcmp_gt, w32_id, jcpy_out, Sum.elim_inl, Sum.elim_inr, jt2, jt3, jt4, jt5, jt6, jt7, jt8] at dd5
              try simp (disch := omega) only [jst_eq, jst_ne, jst_ni, jI_i, jcmp_lt, jcmp_gt, w32_id, jcpy_out, Sum.elim_inl, Sum.elim_inr, jt2, jt3, jt4, jt5, jt6, jt7, jt8] at jj5
              try simp (disch := omega) only [jst_eq, jst_ne, jst_ni, jI_i, jcmp_lt, jcmp_gt, w32_id, jcpy_out, Sum.elim_inl, Sum.elim_inr, jt2, jt3, jt4, jt5, jt6, jt7, jt8] at fs5
              try simp (disch := omega) only [jst_eq, jst_ne, jst_ni, jI_i, jcmp_lt, jcmp_gt, w32_id, jcpy_out, Sum.elim_inl, Sum.elim_inr, jt2, jt3, jt4, jt5, jt6, jt7, jt8] at us5
              refine OK_if (fun c6 => ?_) (fun c6 => ?_)
              · skip
                try simp (disch := omega) only [jst_eq, jst_ne, jst_ni, jI_i, jcmp_lt, jcmp_gt, w32_id, jcpy_out, Sum.elim_inl, Sum.elim_inr, jt2, jt3, jt4, jt5, jt6, jt7, jt8] at c6
                have DL := dd5.resolve_right (fun y => by (have := y.1; omega))
                unfold gX5_ith_j235_8
                refine OK_jlx (fun x36 ex36 => ?_)
                try simp (disch := omega) only [jst_eq, jst_ne, jst_ni, jI_i, jcmp_lt, jcmp_gt, w32_id, jcpy_out, Sum.elim_inl, Sum.elim_inr, jt2, jt3, jt4, jt5, jt6, jt7, jt8] at ex36
                refine OK_il ?_ ?_
                · try dsimp only [Sum.elim_inl, Sum.elim_inr, jt2, jt3, jt4, jt5, jt6, jt7, jt8]
                  refine ⟨?_, ?_, ?_, ?_⟩
                  · omega -- o28 e6i.1
                  · (rw [show x36 = a6 + 1 by omega, SS, HW]; exact ⟨by have := DL.2.1; omega, by rw [DL.2.2.1]; omega⟩) -- o29 e6i.2
                  · exact jj5 -- o30 e6i.3
                  · exact ⟨fJ_t fr.1 fs5, us5, DL.2.2.2.trans fr.2.2⟩ -- o31 e6i.4
                · (first | assumption | omega | ((try dsimp only [jt2, jt3, jt4]); first | omega | (simp (disch := omega) only [jst_eq, jst_ne, jst_ni, jst_o, jI_i, jcpy_out, w32_id, jdiv_nn, jshr_k, jand_255] <;> first | done | omega | assumption)) | (intros; simp (disch := omega) only [jst_eq, jst_ne, jst_ni, jst_o, jI_i, jcpy_out, w32_id, jdiv_nn, *] <;> first | done | omega) | (intros; simp (disch := omega) only [jst_eq, jst_ne, jst_ni, jst_o, jI_i, jcpy_out, w32_id, jdiv_nn] at * <;> first | done | omega | assumption) | (intros; first | rfl | (exfalso; omega) | ((repeat' apply And.intro) <;> first | assumption | rfl | omega | trivial))) -- o32 e6m
              · skip
                try simp (disch := omega) only [jst_eq, jst_ne, jst_ni, jI_i, jcmp_lt, jcmp_gt, w32_id, jcpy_out, Sum.elim_inl, Sum.elim_inr, jt2, jt3, jt4, jt5, jt6, jt7, jt8] at c6
                have DR := dd5.resolve_left (fun y => by (have := y.1; omega))
                refine OK_ir ?_
                try dsimp only [Sum.elim_inl, Sum.elim_inr, jt2, jt3, jt4, jt5, jt6, jt7, jt8]
                refine ⟨?_, ?_, ?_⟩
                · (obtain ⟨R, f, r, z1, z2, z3, z4⟩ := DR.2.2; exact ⟨DR.1, R, f, r, ⟨a6, q0.1, by omega, qs.1, by (rw [SS, HW]; have := DR.2.1; omega), Or.inr ⟨NLF, by omega, z1⟩⟩, by (rw [← fr.2.2]; exact z2), z3, z4⟩) -- o33 e7.1
                · exact jj5 -- o34 e7.2
                · exact ⟨fJ_t fr.1 fs5, us5⟩ -- o35 e7.3
            · skip
              try simp (disch := omega) only [jst_eq, jst_ne, jst_ni, jI_i, jcmp_lt, jcmp_gt, w32_id, jcpy_out, Sum.elim_inl, Sum.elim_inr, jt2, jt3, jt4, jt5, jt6, jt7, jt8] at c5
              have HW : hwC E W pts A T (ct E W pts A) w i1 a6 = 0 := by { unfold hwC; rw [cif_n NLF, cif_n (by omega)] }
              unfold gX5_ith_j235_8
              refine OK_jlx (fun x36 ex36 => ?_)
              try simp (disch := omega) only [jst_eq, jst_ne, jst_ni, jI_i, jcmp_lt, jcmp_gt, w32_id, jcpy_out, Sum.elim_inl, Sum.elim_inr, jt2, jt3, jt4, jt5, jt6, jt7, jt8] at ex36
              refine OK_il ?_ ?_
              · try dsimp only [Sum.elim_inl, Sum.elim_inr, jt2, jt3, jt4, jt5, jt6, jt7, jt8]
                refine ⟨?_, ?_, ?_, ?_⟩
                · omega -- o36 e8i.1
                · (rw [show x36 = a6 + 1 by omega, SS, HW, Int.add_zero]; exact qs) -- o37 e8i.2
                · exact JJ -- o38 e8i.3
                · exact fr -- o39 e8i.4
              · (first | assumption | omega | ((try dsimp only [jt2, jt3, jt4]); first | omega | (simp (disch := omega) only [jst_eq, jst_ne, jst_ni, jst_o, jI_i, jcpy_out, w32_id, jdiv_nn, jshr_k, jand_255] <;> first | done | omega | assumption)) | (intros; simp (disch := omega) only [jst_eq, jst_ne, jst_ni, jst_o, jI_i, jcpy_out, w32_id, jdiv_nn, *] <;> first | done | omega) | (intros; simp (disch := omega) only [jst_eq, jst_ne, jst_ni, jst_o, jI_i, jcpy_out, w32_id, jdiv_nn] at * <;> first | done | omega | assumption) | (intros; first | rfl | (exfalso; omega) | ((repeat' apply And.intro) <;> first | assumption | rfl | omega | trivial))) -- o40 e8m
      · skip
        try simp (disch := omega) only [jst_eq, jst_ne, jst_ni, jI_i, jcmp_lt, jcmp_gt, w32_id, jcpy_out, Sum.elim_inl, Sum.elim_inr, jt2, jt3, jt4, jt5, jt6, jt7, jt8] at c2
        have PR : prL A a6 = 1 := if_pos (by omega)
        have LF : iLf A a6 := Or.inl (by omega)
        unfold gX5_ith_j71_8
        refine OK_if (fun c7 => ?_) (fun c7 => ?_)
        · skip
          try simp (disch := omega) only [jst_eq, jst_ne, jst_ni, jI_i, jcmp_lt, jcmp_gt, w32_id, jcpy_out, Sum.elim_inl, Sum.elim_inr, jt2, jt3, jt4, jt5, jt6, jt7, jt8] at c7
          refine OK_mono (vX5_ith_j95_8 (E := E) (Rf := Rf) (W := W) (A := A) (pts := pts) (wh := wh) (rv := rv) (M := M) (T := T) (n := n) (w := w) (p := i - sumN (hwC E W pts A T (ct E W pts A) w i1) a6.toNat) (U := U) _ _ _ _ _ (by exact JJ) (by exact tq) (by exact ⟨q1.1, q1.2.1⟩) (by exact RX) (by exact ⟨⟨qs.2, by omega, by omega⟩, fr.2.1, by omega⟩) (by exact ⟨⟨q0.1, by omega⟩, LF, by omega, X21⟩)) (fun r r9 => ?_)
          rcases r with r | r
          · skip
            have r10 := r9; clear r9; dsimp only [Sum.elim_inl, Sum.elim_inr] at r10
            obtain ⟨y9, y10⟩ := r
            try dsimp only [Sum.elim_inl, Sum.elim_inr, jt2, jt3, jt4, jt5, jt6, jt7, jt8] at r10
            obtain ⟨nx6, jj6, fs6⟩ := r10
            try simp (disch := omega) only [jst_eq, jst_ne, jst_ni, jI_i, jcmp_lt, jcmp_gt, w32_id, jcpy_out, Sum.elim_inl, Sum.elim_inr, jt2, jt3, jt4, jt5, jt6, jt7, jt8] at nx6
            try simp (disch := omega) only [jst_eq, jst_ne, jst_ni, jI_i, jcmp_lt, jcmp_gt, w32_id, jcpy_out, Sum.elim_inl, Sum.elim_inr, jt2, jt3, jt4, jt5, jt6, jt7, jt8] at jj6
            try simp (disch := omega) only [jst_eq, jst_ne, jst_ni, jI_i, jcmp_lt, jcmp_gt, w32_id, jcpy_out, Sum.elim_inl, Sum.elim_inr, jt2, jt3, jt4, jt5, jt6, jt7, jt8] at fs6
            try dsimp only [Sum.elim_inl, Sum.elim_inr, jt2, jt3, jt4, jt5, jt6, jt7, jt8]
            refine ⟨?_, ?_⟩
            · try dsimp only [Sum.elim_inl, Sum.elim_inr, jt2, jt3, jt4, jt5, jt6, jt7, jt8]
              refine ⟨?_, ?_, ?_, ?_⟩
              · (rw [nx6.1]; omega) -- o47 e9i.1
              · (rw [nx6.1, SS]; omega) -- o48 e9i.2
              · exact jj6 -- o49 e9i.3
              · exact ⟨fJ_t fr.1 fs6.1, fs6.2.1, fs6.2.2.trans fr.2.2⟩ -- o50 e9i.4
            · (rw [nx6.1]; omega) -- o51 e9m
          · skip
            have r11 := r9; clear r9; dsimp only [Sum.elim_inl, Sum.elim_inr] at r11
            rcases r with r | r
            · skip
              have r12 := r11; clear r11; dsimp only [Sum.elim_inl, Sum.elim_inr] at r12
              obtain ⟨y11, y12, y13, y14⟩ := r
              try dsimp only [Sum.elim_inl, Sum.elim_inr, jt2, jt3, jt4, jt5, jt6, jt7, jt8] at r12
              obtain ⟨fd7, jj7, fs7⟩ := r12
              try simp (disch := omega) only [jst_eq, jst_ne, jst_ni, jI_i, jcmp_lt, jcmp_gt, w32_id, jcpy_out, Sum.elim_inl, Sum.elim_inr, jt2, jt3, jt4, jt5, jt6, jt7, jt8] at fd7
              try simp (disch := omega) only [jst_eq, jst_ne, jst_ni, jI_i, jcmp_lt, jcmp_gt, w32_id, jcpy_out, Sum.elim_inl, Sum.elim_inr, jt2, jt3, jt4, jt5, jt6, jt7, jt8] at jj7
              try simp (disch := omega) only [jst_eq, jst_ne, jst_ni, jI_i, jcmp_lt, jcmp_gt, w32_id, jcpy_out, Sum.elim_inl, Sum.elim_inr, jt2, jt3, jt4, jt5, jt6, jt7, jt8] at fs7
              try dsimp only [Sum.elim_inl, Sum.elim_inr, jt2, jt3, jt4, jt5, jt6, jt7, jt8]
              try dsimp only [Sum.elim_inl, Sum.elim_inr, jt2, jt3, jt4, jt5, jt6, jt7, jt8]
              refine ⟨?_, ?_, ?_⟩
              · (rw [fd7.1.1, fd7.1.2.1, fd7.1.2.2]; exact ⟨⟨q0.1, by omega⟩, LF, fd7.2.1, X21, rfl, qs.1, by (rw [SS]; omega), fd7.2.2.1⟩) -- o52 e10.1
              · exact jj7 -- o53 e10.2
              · exact ⟨fJ_t fr.1 fs7.1, fs7.2.1, fs7.2.2.trans fr.2.2⟩ -- o54 e10.3
            · skip
              have r13 := r11; clear r11; dsimp only [Sum.elim_inl, Sum.elim_inr] at r13
              rcases r with r | r
              · skip
                have r14 := r13; clear r13; dsimp only [Sum.elim_inl, Sum.elim_inr] at r14
                obtain ⟨y15, y16⟩ := r
                try dsimp only [Sum.elim_inl, Sum.elim_inr, jt2, jt3, jt4, jt5, jt6, jt7, jt8] at r14
                have no8 := r14
                clear r14
                try simp (disch := omega) only [jst_eq, jst_ne, jst_ni, jI_i, jcmp_lt, jcmp_gt, w32_id, jcpy_out, Sum.elim_inl, Sum.elim_inr, jt2, jt3, jt4, jt5, jt6, jt7, jt8] at no8
                try dsimp only [Sum.elim_inl, Sum.elim_inr, jt2, jt3, jt4, jt5, jt6, jt7, jt8]
                try dsimp only [Sum.elim_inl, Sum.elim_inr, jt2, jt3, jt4, jt5, jt6, jt7, jt8]
                refine ⟨?_, ?_, ?_⟩
                · (first | assumption | omega | ((try dsimp only [jt2, jt3, jt4]); first | omega | (simp (disch := omega) only [jst_eq, jst_ne, jst_ni, jst_o, jI_i, jcpy_out, w32_id, jdiv_nn, jshr_k, jand_255] <;> first | done | omega | assumption)) | (intros; simp (disch := omega) only [jst_eq, jst_ne, jst_ni, jst_o, jI_i, jcpy_out, w32_id, jdiv_nn, *] <;> first | done | omega) | (intros; simp (disch := omega) only [jst_eq, jst_ne, jst_ni, jst_o, jI_i, jcpy_out, w32_id, jdiv_nn] at * <;> first | done | omega | assumption) | (intros; first | rfl | (exfalso; omega) | ((repeat' apply And.intro) <;> first | assumption | rfl | omega | trivial))) -- o55 e11.1
                · (first | assumption | omega | ((try dsimp only [jt2, jt3, jt4]); first | omega | (simp (disch := omega) only [jst_eq, jst_ne, jst_ni, jst_o, jI_i, jcpy_out, w32_id, jdiv_nn, jshr_k, jand_255] <;> first | done | omega | assumption)) | (intros; simp (disch := omega) only [jst_eq, jst_ne, jst_ni, jst_o, jI_i, jcpy_out, w32_id, jdiv_nn, *] <;> first | done | omega) | (intros; simp (disch := omega) only [jst_eq, jst_ne, jst_ni, jst_o, jI_i, jcpy_out, w32_id, jdiv_nn] at * <;> first | done | omega | assumption) | (intros; first | rfl | (exfalso; omega) | ((repeat' apply And.intro) <;> first | assumption | rfl | omega | trivial))) -- o56 e11.2
                · (first | assumption | omega | ((try dsimp only [jt2, jt3, jt4]); first | omega | (simp (disch := omega) only [jst_eq, jst_ne, jst_ni, jst_o, jI_i, jcpy_out, w32_id, jdiv_nn, jshr_k, jand_255] <;> first | done | omega | assumption)) | (intros; simp (disch := omega) only [jst_eq, jst_ne, jst_ni, jst_o, jI_i, jcpy_out, w32_id, jdiv_nn, *] <;> first | done | omega) | (intros; simp (disch := omega) only [jst_eq, jst_ne, jst_ni, jst_o, jI_i, jcpy_out, w32_id, jdiv_nn] at * <;> first | done | omega | assumption) | (intros; first | rfl | (exfalso; omega) | ((repeat' apply And.intro) <;> first | assumption | rfl | omega | trivial))) -- o57 e11.3
              · skip
                have r15 := r13; clear r13; dsimp only [Sum.elim_inl, Sum.elim_inr] at r15
                try dsimp only [Sum.elim_inl, Sum.elim_inr, jt2, jt3, jt4, jt5, jt6, jt7, jt8] at r15
                have no9 := r15
                clear r15
                try simp (disch := omega) only [jst_eq, jst_ne, jst_ni, jI_i, jcmp_lt, jcmp_gt, w32_id, jcpy_out, Sum.elim_inl, Sum.elim_inr, jt2, jt3, jt4, jt5, jt6, jt7, jt8] at no9
                try dsimp only [Sum.elim_inl, Sum.elim_inr, jt2, jt3, jt4, jt5, jt6, jt7, jt8]
                (first | assumption | omega | ((try dsimp only [jt2, jt3, jt4]); first | omega | (simp (disch := omega) only [jst_eq, jst_ne, jst_ni, jst_o, jI_i, jcpy_out, w32_id, jdiv_nn, jshr_k, jand_255] <;> first | done | omega | assumption)) | (intros; simp (disch := omega) only [jst_eq, jst_ne, jst_ni, jst_o, jI_i, jcpy_out, w32_id, jdiv_nn, *] <;> first | done | omega) | (intros; simp (disch := omega) only [jst_eq, jst_ne, jst_ni, jst_o, jI_i, jcpy_out, w32_id, jdiv_nn] at * <;> first | done | omega | assumption) | (intros; first | rfl | (exfalso; omega) | ((repeat' apply And.intro) <;> first | assumption | rfl | omega | trivial))) -- o58 e12
        · skip
          try simp (disch := omega) only [jst_eq, jst_ne, jst_ni, jI_i, jcmp_lt, jcmp_gt, w32_id, jcpy_out, Sum.elim_inl, Sum.elim_inr, jt2, jt3, jt4, jt5, jt6, jt7, jt8] at c7
          exfalso
          omega
  · try dsimp only [Sum.elim_inl, Sum.elim_inr, jt2, jt3, jt4, jt5, jt6, jt7, jt8]
    refine ⟨?_, ?_, ?_, ?_⟩
    · (have a3 := jx.1.2.1; have np := jx.1.2.2.2.1; omega) -- o59 init.1
    · (rw [z]; show (0 : Int) ≤ i ∧ h0 307 20 = i - 0; rw [Int.sub_zero]; exact ⟨st.1.2.1, st.1.1⟩) -- o60 init.2
    · exact jx -- o61 init.3
    · exact ⟨fJ_r _, st.2.1.1, rfl⟩ -- o62 init.4
theorem vX5_ith_ {F : Int → Int → Int → AH → Option (Int × AH)} (a1 : Int) (a2 : Int) (a3 : Int) {h : AH} {E : EV} {Rf : Int → TR} {W : Int → Int → Int → VW} {A : AD} {pts wh : Int} {rv : Int → Int} {M : Int → (Int → Int) → Prop} {T : TB} {n D : Nat} {w : Int → Int} {U : Int} (hF : ITX E Rf W A pts wh rv M T n F D) (jx : JXq h E Rf W A pts wh rv M T n) (tq : TQ E W pts A n T) (q1 : 1 ≤ a1 ∧ a1 ≤ n ∧ a1 ≤ D + 1) (rx : rowX h a2 U w T) (i0 : 0 ≤ a3 ∧ a3 < 9223372036854775808) (st : (h 307 19 = U ∧ U + 120 * (a1 - 1) ≤ 4800) ∧ capT h 324 2200 ∧ 0 ≤ h 324 0 ∧ h 324 0 + a1 ≤ 2200) (tb : a3 < twC E W pts A T w a1 ∧ twC E W pts A T w a1 < 9223372036854775808) : OK (gX5_ith_ F a1 a2 a3 h) (fun r => jt2 r fun v h' => (0 ≤ v ∧ ∃ R f r, itR E W pts A T (ct E W pts A) (D + 1) a1 w a3 R f r ∧ poC 324 R (pj h) v (pj h') ∧ h' 307 21 = f ∧ h' 307 20 = r) ∧ (JXq h' E Rf W A pts wh rv M T n) ∧ (fJx U h h' ∧ h' 307 19 = U)) := by
  have T120 := jx.2.1.1
  have A3 := jx.1.2.1
  have NP := jx.1.2.2.2.1
  have rx0 := rx.1
  unfold gX5_ith_
  refine OK_jl ?_
  have F1 : ∀ a s, ¬ (a = 307 ∧ s = 20) → jst h 307 20 a3 a s = h a s := fun a s y => jst_o y
  have K1 : jst h 307 20 a3 307 20 = a3 := jst_eq
  generalize eg1 : jst h 307 20 a3 = g1 at *
  have FJ1 : fJx U h g1 := fun a s y1 y2 y3 y4 y5 y6 => F1 a s (by omega)
  have PJ1 : pj g1 = pj h := pj_f (fun a s a0 a1 => F1 a s (by omega))
  refine OK_jb (vX5_ith_l8 (E := E) (Rf := Rf) (W := W) (A := A) (pts := pts) (wh := wh) (rv := rv) (M := M) (T := T) (n := n) (D := D) (w := w) (i := a3) (U := U) _ _ _ (by exact hF) (by exact JX_n jx (fun a s y1 y2 => F1 a s (by omega))) (by exact tq) (by exact q1) (by exact rowX_J T120 rx FJ1 (Int.le_refl _)) (by exact ⟨⟨K1, i0⟩, ⟨by (rw [F1 _ _ (by omega)]; exact st.1.1), st.1.2⟩, capT_J (by omega) st.2.1 FJ1, by (rw [F1 _ _ (by omega)]; exact st.2.2)⟩) (by exact tb) (by rfl)) (fun o2 r1 => ?_)
  rcases o2 with o4 | o5
  · skip
    have r2 := r1; clear r1
    dsimp only [Sum.elim_inl, Sum.elim_inr] at r2
    refine OK_jml ?_
    obtain ⟨y6, y7, y8, h9⟩ := o4
    refine OK_jt4 ?_
    try dsimp only [Sum.elim_inl, Sum.elim_inr, jt2, jt3, jt4, jt5, jt6, jt7, jt8] at r2
    obtain ⟨lf1, jj1, fs1⟩ := r2
    try simp (disch := omega) only [jst_eq, jst_ne, jst_ni, jI_i, jcmp_lt, jcmp_gt, w32_id, jcpy_out, Sum.elim_inl, Sum.elim_inr, jt2, jt3, jt4, jt5, jt6, jt7, jt8] at lf1
    try simp (disch := omega) only [jst_eq, jst_ne, jst_ni, jI_i, jcmp_lt, jcmp_gt, w32_id, jcpy_out, Sum.elim_inl, Sum.elim_inr, jt2, jt3, jt4, jt5, jt6, jt7, jt8] at jj1
    try simp (disch := omega) only [jst_eq, jst_ne, jst_ni, jI_i, jcmp_lt, jcmp_gt, w32_id, jcpy_out, Sum.elim_inl, Sum.elim_inr, jt2, jt3, jt4, jt5, jt6, jt7, jt8] at fs1
    refine OK_jl ?_
    have F10 : ∀ a s, ¬ (a = 307 ∧ s = 21) → jst h9 307 21 y8 a s = h9 a s := fun a s y => jst_o y
    have K10 : jst h9 307 21 y8 307 21 = y8 := jst_eq
    generalize eg10 : jst h9 307 21 y8 = g10 at *
    have FJ10 : fJx U h g10 := fJ_t FJ1 (fJ_t fs1.1 (fun a s z1 z2 z3 z4 z5 z6 => F10 a s (by omega)))
    have PJ10 : pj g10 = pj h := (pj_f (fun a s a0 a1 => F10 a s (by omega))).trans (fs1.2.2.trans PJ1)
    have J10 : JXq g10 E Rf W A pts wh rv M T n := JX_n jj1 (fun a s z1 z2 => F10 a s (by omega))
    have C10 := capT_J (by omega) st.2.1 FJ10
    have P10 : g10 324 0 = h 324 0 := by { have e : pj g10 324 0 = pj h 324 0 := (by rw [PJ10]); rw [pj_i (by decide), pj_i (by decide)] at e; exact e }
    have IX := ixT_h (hasT_e tq.2.1 (lf_has tq.1 lf1.1.1 lf1.1.2 lf1.2.1 (by omega)))
    have IXr : 0 ≤ ixL pts A T y6 ∧ ixL pts A T y6 < T.1 := ⟨IX.1, IX.2.1⟩
    have yE : y8 = ixL pts A T y6 := lf1.2.2.2.2.1
    have KD : g10 308 y8 = lkA A y6 := by { obtain ⟨H1, H2, H3, H4⟩ := XI_h J10.2.1; rw [yE, (H4 _ IXr.1 IXr.2).1]; exact IX.2.2.1 }
    have N10 := J10.1.2.2.2.1
    have y7E : y7 = y6 - A.1 := lf1.2.2.2.1
    refine OK_if (fun c1 => ?_) (fun c1 => ?_)
    · skip
      try simp (disch := omega) only [jst_eq, jst_ne, jst_ni, jI_i, jcmp_lt, jcmp_gt, w32_id, jcpy_out, Sum.elim_inl, Sum.elim_inr, jt2, jt3, jt4, jt5, jt6, jt7, jt8] at c1
      have LE : lfI A y6 = (1, g10 (g10 200 16 + 4) y7, g10 308 y8, 0) := by { have e : lfI A y6 = (1, lvA A y6 0, lkA A y6, 0) := if_neg (by omega); have ev : lvA A y6 0 = A.2.2.2.2.2.2.1 (y6 - A.1) := if_neg (by omega); rw [e, KD, (N10.2.2.2 y7 (by omega) (by omega)).2.2.1, ev, y7E] }
      unfold gX5_ith_j147
      refine OK_if (fun c2 => ?_) (fun c2 => ?_)
      · skip
        try simp (disch := omega) only [jst_eq, jst_ne, jst_ni, jI_i, jcmp_lt, jcmp_gt, w32_id, jcpy_out, Sum.elim_inl, Sum.elim_inr, jt2, jt3, jt4, jt5, jt6, jt7, jt8] at c2
        refine OK_jg (by (first | assumption | omega | ((try dsimp only [jt2, jt3, jt4]); first | omega | (simp (disch := omega) only [jst_eq, jst_ne, jst_ni, jst_o, jI_i, jcpy_out, w32_id, jdiv_nn, jshr_k, jand_255] <;> first | done | omega | assumption)) | (intros; simp (disch := omega) only [jst_eq, jst_ne, jst_ni, jst_o, jI_i, jcpy_out, w32_id, jdiv_nn, *] <;> first | done | omega) | (intros; simp (disch := omega) only [jst_eq, jst_ne, jst_ni, jst_o, jI_i, jcpy_out, w32_id, jdiv_nn] at * <;> first | done | omega | assumption) | (intros; first | rfl | (exfalso; omega) | ((repeat' apply And.intro) <;> first | assumption | rfl | omega | trivial)))) ?_ -- o9
        unfold gX5_ith_j170
        refine OK_jg (by (first | assumption | omega | ((try dsimp only [jt2, jt3, jt4]); first | omega | (simp (disch := omega) only [jst_eq, jst_ne, jst_ni, jst_o, jI_i, jcpy_out, w32_id, jdiv_nn, jshr_k, jand_255] <;> first | done | omega | assumption)) | (intros; simp (disch := omega) only [jst_eq, jst_ne, jst_ni, jst_o, jI_i, jcpy_out, w32_id, jdiv_nn, *] <;> first | done | omega) | (intros; simp (disch := omega) only [jst_eq, jst_ne, jst_ni, jst_o, jI_i, jcpy_out, w32_id, jdiv_nn] at * <;> first | done | omega | assumption) | (intros; first | rfl | (exfalso; omega) | ((repeat' apply And.intro) <;> first | assumption | rfl | omega | trivial)))) ?_ -- o10
        refine OK_jb2 (vX3_add (M := 2200) _ _ _ _ _ (by exact C10) (by omega)) (fun v18 h19 r3 => ?_)
        try dsimp only [Sum.elim_inl, Sum.elim_inr, jt2, jt3, jt4, jt5, jt6, jt7, jt8] at r3
        obtain ⟨v2, at2, pt2, fr2⟩ := r3
        try simp (disch := omega) only [jst_eq, jst_ne, jst_ni, jI_i, jcmp_lt, jcmp_gt, w32_id, jcpy_out, Sum.elim_inl, Sum.elim_inr, jt2, jt3, jt4, jt5, jt6, jt7, jt8] at v2
        try simp (disch := omega) only [jst_eq, jst_ne, jst_ni, jI_i, jcmp_lt, jcmp_gt, w32_id, jcpy_out, Sum.elim_inl, Sum.elim_inr, jt2, jt3, jt4, jt5, jt6, jt7, jt8] at at2
        try simp (disch := omega) only [jst_eq, jst_ne, jst_ni, jI_i, jcmp_lt, jcmp_gt, w32_id, jcpy_out, Sum.elim_inl, Sum.elim_inr, jt2, jt3, jt4, jt5, jt6, jt7, jt8] at pt2
        try simp (disch := omega) only [jst_eq, jst_ne, jst_ni, jI_i, jcmp_lt, jcmp_gt, w32_id, jcpy_out, Sum.elim_inl, Sum.elim_inr, jt2, jt3, jt4, jt5, jt6, jt7, jt8] at fr2
        refine OK_some ?_
        try dsimp only [Sum.elim_inl, Sum.elim_inr, jt2, jt3, jt4, jt5, jt6, jt7, jt8]
        try dsimp only [Sum.elim_inl, Sum.elim_inr, jt2, jt3, jt4, jt5, jt6, jt7, jt8]
        refine ⟨?_, ?_, ?_⟩
        · (have PO := poC_l1 v2 ⟨at2.1, at2.2.1, at2.2.2.1⟩ pt2 fr2; rw [PJ10, ← LE] at PO; exact ⟨by (have := v2.1; omega), .leaf (lfI A y6), ixL pts A T y6, a3 - sumN (hwC E W pts A T (ct E W pts A) w a1) y6.toNat, ⟨y6, lf1.1.1, lf1.1.2, lf1.2.2.2.2.2.1, lf1.2.2.2.2.2.2.1, Or.inl ⟨lf1.2.1, lf1.2.2.1, rfl, rfl, rfl⟩⟩, PO, by (rw [fr2 _ _ (by omega) (by omega) (by omega), K10]; exact lf1.2.2.2.2.1), by (rw [fr2 _ _ (by omega) (by omega) (by omega), F10 _ _ (by omega)]; exact lf1.2.2.2.2.2.2.2)⟩) -- o13 e1.1
        · exact JX_n J10 (fun a s y1 y2 => fr2 a s (by omega) (by omega) (by omega)) -- o14 e1.2
        · exact ⟨fJ_t FJ10 (fun a s y1 y2 y3 y4 y5 y6 => fr2 a s (by omega) (by omega) (by omega)), by (rw [fr2 _ _ (by omega) (by omega) (by omega), F10 _ _ (by omega)]; exact fs1.2.1)⟩ -- o15 e1.3
      · skip
        try simp (disch := omega) only [jst_eq, jst_ne, jst_ni, jI_i, jcmp_lt, jcmp_gt, w32_id, jcpy_out, Sum.elim_inl, Sum.elim_inr, jt2, jt3, jt4, jt5, jt6, jt7, jt8] at c2
        exfalso
        omega
    · skip
      try simp (disch := omega) only [jst_eq, jst_ne, jst_ni, jI_i, jcmp_lt, jcmp_gt, w32_id, jcpy_out, Sum.elim_inl, Sum.elim_inr, jt2, jt3, jt4, jt5, jt6, jt7, jt8] at c1
      have LE : lfI A y6 = (0, y6, g10 308 y8, 0) := by { have e : lfI A y6 = (0, y6, lkA A y6, 0) := if_pos (by omega); rw [e, KD] }
      unfold gX5_ith_j147
      refine OK_if (fun c3 => ?_) (fun c3 => ?_)
      · skip
        try simp (disch := omega) only [jst_eq, jst_ne, jst_ni, jI_i, jcmp_lt, jcmp_gt, w32_id, jcpy_out, Sum.elim_inl, Sum.elim_inr, jt2, jt3, jt4, jt5, jt6, jt7, jt8] at c3
        exfalso
        omega
      · skip
        try simp (disch := omega) only [jst_eq, jst_ne, jst_ni, jI_i, jcmp_lt, jcmp_gt, w32_id, jcpy_out, Sum.elim_inl, Sum.elim_inr, jt2, jt3, jt4, jt5, jt6, jt7, jt8] at c3
        unfold gX5_ith_j170
        refine OK_jg (by (first | assumption | omega | ((try dsimp only [jt2, jt3, jt4]); first | omega | (simp (disch := omega) only [jst_eq, jst_ne, jst_ni, jst_o, jI_i, jcpy_out, w32_id, jdiv_nn, jshr_k, jand_255] <;> first | done | omega | assumption)) | (intros; simp (disch := omega) only [jst_eq, jst_ne, jst_ni, jst_o, jI_i, jcpy_out, w32_id, jdiv_nn, *] <;> first | done | omega) | (intros; simp (disch := omega) only [jst_eq, jst_ne, jst_ni, jst_o, jI_i, jcpy_out, w32_id, jdiv_nn] at * <;> first | done | omega | assumption) | (intros; first | rfl | (exfalso; omega) | ((repeat' apply And.intro) <;> first | assumption | rfl | omega | trivial)))) ?_ -- o16
        refine OK_jb2 (vX3_add (M := 2200) _ _ _ _ _ (by exact C10) (by omega)) (fun v18 h19 r4 => ?_)
        try dsimp only [Sum.elim_inl, Sum.elim_inr, jt2, jt3, jt4, jt5, jt6, jt7, jt8] at r4
        obtain ⟨v3, at3, pt3, fr3⟩ := r4
        try simp (disch := omega) only [jst_eq, jst_ne, jst_ni, jI_i, jcmp_lt, jcmp_gt, w32_id, jcpy_out, Sum.elim_inl, Sum.elim_inr, jt2, jt3, jt4, jt5, jt6, jt7, jt8] at v3
        try simp (disch := omega) only [jst_eq, jst_ne, jst_ni, jI_i, jcmp_lt, jcmp_gt, w32_id, jcpy_out, Sum.elim_inl, Sum.elim_inr, jt2, jt3, jt4, jt5, jt6, jt7, jt8] at at3
        try simp (disch := omega) only [jst_eq, jst_ne, jst_ni, jI_i, jcmp_lt, jcmp_gt, w32_id, jcpy_out, Sum.elim_inl, Sum.elim_inr, jt2, jt3, jt4, jt5, jt6, jt7, jt8] at pt3
        try simp (disch := omega) only [jst_eq, jst_ne, jst_ni, jI_i, jcmp_lt, jcmp_gt, w32_id, jcpy_out, Sum.elim_inl, Sum.elim_inr, jt2, jt3, jt4, jt5, jt6, jt7, jt8] at fr3
        refine OK_some ?_
        try dsimp only [Sum.elim_inl, Sum.elim_inr, jt2, jt3, jt4, jt5, jt6, jt7, jt8]
        try dsimp only [Sum.elim_inl, Sum.elim_inr, jt2, jt3, jt4, jt5, jt6, jt7, jt8]
        refine ⟨?_, ?_, ?_⟩
        · (have PO := poC_l1 v3 ⟨at3.1, at3.2.1, at3.2.2.1⟩ pt3 fr3; rw [PJ10, ← LE] at PO; exact ⟨by (have := v3.1; omega), .leaf (lfI A y6), ixL pts A T y6, a3 - sumN (hwC E W pts A T (ct E W pts A) w a1) y6.toNat, ⟨y6, lf1.1.1, lf1.1.2, lf1.2.2.2.2.2.1, lf1.2.2.2.2.2.2.1, Or.inl ⟨lf1.2.1, lf1.2.2.1, rfl, rfl, rfl⟩⟩, PO, by (rw [fr3 _ _ (by omega) (by omega) (by omega), K10]; exact lf1.2.2.2.2.1), by (rw [fr3 _ _ (by omega) (by omega) (by omega), F10 _ _ (by omega)]; exact lf1.2.2.2.2.2.2.2)⟩) -- o19 e2.1
        · exact JX_n J10 (fun a s y1 y2 => fr3 a s (by omega) (by omega) (by omega)) -- o20 e2.2
        · exact ⟨fJ_t FJ10 (fun a s y1 y2 y3 y4 y5 y6 => fr3 a s (by omega) (by omega) (by omega)), by (rw [fr3 _ _ (by omega) (by omega) (by omega), F10 _ _ (by omega)]; exact fs1.2.1)⟩ -- o21 e2.3
  · skip
    have r5 := r1; clear r1
    dsimp only [Sum.elim_inl, Sum.elim_inr] at r5
    refine OK_jmr ?_
    rcases o5 with o12 | o13
    · skip
      have r6 := r5; clear r5
      dsimp only [Sum.elim_inl, Sum.elim_inr] at r6
      refine OK_jml ?_
      obtain ⟨y14, h15⟩ := o12
      refine OK_jt2 ?_
      try dsimp only [Sum.elim_inl, Sum.elim_inr, jt2, jt3, jt4, jt5, jt6, jt7, jt8] at r6
      obtain ⟨ia4, jj4, fs4⟩ := r6
      try simp (disch := omega) only [jst_eq, jst_ne, jst_ni, jI_i, jcmp_lt, jcmp_gt, w32_id, jcpy_out, Sum.elim_inl, Sum.elim_inr, jt2, jt3, jt4, jt5, jt6, jt7, jt8] at ia4
      try simp (disch := omega) only [jst_eq, jst_ne, jst_ni, jI_i, jcmp_lt, jcmp_gt, w32_id, jcpy_out, Sum.elim_inl, Sum.elim_inr, jt2, jt3, jt4, jt5, jt6, jt7, jt8] at jj4
      try simp (disch := omega) only [jst_eq, jst_ne, jst_ni, jI_i, jcmp_lt, jcmp_gt, w32_id, jcpy_out, Sum.elim_inl, Sum.elim_inr, jt2, jt3, jt4, jt5, jt6, jt7, jt8] at fs4
      refine OK_some ?_
      try dsimp only [Sum.elim_inl, Sum.elim_inr, jt2, jt3, jt4, jt5, jt6, jt7, jt8]
      try dsimp only [Sum.elim_inl, Sum.elim_inr, jt2, jt3, jt4, jt5, jt6, jt7, jt8]
      refine ⟨?_, ?_, ?_⟩
      · (rw [PJ1] at ia4; exact ia4) -- o22 e3.1
      · exact jj4 -- o23 e3.2
      · exact ⟨fJ_t FJ1 fs4.1, fs4.2⟩ -- o24 e3.3
    · skip
      have r7 := r5; clear r5
      dsimp only [Sum.elim_inl, Sum.elim_inr] at r7
      try dsimp only [Sum.elim_inl, Sum.elim_inr, jt2, jt3, jt4, jt5, jt6, jt7, jt8] at r7
      have no5 := r7
      clear r7
      try simp (disch := omega) only [jst_eq, jst_ne, jst_ni, jI_i, jcmp_lt, jcmp_gt, w32_id, jcpy_out, Sum.elim_inl, Sum.elim_inr, jt2, jt3, jt4, jt5, jt6, jt7, jt8] at no5
      refine OK_jmr ?_
      refine OK_some ?_
      try dsimp only [Sum.elim_inl, Sum.elim_inr, jt2, jt3, jt4, jt5, jt6, jt7, jt8]
      try dsimp only [Sum.elim_inl, Sum.elim_inr, jt2, jt3, jt4, jt5, jt6, jt7, jt8]
      refine ⟨?_, ?_, ?_⟩
      · (first | assumption | omega | ((try dsimp only [jt2, jt3, jt4]); first | omega | (simp (disch := omega) only [jst_eq, jst_ne, jst_ni, jst_o, jI_i, jcpy_out, w32_id, jdiv_nn, jshr_k, jand_255] <;> first | done | omega | assumption)) | (intros; simp (disch := omega) only [jst_eq, jst_ne, jst_ni, jst_o, jI_i, jcpy_out, w32_id, jdiv_nn, *] <;> first | done | omega) | (intros; simp (disch := omega) only [jst_eq, jst_ne, jst_ni, jst_o, jI_i, jcpy_out, w32_id, jdiv_nn] at * <;> first | done | omega | assumption) | (intros; first | rfl | (exfalso; omega) | ((repeat' apply And.intro) <;> first | assumption | rfl | omega | trivial))) -- o25 e4.1
      · (first | assumption | omega | ((try dsimp only [jt2, jt3, jt4]); first | omega | (simp (disch := omega) only [jst_eq, jst_ne, jst_ni, jst_o, jI_i, jcpy_out, w32_id, jdiv_nn, jshr_k, jand_255] <;> first | done | omega | assumption)) | (intros; simp (disch := omega) only [jst_eq, jst_ne, jst_ni, jst_o, jI_i, jcpy_out, w32_id, jdiv_nn, *] <;> first | done | omega) | (intros; simp (disch := omega) only [jst_eq, jst_ne, jst_ni, jst_o, jI_i, jcpy_out, w32_id, jdiv_nn] at * <;> first | done | omega | assumption) | (intros; first | rfl | (exfalso; omega) | ((repeat' apply And.intro) <;> first | assumption | rfl | omega | trivial))) -- o26 e4.2
      · (first | assumption | omega | ((try dsimp only [jt2, jt3, jt4]); first | omega | (simp (disch := omega) only [jst_eq, jst_ne, jst_ni, jst_o, jI_i, jcpy_out, w32_id, jdiv_nn, jshr_k, jand_255] <;> first | done | omega | assumption)) | (intros; simp (disch := omega) only [jst_eq, jst_ne, jst_ni, jst_o, jI_i, jcpy_out, w32_id, jdiv_nn, *] <;> first | done | omega) | (intros; simp (disch := omega) only [jst_eq, jst_ne, jst_ni, jst_o, jI_i, jcpy_out, w32_id, jdiv_nn] at * <;> first | done | omega | assumption) | (intros; first | rfl | (exfalso; omega) | ((repeat' apply And.intro) <;> first | assumption | rfl | omega | trivial))) -- o27 e4.3

