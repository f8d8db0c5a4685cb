/-! x: the i-th term of an act: operands one behind the other -/
def ndI (E : EV) (ac : Int) : NI := (2, ac, eK E ac (eO E ac), 0)
/-- an operand was found -/
def fdO (E : EV) (W : Int → Int → Int → VW) (pts : Int) (A : AD) (T : TB) (D : Nat) (ac : Int) (w : Int → Int) (m : Nat) (k left : Int) (s : Int → Int) (g : Int → TR) (ik N top : Int) (hb h' : AH) (x7 x8 x9 x10 u1 u2 : Int) : Prop := ∃ r R1 f1 i1, (1 ≤ r ∧ r ≤ left) ∧ sumN (alW E W pts T (ct E W pts A) ac w m k left s) r.toNat ≤ ik ∧ ik < sumN (alW E W pts T (ct E W pts A) ac w m k left s) (r + 1).toNat ∧ itR E W pts A T (ct E W pts A) (D + 1) r (owW E W pts T (ct E W pts A) ac w m k left s r) (ik - sumN (alW E W pts T (ct E W pts A) ac w m k left s) r.toNat) R1 f1 i1 ∧ (x7 = N ∧ x8 = (if k = 0 then f1 else u1) ∧ x9 = (if k = 1 then f1 else u2) ∧ x10 = left - r) ∧ h' 307 20 = i1 ∧ (m = 0 → h' 307 21 = ixS E W pts T ac (up1 s k f1)) ∧ ivC 324 N (ndT (eO E ac) (ndI E ac) (up1 g k R1)) (pj hb) (k + 1).toNat (pj h') ∧ h' 324 0 ≤ top + r
theorem up1_p {α : Type} {f : Int → α} {n a : Int} {x : α} (h : a = n) : up1 f n x a = x := if_pos h
theorem j2_fin {h h2 : AH} {E : EV} {Rf : Int → TR} {W : Int → Int → Int → VW} {A : AD} {pts wh : Int} {rv : Int → Int} {M : Int → (Int → Int) → Prop} {T : TB} {n : Nat} {v U : Int} (j : JXq h E Rf W A pts wh rv M T n) (G : fG h h2) (x : XI h2 E W A pts M T) (b : b10 h2) : JXq (jst (jst h2 307 21 v) 307 19 U) E Rf W A pts wh rv M T n ∧ (jst (jst h2 307 21 v) 307 19 U 307 21 = v ∧ jst (jst h2 307 21 v) 307 19 U 307 20 = h 307 20 ∧ pj (jst (jst h2 307 21 v) 307 19 U) = pj h) ∧ fJx U h (jst (jst h2 307 21 v) 307 19 U) ∧ jst (jst h2 307 21 v) 307 19 U 307 19 = U := by
  have F : ∀ a s, ¬ (a = 307 ∧ (s = 19 ∨ s = 21)) → jst (jst h2 307 21 v) 307 19 U a s = h2 a s := fun a s y => by rw [jst_o (by omega), jst_o (by omega)]
  refine ⟨JX_n (JX_G j G x b) (fun a s y1 y2 => F a s (by omega)), ⟨by rw [jst_o (by omega), jst_eq], by rw [F _ _ (by omega), G _ _ (by omega) (by omega) (by omega) (by omega)], (pj_f (fun a s a0 a1 => F a s (by omega))).trans (fWx_pj (lo := U) (fG_W G))⟩, fJ_t (fJ_W (fG_W G)) (fun a s y1 y2 y3 y4 y5 y6 => F a s (by omega)), jst_eq⟩
theorem vX5_ithAct_j236_57 {F : Int → Int → Int → AH → Option (Int × AH)} (a1 : Int) (a3 : Int) (a5 : Int) (a6 : Int) (a7 : Int) (a8 : Int) (a9 : Int) (a10 : Int) (a11 : Int) (a12 : Int) (a14 : Int) (a15 : Int) {h : AH} {E : EV} {Rf : Int → TR} {W : Int → Int → Int → VW} {A : AD} {pts wh : Int} {rv : Int → Int} {M : Int → (Int → Int) → Prop} {T : TB} {n m : Nat} {sg : Int → Int} {used : Int} (jx : JXq h E Rf W A pts wh rv M T n) (tq : TQ E W pts A n T) (ia : (0 ≤ a1 ∧ a1 < A.2.2.2.1) ∧ A.2.2.2.2.1 a1 = a5 ∧ 0 ≤ a5 ∧ a5 < E.1.1) (io : a6 = eO E a5 ∧ 0 ≤ a11 ∧ (m : Int) = a6 - a11 - 1 ∧ 1 ≤ a6 ∧ a6 ≤ 3) (op : opS E W pts A n a5 (a11 + 1) used sg ∧ sg 0 = a8 ∧ sg 1 = a9 ∧ h 307 21 = sg a11) (pr : A.2.2.2.2.2.2.2 a1 + used ≤ n ∧ 1 ≤ a14 ∧ a14 ≤ a10 ∧ a10 ≤ n ∧ 0 ≤ a15) : OK (gX5_ithAct_j236_57 F a1 a3 a5 a6 a7 a8 a9 a10 a11 a12 a14 a15 h) (Sum.elim (fun r => jt8 r fun y1 y2 y3 y4 y5 y6 y7 h' => ((y1 = a7 ∧ y2 = a8 ∧ y3 = a9) ∧ y4 = a10 - a14 ∧ y5 = a12 ∧ y6 = 1 ∧ y7 = a14 + 1) ∧ ((m = 0 → h' 307 21 = ixS E W pts T a5 sg) ∧ h' 307 20 = h 307 20 ∧ pj h' = pj h) ∧ (JXq h' E Rf W A pts wh rv M T n) ∧ (fJx a15 h h' ∧ h' 307 19 = a15)) (fun r => jt6 r fun x1 x2 x3 x4 x5 h' => (0 : Int) = 1)) := by
  have n12 := tq.1.1
  have w1 : w32 (a6 - 1) = a6 - 1 := w32_id (by omega) (by omega)
  have w2 : w32 (a10 - a14) = a10 - a14 := w32_id (by omega) (by omega)
  have w3 : w32 (a14 + 1) = a14 + 1 := w32_id (by omega) (by omega)
  unfold gX5_ithAct_j236_57
  refine OK_if (fun c1 => ?_) (fun c1 => ?_)
  · skip
    try simp (disch := omega) only [jst_eq, jst_ne, jst_ni, jI_i, jcmp_lt, jcmp_gt, w32_id, jcpy_out, Sum.elim_inl, Sum.elim_inr, jt2, jt3, jt4, jt5, jt6, jt7, jt8] at c1
    refine OK_if (fun c2 => ?_) (fun c2 => ?_)
    · skip
      try simp (disch := omega) only [jst_eq, jst_ne, jst_ni, jI_i, jcmp_lt, jcmp_gt, w32_id, jcpy_out, Sum.elim_inl, Sum.elim_inr, jt2, jt3, jt4, jt5, jt6, jt7, jt8] at c2
      have OT := op_T tq jx.2.1.2.2.2.2 ia op.1 (by omega) (by omega) (by omega) op.2.1 (op.1.2.1 1 (by omega)) (op.1.2.1 2 (by omega))
      refine OK_jb2 (vX5_result (E := E) (Rf := Rf) (W := W) (f := fun _ _ _ => 0) (A := A) (pts := pts) (wh := wh) (rv := rv) (M := M) (T := T) (ac := a5) _ _ _ _ (by (first | (exact jx.1) | (exact jx.2.1) | (exact OT.2.2.2.2) | (exact ia) | (exact OT.1) | (exact OT.2.1) | (exact ⟨OT.1, by omega⟩) | (first | assumption | omega | ((try dsimp only [jt2, jt3, jt4]); first | omega | (simp (disch := omega) only [jst_eq, jst_ne, jst_ni, jst_o, jI_i, jcpy_out, w32_id, jdiv_nn, jshr_k, jand_255] <;> first | done | omega | assumption)) | (intros; simp (disch := omega) only [jst_eq, jst_ne, jst_ni, jst_o, jI_i, jcpy_out, w32_id, jdiv_nn, *] <;> first | done | omega) | (intros; simp (disch := omega) only [jst_eq, jst_ne, jst_ni, jst_o, jI_i, jcpy_out, w32_id, jdiv_nn] at * <;> first | done | omega | assumption) | (intros; first | rfl | (exfalso; omega) | ((repeat' apply And.intro) <;> first | assumption | rfl | omega | trivial))))) (by (first | (exact jx.1) | (exact jx.2.1) | (exact OT.2.2.2.2) | (exact ia) | (exact OT.1) | (exact OT.2.1) | (exact ⟨OT.1, by omega⟩) | (first | assumption | omega | ((try dsimp only [jt2, jt3, jt4]); first | omega | (simp (disch := omega) only [jst_eq, jst_ne, jst_ni, jst_o, jI_i, jcpy_out, w32_id, jdiv_nn, jshr_k, jand_255] <;> first | done | omega | assumption)) | (intros; simp (disch := omega) only [jst_eq, jst_ne, jst_ni, jst_o, jI_i, jcpy_out, w32_id, jdiv_nn, *] <;> first | done | omega) | (intros; simp (disch := omega) only [jst_eq, jst_ne, jst_ni, jst_o, jI_i, jcpy_out, w32_id, jdiv_nn] at * <;> first | done | omega | assumption) | (intros; first | rfl | (exfalso; omega) | ((repeat' apply And.intro) <;> first | assumption | rfl | omega | trivial))))) (by (first | (exact jx.1) | (exact jx.2.1) | (exact OT.2.2.2.2) | (exact ia) | (exact OT.1) | (exact OT.2.1) | (exact ⟨OT.1, by omega⟩) | (first | assumption | omega | ((try dsimp only [jt2, jt3, jt4]); first | omega | (simp (disch := omega) only [jst_eq, jst_ne, jst_ni, jst_o, jI_i, jcpy_out, w32_id, jdiv_nn, jshr_k, jand_255] <;> first | done | omega | assumption)) | (intros; simp (disch := omega) only [jst_eq, jst_ne, jst_ni, jst_o, jI_i, jcpy_out, w32_id, jdiv_nn, *] <;> first | done | omega) | (intros; simp (disch := omega) only [jst_eq, jst_ne, jst_ni, jst_o, jI_i, jcpy_out, w32_id, jdiv_nn] at * <;> first | done | omega | assumption) | (intros; first | rfl | (exfalso; omega) | ((repeat' apply And.intro) <;> first | assumption | rfl | omega | trivial))))) (by (first | (exact jx.1) | (exact jx.2.1) | (exact OT.2.2.2.2) | (exact ia) | (exact OT.1) | (exact OT.2.1) | (exact ⟨OT.1, by omega⟩) | (first | assumption | omega | ((try dsimp only [jt2, jt3, jt4]); first | omega | (simp (disch := omega) only [jst_eq, jst_ne, jst_ni, jst_o, jI_i, jcpy_out, w32_id, jdiv_nn, jshr_k, jand_255] <;> first | done | omega | assumption)) | (intros; simp (disch := omega) only [jst_eq, jst_ne, jst_ni, jst_o, jI_i, jcpy_out, w32_id, jdiv_nn, *] <;> first | done | omega) | (intros; simp (disch := omega) only [jst_eq, jst_ne, jst_ni, jst_o, jI_i, jcpy_out, w32_id, jdiv_nn] at * <;> first | done | omega | assumption) | (intros; first | rfl | (exfalso; omega) | ((repeat' apply And.intro) <;> first | assumption | rfl | omega | trivial))))) (by (first | (exact jx.1) | (exact jx.2.1) | (exact OT.2.2.2.2) | (exact ia) | (exact OT.1) | (exact OT.2.1) | (exact ⟨OT.1, by omega⟩) | (first | assumption | omega | ((try dsimp only [jt2, jt3, jt4]); first | omega | (simp (disch := omega) only [jst_eq, jst_ne, jst_ni, jst_o, jI_i, jcpy_out, w32_id, jdiv_nn, jshr_k, jand_255] <;> first | done | omega | assumption)) | (intros; simp (disch := omega) only [jst_eq, jst_ne, jst_ni, jst_o, jI_i, jcpy_out, w32_id, jdiv_nn, *] <;> first | done | omega) | (intros; simp (disch := omega) only [jst_eq, jst_ne, jst_ni, jst_o, jI_i, jcpy_out, w32_id, jdiv_nn] at * <;> first | done | omega | assumption) | (intros; first | rfl | (exfalso; omega) | ((repeat' apply And.intro) <;> first | assumption | rfl | omega | trivial))))) (by (first | (exact jx.1) | (exact jx.2.1) | (exact OT.2.2.2.2) | (exact ia) | (exact OT.1) | (exact OT.2.1) | (exact ⟨OT.1, by omega⟩) | (first | assumption | omega | ((try dsimp only [jt2, jt3, jt4]); first | omega | (simp (disch := omega) only [jst_eq, jst_ne, jst_ni, jst_o, jI_i, jcpy_out, w32_id, jdiv_nn, jshr_k, jand_255] <;> first | done | omega | assumption)) | (intros; simp (disch := omega) only [jst_eq, jst_ne, jst_ni, jst_o, jI_i, jcpy_out, w32_id, jdiv_nn, *] <;> first | done | omega) | (intros; simp (disch := omega) only [jst_eq, jst_ne, jst_ni, jst_o, jI_i, jcpy_out, w32_id, jdiv_nn] at * <;> first | done | omega | assumption) | (intros; first | rfl | (exfalso; omega) | ((repeat' apply And.intro) <;> first | assumption | rfl | omega | trivial)))))) (fun v51 h52 r1 => ?_)
      try dsimp only [Sum.elim_inl, Sum.elim_inr, jt2, jt3, jt4, jt5, jt6, jt7, jt8] at r1
      obtain ⟨rs1, xs1, fs1⟩ := r1
      try simp (disch := omega) only [jst_eq, jst_ne, jst_ni, jI_i, jcmp_lt, jcmp_gt, w32_id, jcpy_out, Sum.elim_inl, Sum.elim_inr, jt2, jt3, jt4, jt5, jt6, jt7, jt8] at rs1
      try simp (disch := omega) only [jst_eq, jst_ne, jst_ni, jI_i, jcmp_lt, jcmp_gt, w32_id, jcpy_out, Sum.elim_inl, Sum.elim_inr, jt2, jt3, jt4, jt5, jt6, jt7, jt8] at xs1
      try simp (disch := omega) only [jst_eq, jst_ne, jst_ni, jI_i, jcmp_lt, jcmp_gt, w32_id, jcpy_out, Sum.elim_inl, Sum.elim_inr, jt2, jt3, jt4, jt5, jt6, jt7, jt8] at fs1
      have FN := j2_fin (v := v51) (U := a15) jx fs1.1 xs1 fs1.2
      have VV : v51 = ixS E W pts T a5 sg := by { rw [← OT.2.2.1]; first | exact rs1 | assumption }
      unfold gX5_ithAct_j296_57
      refine OK_jl ?_
      unfold gX5_ithAct_j299_57
      refine OK_jlx (fun x61 ex61 => ?_)
      try simp (disch := omega) only [jst_eq, jst_ne, jst_ni, jI_i, jcmp_lt, jcmp_gt, w32_id, jcpy_out, Sum.elim_inl, Sum.elim_inr, jt2, jt3, jt4, jt5, jt6, jt7, jt8] at ex61
      unfold gX5_ithAct_j309_57
      refine OK_jl ?_
      unfold gX5_ithAct_j315_57
      refine OK_jlx (fun x63 ex63 => ?_)
      try simp (disch := omega) only [jst_eq, jst_ne, jst_ni, jI_i, jcmp_lt, jcmp_gt, w32_id, jcpy_out, Sum.elim_inl, Sum.elim_inr, jt2, jt3, jt4, jt5, jt6, jt7, jt8] at ex63
      refine OK_some ?_
      try dsimp only [Sum.elim_inl, Sum.elim_inr, jt2, jt3, jt4, jt5, jt6, jt7, jt8]
      try dsimp only [Sum.elim_inl, Sum.elim_inr, jt2, jt3, jt4, jt5, jt6, jt7, jt8]
      refine ⟨?_, ?_, ?_, ?_⟩
      · exact ⟨⟨rfl, rfl, rfl⟩, by omega, rfl, rfl, by omega⟩ -- o7 e1.1
      · exact ⟨fun _ => FN.2.1.1.trans VV, FN.2.1.2⟩ -- o8 e1.2
      · exact FN.1 -- o9 e1.3
      · exact FN.2.2 -- o10 e1.4
    · skip
      try simp (disch := omega) only [jst_eq, jst_ne, jst_ni, jI_i, jcmp_lt, jcmp_gt, w32_id, jcpy_out, Sum.elim_inl, Sum.elim_inr, jt2, jt3, jt4, jt5, jt6, jt7, jt8] at c2
      refine OK_if (fun c3 => ?_) (fun c3 => ?_)
      · skip
        try simp (disch := omega) only [jst_eq, jst_ne, jst_ni, jI_i, jcmp_lt, jcmp_gt, w32_id, jcpy_out, Sum.elim_inl, Sum.elim_inr, jt2, jt3, jt4, jt5, jt6, jt7, jt8] at c3
        have OT := op_T tq jx.2.1.2.2.2.2 ia op.1 (by omega) (by omega) (by omega) op.2.1 op.2.2.1 (op.1.2.1 2 (by omega))
        refine OK_jb2 (vX5_result (E := E) (Rf := Rf) (W := W) (f := fun _ _ _ => 0) (A := A) (pts := pts) (wh := wh) (rv := rv) (M := M) (T := T) (ac := a5) _ _ _ _ (by (first | (exact jx.1) | (exact jx.2.1) | (exact OT.2.2.2.2) | (exact ia) | (exact OT.1) | (exact OT.2.1) | (exact ⟨OT.1, by omega⟩) | (first | assumption | omega | ((try dsimp only [jt2, jt3, jt4]); first | omega | (simp (disch := omega) only [jst_eq, jst_ne, jst_ni, jst_o, jI_i, jcpy_out, w32_id, jdiv_nn, jshr_k, jand_255] <;> first | done | omega | assumption)) | (intros; simp (disch := omega) only [jst_eq, jst_ne, jst_ni, jst_o, jI_i, jcpy_out, w32_id, jdiv_nn, *] <;> first | done | omega) | (intros; simp (disch := omega) only [jst_eq, jst_ne, jst_ni, jst_o, jI_i, jcpy_out, w32_id, jdiv_nn] at * <;> first | done | omega | assumption) | (intros; first | rfl | (exfalso; omega) | ((repeat' apply And.intro) <;> first | assumption | rfl | omega | trivial))))) (by (first | (exact jx.1) | (exact jx.2.1) | (exact OT.2.2.2.2) | (exact ia) | (exact OT.1) | (exact OT.2.1) | (exact ⟨OT.1, by omega⟩) | (first | assumption | omega | ((try dsimp only [jt2, jt3, jt4]); first | omega | (simp (disch := omega) only [jst_eq, jst_ne, jst_ni, jst_o, jI_i, jcpy_out, w32_id, jdiv_nn, jshr_k, jand_255] <;> first | done | omega | assumption)) | (intros; simp (disch := omega) only [jst_eq, jst_ne, jst_ni, jst_o, jI_i, jcpy_out, w32_id, jdiv_nn, *] <;> first | done | omega) | (intros; simp (disch := omega) only [jst_eq, jst_ne, jst_ni, jst_o, jI_i, jcpy_out, w32_id, jdiv_nn] at * <;> first | done | omega | assumption) | (intros; first | rfl | (exfalso; omega) | ((repeat' apply And.intro) <;> first | assumption | rfl | omega | trivial))))) (by (first | (exact jx.1) | (exact jx.2.1) | (exact OT.2.2.2.2) | (exact ia) | (exact OT.1) | (exact OT.2.1) | (exact ⟨OT.1, by omega⟩) | (first | assumption | omega | ((try dsimp only [jt2, jt3, jt4]); first | omega | (simp (disch := omega) only [jst_eq, jst_ne, jst_ni, jst_o, jI_i, jcpy_out, w32_id, jdiv_nn, jshr_k, jand_255] <;> first | done | omega | assumption)) | (intros; simp (disch := omega) only [jst_eq, jst_ne, jst_ni, jst_o, jI_i, jcpy_out, w32_id, jdiv_nn, *] <;> first | done | omega) | (intros; simp (disch := omega) only [jst_eq, jst_ne, jst_ni, jst_o, jI_i, jcpy_out, w32_id, jdiv_nn] at * <;> first | done | omega | assumption) | (intros; first | rfl | (exfalso; omega) | ((repeat' apply And.intro) <;> first | assumption | rfl | omega | trivial))))) (by (first | (exact jx.1) | (exact jx.2.1) | (exact OT.2.2.2.2) | (exact ia) | (exact OT.1) | (exact OT.2.1) | (exact ⟨OT.1, by omega⟩) | (first | assumption | omega | ((try dsimp only [jt2, jt3, jt4]); first | omega | (simp (disch := omega) only [jst_eq, jst_ne, jst_ni, jst_o, jI_i, jcpy_out, w32_id, jdiv_nn, jshr_k, jand_255] <;> first | done | omega | assumption)) | (intros; simp (disch := omega) only [jst_eq, jst_ne, jst_ni, jst_o, jI_i, jcpy_out, w32_id, jdiv_nn, *] <;> first | done | omega) | (intros; simp (disch := omega) only [jst_eq, jst_ne, jst_ni, jst_o, jI_i, jcpy_out, w32_id, jdiv_nn] at * <;> first | done | omega | assumption) | (intros; first | rfl | (exfalso; omega) | ((repeat' apply And.intro) <;> first | assumption | rfl | omega | trivial))))) (by (first | (exact jx.1) | (exact jx.2.1) | (exact OT.2.2.2.2) | (exact ia) | (exact OT.1) | (exact OT.2.1) | (exact ⟨OT.1, by omega⟩) | (first | assumption | omega | ((try dsimp only [jt2, jt3, jt4]); first | omega | (simp (disch := omega) only [jst_eq, jst_ne, jst_ni, jst_o, jI_i, jcpy_out, w32_id, jdiv_nn, jshr_k, jand_255] <;> first | done | omega | assumption)) | (intros; simp (disch := omega) only [jst_eq, jst_ne, jst_ni, jst_o, jI_i, jcpy_out, w32_id, jdiv_nn, *] <;> first | done | omega) | (intros; simp (disch := omega) only [jst_eq, jst_ne, jst_ni, jst_o, jI_i, jcpy_out, w32_id, jdiv_nn] at * <;> first | done | omega | assumption) | (intros; first | rfl | (exfalso; omega) | ((repeat' apply And.intro) <;> first | assumption | rfl | omega | trivial))))) (by (first | (exact jx.1) | (exact jx.2.1) | (exact OT.2.2.2.2) | (exact ia) | (exact OT.1) | (exact OT.2.1) | (exact ⟨OT.1, by omega⟩) | (first | assumption | omega | ((try dsimp only [jt2, jt3, jt4]); first | omega | (simp (disch := omega) only [jst_eq, jst_ne, jst_ni, jst_o, jI_i, jcpy_out, w32_id, jdiv_nn, jshr_k, jand_255] <;> first | done | omega | assumption)) | (intros; simp (disch := omega) only [jst_eq, jst_ne, jst_ni, jst_o, jI_i, jcpy_out, w32_id, jdiv_nn, *] <;> first | done | omega) | (intros; simp (disch := omega) only [jst_eq, jst_ne, jst_ni, jst_o, jI_i, jcpy_out, w32_id, jdiv_nn] at * <;> first | done | omega | assumption) | (intros; first | rfl | (exfalso; omega) | ((repeat' apply And.intro) <;> first | assumption | rfl | omega | trivial)))))) (fun v55 h56 r2 => ?_)
        try dsimp only [Sum.elim_inl, Sum.elim_inr, jt2, jt3, jt4, jt5, jt6, jt7, jt8] at r2
        obtain ⟨rs2, xs2, fs2⟩ := r2
        try simp (disch := omega) only [jst_eq, jst_ne, jst_ni, jI_i, jcmp_lt, jcmp_gt, w32_id, jcpy_out, Sum.elim_inl, Sum.elim_inr, jt2, jt3, jt4, jt5, jt6, jt7, jt8] at rs2
        try simp (disch := omega) only [jst_eq, jst_ne, jst_ni, jI_i, jcmp_lt, jcmp_gt, w32_id, jcpy_out, Sum.elim_inl, Sum.elim_inr, jt2, jt3, jt4, jt5, jt6, jt7, jt8] at xs2
        try simp (disch := omega) only [jst_eq, jst_ne, jst_ni, jI_i, jcmp_lt, jcmp_gt, w32_id, jcpy_out, Sum.elim_inl, Sum.elim_inr, jt2, jt3, jt4, jt5, jt6, jt7, jt8] at fs2
        have FN := j2_fin (v := v55) (U := a15) jx fs2.1 xs2 fs2.2
        have VV : v55 = ixS E W pts T a5 sg := by { rw [← OT.2.2.1]; first | exact rs2 | assumption }
        unfold gX5_ithAct_j296_57
        refine OK_jl ?_
        unfold gX5_ithAct_j299_57
        refine OK_jlx (fun x61 ex61 => ?_)
        try simp (disch := omega) only [jst_eq, jst_ne, jst_ni, jI_i, jcmp_lt, jcmp_gt, w32_id, jcpy_out, Sum.elim_inl, Sum.elim_inr, jt2, jt3, jt4, jt5, jt6, jt7, jt8] at ex61
        unfold gX5_ithAct_j309_57
        refine OK_jl ?_
        unfold gX5_ithAct_j315_57
        refine OK_jlx (fun x63 ex63 => ?_)
        try simp (disch := omega) only [jst_eq, jst_ne, jst_ni, jI_i, jcmp_lt, jcmp_gt, w32_id, jcpy_out, Sum.elim_inl, Sum.elim_inr, jt2, jt3, jt4, jt5, jt6, jt7, jt8] at ex63
        refine OK_some ?_
        try dsimp only [Sum.elim_inl, Sum.elim_inr, jt2, jt3, jt4, jt5, jt6, jt7, jt8]
        try dsimp only [Sum.elim_inl, Sum.elim_inr, jt2, jt3, jt4, jt5, jt6, jt7, jt8]
        refine ⟨?_, ?_, ?_, ?_⟩
        · exact ⟨⟨rfl, rfl, rfl⟩, by omega, rfl, rfl, by omega⟩ -- o17 e2.1
        · exact ⟨fun _ => FN.2.1.1.trans VV, FN.2.1.2⟩ -- o18 e2.2
        · exact FN.1 -- o19 e2.3
        · exact FN.2.2 -- o20 e2.4
      · skip
        try simp (disch := omega) only [jst_eq, jst_ne, jst_ni, jI_i, jcmp_lt, jcmp_gt, w32_id, jcpy_out, Sum.elim_inl, Sum.elim_inr, jt2, jt3, jt4, jt5, jt6, jt7, jt8] at c3
        have s2 : sg 2 = h 307 21 := by { rw [op.2.2.2, show a11 = 2 by omega] }
        have OT := op_T tq jx.2.1.2.2.2.2 ia op.1 (by omega) (by omega) (by omega) op.2.1 op.2.2.1 s2
        refine OK_jb2 (vX5_resultOfThree (E := E) (Rf := Rf) (W := W) (f := fun _ _ _ => 0) (A := A) (pts := pts) (wh := wh) (rv := rv) (M := M) (T := T) (ac := a5) _ _ _ _ (by (first | (exact jx.1) | (exact jx.2.1) | (exact OT.2.2.2.2) | (exact ia) | (exact OT.1) | (exact OT.2.1) | (exact ⟨OT.1, by omega⟩) | (first | assumption | omega | ((try dsimp only [jt2, jt3, jt4]); first | omega | (simp (disch := omega) only [jst_eq, jst_ne, jst_ni, jst_o, jI_i, jcpy_out, w32_id, jdiv_nn, jshr_k, jand_255] <;> first | done | omega | assumption)) | (intros; simp (disch := omega) only [jst_eq, jst_ne, jst_ni, jst_o, jI_i, jcpy_out, w32_id, jdiv_nn, *] <;> first | done | omega) | (intros; simp (disch := omega) only [jst_eq, jst_ne, jst_ni, jst_o, jI_i, jcpy_out, w32_id, jdiv_nn] at * <;> first | done | omega | assumption) | (intros; first | rfl | (exfalso; omega) | ((repeat' apply And.intro) <;> first | assumption | rfl | omega | trivial))))) (by (first | (exact jx.1) | (exact jx.2.1) | (exact OT.2.2.2.2) | (exact ia) | (exact OT.1) | (exact OT.2.1) | (exact ⟨OT.1, by omega⟩) | (first | assumption | omega | ((try dsimp only [jt2, jt3, jt4]); first | omega | (simp (disch := omega) only [jst_eq, jst_ne, jst_ni, jst_o, jI_i, jcpy_out, w32_id, jdiv_nn, jshr_k, jand_255] <;> first | done | omega | assumption)) | (intros; simp (disch := omega) only [jst_eq, jst_ne, jst_ni, jst_o, jI_i, jcpy_out, w32_id, jdiv_nn, *] <;> first | done | omega) | (intros; simp (disch := omega) only [jst_eq, jst_ne, jst_ni, jst_o, jI_i, jcpy_out, w32_id, jdiv_nn] at * <;> first | done | omega | assumption) | (intros; first | rfl | (exfalso; omega) | ((repeat' apply And.intro) <;> first | assumption | rfl | omega | trivial))))) (by (first | (exact jx.1) | (exact jx.2.1) | (exact OT.2.2.2.2) | (exact ia) | (exact OT.1) | (exact OT.2.1) | (exact ⟨OT.1, by omega⟩) | (first | assumption | omega | ((try dsimp only [jt2, jt3, jt4]); first | omega | (simp (disch := omega) only [jst_eq, jst_ne, jst_ni, jst_o, jI_i, jcpy_out, w32_id, jdiv_nn, jshr_k, jand_255] <;> first | done | omega | assumption)) | (intros; simp (disch := omega) only [jst_eq, jst_ne, jst_ni, jst_o, jI_i, jcpy_out, w32_id, jdiv_nn, *] <;> first | done | omega) | (intros; simp (disch := omega) only [jst_eq, jst_ne, jst_ni, jst_o, jI_i, jcpy_out, w32_id, jdiv_nn] at * <;> first | done | omega | assumption) | (intros; first | rfl | (exfalso; omega) | ((repeat' apply And.intro) <;> first | assumption | rfl | omega | trivial))))) (by (first | (exact jx.1) | (exact jx.2.1) | (exact OT.2.2.2.2) | (exact ia) | (exact OT.1) | (exact OT.2.1) | (exact ⟨OT.1, by omega⟩) | (first | assumption | omega | ((try dsimp only [jt2, jt3, jt4]); first | omega | (simp (disch := omega) only [jst_eq, jst_ne, jst_ni, jst_o, jI_i, jcpy_out, w32_id, jdiv_nn, jshr_k, jand_255] <;> first | done | omega | assumption)) | (intros; simp (disch := omega) only [jst_eq, jst_ne, jst_ni, jst_o, jI_i, jcpy_out, w32_id, jdiv_nn, *] <;> first | done | omega) | (intros; simp (disch := omega) only [jst_eq, jst_ne, jst_ni, jst_o, jI_i, jcpy_out, w32_id, jdiv_nn] at * <;> first | done | omega | assumption) | (intros; first | rfl | (exfalso; omega) | ((repeat' apply And.intro) <;> first | assumption | rfl | omega | trivial))))) (by (first | (exact jx.1) | (exact jx.2.1) | (exact OT.2.2.2.2) | (exact ia) | (exact OT.1) | (exact OT.2.1) | (exact ⟨OT.1, by omega⟩) | (first | assumption | omega | ((try dsimp only [jt2, jt3, jt4]); first | omega | (simp (disch := omega) only [jst_eq, jst_ne, jst_ni, jst_o, jI_i, jcpy_out, w32_id, jdiv_nn, jshr_k, jand_255] <;> first | done | omega | assumption)) | (intros; simp (disch := omega) only [jst_eq, jst_ne, jst_ni, jst_o, jI_i, jcpy_out, w32_id, jdiv_nn, *] <;> first | done | omega) | (intros; simp (disch := omega) only [jst_eq, jst_ne, jst_ni, jst_o, jI_i, jcpy_out, w32_id, jdiv_nn] at * <;> first | done | omega | assumption) | (intros; first | rfl | (exfalso; omega) | ((repeat' apply And.intro) <;> first | assumption | rfl | omega | trivial))))) (by (first | (exact jx.1) | (exact jx.2.1) | (exact OT.2.2.2.2) | (exact ia) | (exact OT.1) | (exact OT.2.1) | (exact ⟨OT.1, by omega⟩) | (first | assumption | omega | ((try dsimp only [jt2, jt3, jt4]); first | omega | (simp (disch := omega) only [jst_eq, jst_ne, jst_ni, jst_o, jI_i, jcpy_out, w32_id, jdiv_nn, jshr_k, jand_255] <;> first | done | omega | assumption)) | (intros; simp (disch := omega) only [jst_eq, jst_ne, jst_ni, jst_o, jI_i, jcpy_out, w32_id, jdiv_nn, *] <;> first | done | omega) | (intros; simp (disch := omega) only [jst_eq, jst_ne, jst_ni, jst_o, jI_i, jcpy_out, w32_id, jdiv_nn] at * <;> first | done | omega | assumption) | (intros; first | rfl | (exfalso; omega) | ((repeat' apply And.intro) <;> first | assumption | rfl | omega | trivial)))))) (fun v58 h59 r3 => ?_)
        try dsimp only [Sum.elim_inl, Sum.elim_inr, jt2, jt3, jt4, jt5, jt6, jt7, jt8] at r3
        obtain ⟨rs3, xs3, fs3⟩ := r3
        try simp (disch := omega) only [jst_eq, jst_ne, jst_ni, jI_i, jcmp_lt, jcmp_gt, w32_id, jcpy_out, Sum.elim_inl, Sum.elim_inr, jt2, jt3, jt4, jt5, jt6, jt7, jt8] at rs3
        try simp (disch := omega) only [jst_eq, jst_ne, jst_ni, jI_i, jcmp_lt, jcmp_gt, w32_id, jcpy_out, Sum.elim_inl, Sum.elim_inr, jt2, jt3, jt4, jt5, jt6, jt7, jt8] at xs3
        try simp (disch := omega) only [jst_eq, jst_ne, jst_ni, jI_i, jcmp_lt, jcmp_gt, w32_id, jcpy_out, Sum.elim_inl, Sum.elim_inr, jt2, jt3, jt4, jt5, jt6, jt7, jt8] at fs3
        have FN := j2_fin (v := v58) (U := a15) jx fs3.1 xs3 fs3.2
        have VV : v58 = ixS E W pts T a5 sg := by { rw [← OT.2.2.1]; first | exact rs3 | assumption }
        unfold gX5_ithAct_j296_57
        refine OK_jl ?_
        unfold gX5_ithAct_j299_57
        refine OK_jlx (fun x61 ex61 => ?_)
        try simp (disch := omega) only [jst_eq, jst_ne, jst_ni, jI_i, jcmp_lt, jcmp_gt, w32_id, jcpy_out, Sum.elim_inl, Sum.elim_inr, jt2, jt3, jt4, jt5, jt6, jt7, jt8] at ex61
        unfold gX5_ithAct_j309_57
        refine OK_jl ?_
        unfold gX5_ithAct_j315_57
        refine OK_jlx (fun x63 ex63 => ?_)
        try simp (disch := omega) only [jst_eq, jst_ne, jst_ni, jI_i, jcmp_lt, jcmp_gt, w32_id, jcpy_out, Sum.elim_inl, Sum.elim_inr, jt2, jt3, jt4, jt5, jt6, jt7, jt8] at ex63
        refine OK_some ?_
        try dsimp only [Sum.elim_inl, Sum.elim_inr, jt2, jt3, jt4, jt5, jt6, jt7, jt8]
        try dsimp only [Sum.elim_inl, Sum.elim_inr, jt2, jt3, jt4, jt5, jt6, jt7, jt8]
        refine ⟨?_, ?_, ?_, ?_⟩
        · exact ⟨⟨rfl, rfl, rfl⟩, by omega, rfl, rfl, by omega⟩ -- o27 e3.1
        · exact ⟨fun _ => FN.2.1.1.trans VV, FN.2.1.2⟩ -- o28 e3.2
        · exact FN.1 -- o29 e3.3
        · exact FN.2.2 -- o30 e3.4
  · skip
    try simp (disch := omega) only [jst_eq, jst_ne, jst_ni, jI_i, jcmp_lt, jcmp_gt, w32_id, jcpy_out, Sum.elim_inl, Sum.elim_inr, jt2, jt3, jt4, jt5, jt6, jt7, jt8] at c1
    have F4 : ∀ a s, ¬ (a = 307 ∧ s = 19) → jst h 307 19 a15 a s = h a s := fun a s y => jst_o y
    unfold gX5_ithAct_j299_57
    refine OK_jlx (fun x61 ex61 => ?_)
    try simp (disch := omega) only [jst_eq, jst_ne, jst_ni, jI_i, jcmp_lt, jcmp_gt, w32_id, jcpy_out, Sum.elim_inl, Sum.elim_inr, jt2, jt3, jt4, jt5, jt6, jt7, jt8] at ex61
    unfold gX5_ithAct_j309_57
    refine OK_jl ?_
    unfold gX5_ithAct_j315_57
    refine OK_jlx (fun x63 ex63 => ?_)
    try simp (disch := omega) only [jst_eq, jst_ne, jst_ni, jI_i, jcmp_lt, jcmp_gt, w32_id, jcpy_out, Sum.elim_inl, Sum.elim_inr, jt2, jt3, jt4, jt5, jt6, jt7, jt8] at ex63
    refine OK_some ?_
    try dsimp only [Sum.elim_inl, Sum.elim_inr, jt2, jt3, jt4, jt5, jt6, jt7, jt8]
    try dsimp only [Sum.elim_inl, Sum.elim_inr, jt2, jt3, jt4, jt5, jt6, jt7, jt8]
    refine ⟨?_, ?_, ?_, ?_⟩
    · exact ⟨⟨rfl, rfl, rfl⟩, by omega, rfl, rfl, by omega⟩ -- o31 e4.1
    · exact ⟨fun y => by omega, F4 _ _ (by omega), pj_f (fun a s a0 a1 => F4 a s (by omega))⟩ -- o32 e4.2
    · exact JX_n jx (fun a s y1 y2 => F4 a s (by omega)) -- o33 e4.3
    · exact ⟨fun a s y1 y2 y3 y4 y5 y6 => F4 a s (by omega), jst_eq⟩ -- o34 e4.4
theorem vX5_ithAct_j178_57 {F : Int → Int → Int → AH → Option (Int × AH)} (a1 : Int) (a3 : Int) (a5 : Int) (a6 : Int) (a8 : Int) (a9 : Int) (a10 : Int) (a11 : Int) (a12 : Int) (a14 : Int) (a15 : Int) {h : AH} {E : EV} {Rf : Int → TR} {W : Int → Int → Int → VW} {A : AD} {pts wh : Int} {rv : Int → Int} {M : Int → (Int → Int) → Prop} {T : TB} {n m D : Nat} {w sg : Int → Int} {g : Int → TR} {used ik U N : Int} {hb : AH} (hF : ITX E Rf W A pts wh rv M T n F D) (jx : JXq h E Rf W A pts wh rv M T n) (tq : TQ E W pts A n T) (ia : (0 ≤ a1 ∧ a1 < A.2.2.2.1) ∧ A.2.2.2.2.1 a1 = a5 ∧ 0 ≤ a5 ∧ a5 < E.1.1) (io : a6 = eO E a5 ∧ 0 ≤ a11 ∧ (m : Int) = a6 - a11 - 1 ∧ 1 ≤ a6 ∧ a6 ≤ 3) (op : opS E W pts A n a5 a11 used sg ∧ sg 0 = a8 ∧ sg 1 = a9) (pr : A.2.2.2.2.2.2.2 a1 + used + a10 ≤ n ∧ 0 ≤ used ∧ 1 ≤ a14 ∧ a14 ≤ a10 ∧ a14 ≤ D + 1) (rx : rowX h a15 (U + 120) (owW E W pts T (ct E W pts A) a5 w m a11 a10 sg a14) T ∧ a15 = U ∧ 0 ≤ U) (ps : h 307 20 = ik - sumN (alW E W pts T (ct E W pts A) a5 w m a11 a10 sg) a14.toNat ∧ sumN (alW E W pts T (ct E W pts A) a5 w m a11 a10 sg) a14.toNat ≤ ik ∧ ik - sumN (alW E W pts T (ct E W pts A) a5 w m a11 a10 sg) a14.toNat < alW E W pts T (ct E W pts A) a5 w m a11 a10 sg a14 ∧ alW E W pts T (ct E W pts A) a5 w m a11 a10 sg a14 < 9223372036854775808) (st : (h 307 19 = U + 120 ∧ U + 120 * a10 ≤ 4800) ∧ capT h 324 2200 ∧ N = a12 ∧ ivC 324 N (ndT (eO E a5) (ndI E a5) g) (pj hb) a11.toNat (pj h) ∧ (0 ≤ N ∧ N ≤ h 324 0 ∧ h 324 0 ≤ N + 1 + used ∧ N + 1 + used + a10 ≤ 2200)) : OK (gX5_ithAct_j178_57 F a1 a3 a5 a6 a8 a9 a10 a11 a12 a14 a15 h) (Sum.elim (fun r => jt8 r fun y1 y2 y3 y4 y5 y6 y7 h' => ((y5 = a12 ∧ y6 = 1 ∧ y7 = a14 + 1) ∧ fdO E W pts A T D a5 w m a11 a10 sg g ik N (N + 1 + used) hb h' y1 y2 y3 y4 a8 a9) ∧ (JXq h' E Rf W A pts wh rv M T n) ∧ (fJx U h h' ∧ h' 307 19 = U)) (fun r => jt6 r fun x1 x2 x3 x4 x5 h' => (0 : Int) = 1)) := by
  have n12 := tq.1.1
  have pp := (tq.1.2.2.2.1.2.2 a1 ia.1.1 ia.1.2).1
  have T120 := jx.2.1.1
  unfold gX5_ithAct_j178_57
  refine OK_jb2 (vX5_ith_ (E := E) (Rf := Rf) (W := W) (A := A) (pts := pts) (wh := wh) (rv := rv) (M := M) (T := T) (n := n) (D := D) (w := owW E W pts T (ct E W pts A) a5 w m a11 a10 sg a14) (U := U + 120) _ _ _ (by exact hF) (by exact jx) (by exact tq) (by omega) (by exact rx.1) (by (rw [ps.1]; omega)) (by exact ⟨by omega, st.2.1, by omega, by omega⟩) (by (rw [ps.1]; exact ⟨ps.2.2.1, ps.2.2.2⟩))) (fun v40 h41 r1 => ?_)
  try dsimp only [Sum.elim_inl, Sum.elim_inr, jt2, jt3, jt4, jt5, jt6, jt7, jt8] at r1
  obtain ⟨ia1, jj1, fs1⟩ := r1
  try simp (disch := omega) only [jst_eq, jst_ne, jst_ni, jI_i, jcmp_lt, jcmp_gt, w32_id, jcpy_out, Sum.elim_inl, Sum.elim_inr, jt2, jt3, jt4, jt5, jt6, jt7, jt8] at ia1
  try simp (disch := omega) only [jst_eq, jst_ne, jst_ni, jI_i, jcmp_lt, jcmp_gt, w32_id, jcpy_out, Sum.elim_inl, Sum.elim_inr, jt2, jt3, jt4, jt5, jt6, jt7, jt8] at jj1
  try simp (disch := omega) only [jst_eq, jst_ne, jst_ni, jI_i, jcmp_lt, jcmp_gt, w32_id, jcpy_out, Sum.elim_inl, Sum.elim_inr, jt2, jt3, jt4, jt5, jt6, jt7, jt8] at fs1
  obtain ⟨v0, R1, f1, i1, z1, z2, z3, z4⟩ := ia1
  rw [ps.1] at z1
  have IG := itR_ok tq jx.2.1.2.2.2.2 (D + 1) a14 _ _ R1 f1 i1 (by omega) (by omega) rx.1.2.2 (by omega) z1
  have OO := ow_op tq op.1 (by omega) (by omega) IG.1.1.1 IG.1.2.1 IG.1.2.2
  have T41 : h41 324 0 = h 324 0 + sz R1 := by { have e := z2.2.1; rw [pj_i (by decide), pj_i (by decide)] at e; exact e }
  have s1 := sz_pos R1
  have IG2 := IG.2.1
  refine OK_jb (vX3_join (M := 2200) _ _ _ _ (by exact capT_J (by omega) st.2.1 fs1.1) (by omega)) (fun h43 r2 => ?_)
  try dsimp only [Sum.elim_inl, Sum.elim_inr, jt2, jt3, jt4, jt5, jt6, jt7, jt8] at r2
  obtain ⟨j2, fr2⟩ := r2
  try simp (disch := omega) only [jst_eq, jst_ne, jst_ni, jI_i, jcmp_lt, jcmp_gt, w32_id, jcpy_out, Sum.elim_inl, Sum.elim_inr, jt2, jt3, jt4, jt5, jt6, jt7, jt8] at j2
  try simp (disch := omega) only [jst_eq, jst_ne, jst_ni, jI_i, jcmp_lt, jcmp_gt, w32_id, jcpy_out, Sum.elim_inl, Sum.elim_inr, jt2, jt3, jt4, jt5, jt6, jt7, jt8] at fr2
  have J43 : JXq h43 E Rf W A pts wh rv M T n := JX_n jj1 (fun a s y1 y2 => fr2 a s (by omega))
  have IV := nd_st (h2 := h43) (k := a11) (N := N) (i := ndI E a5) (g := g) (by omega) (by omega) st.2.2.2.1 z2 (by have q := j2 (by omega); rw [← st.2.2.1] at q; exact q) (fun a s y => fr2 a s (by rw [← st.2.2.1]; omega))
  have F43 : ∀ a s, ¬ (a = 329 ∧ 0 ≤ s) → h43 a s = h41 a s := fun a s y => fr2 a s (by omega)
  have E21 : h43 307 21 = f1 := (F43 _ _ (by omega)).trans z3
  have E20 : h43 307 20 = i1 := (F43 _ _ (by omega)).trans z4
  have FJ : fJx U h h43 := fJ_t (fJ_le fs1.1 (by omega)) (fun a s y1 y2 y3 y4 y5 y6 => F43 a s (by omega))
  refine OK_if (fun c1 => ?_) (fun c1 => ?_)
  · skip
    try simp (disch := omega) only [jst_eq, jst_ne, jst_ni, jI_i, jcmp_lt, jcmp_gt, w32_id, jcpy_out, Sum.elim_inl, Sum.elim_inr, jt2, jt3, jt4, jt5, jt6, jt7, jt8] at c1
    refine OK_jlx (fun x45 ex45 => ?_)
    try simp (disch := omega) only [jst_eq, jst_ne, jst_ni, jI_i, jcmp_lt, jcmp_gt, w32_id, jcpy_out, Sum.elim_inl, Sum.elim_inr, jt2, jt3, jt4, jt5, jt6, jt7, jt8] at ex45
    refine OK_mono (vX5_ithAct_j236_57 (E := E) (Rf := Rf) (W := W) (A := A) (pts := pts) (wh := wh) (rv := rv) (M := M) (T := T) (n := n) (m := m) (sg := up1 sg a11 f1) (used := used + a14) _ _ _ _ _ _ _ _ _ _ _ _ (by exact J43) (by exact tq) (by exact ia) (by exact io) (by exact ⟨OO.2.2.1, (up1_p (by omega)).trans (E21.symm.trans (by omega)), (up1_o (by omega)).trans op.2.2, E21.trans up1_e.symm⟩) (by omega)) (fun r r3 => ?_)
    rcases r with r | r
    · skip
      have r4 := r3; clear r3; dsimp only [Sum.elim_inl, Sum.elim_inr] at r4
      obtain ⟨y1, y2, y3, y4, y5, y6, y7, y8⟩ := r
      try dsimp only [Sum.elim_inl, Sum.elim_inr, jt2, jt3, jt4, jt5, jt6, jt7, jt8] at r4
      obtain ⟨ys3, re3, jj3, fs3⟩ := r4
      try simp (disch := omega) only [jst_eq, jst_ne, jst_ni, jI_i, jcmp_lt, jcmp_gt, w32_id, jcpy_out, Sum.elim_inl, Sum.elim_inr, jt2, jt3, jt4, jt5, jt6, jt7, jt8] at ys3
      try simp (disch := omega) only [jst_eq, jst_ne, jst_ni, jI_i, jcmp_lt, jcmp_gt, w32_id, jcpy_out, Sum.elim_inl, Sum.elim_inr, jt2, jt3, jt4, jt5, jt6, jt7, jt8] at re3
      try simp (disch := omega) only [jst_eq, jst_ne, jst_ni, jI_i, jcmp_lt, jcmp_gt, w32_id, jcpy_out, Sum.elim_inl, Sum.elim_inr, jt2, jt3, jt4, jt5, jt6, jt7, jt8] at jj3
      try simp (disch := omega) only [jst_eq, jst_ne, jst_ni, jI_i, jcmp_lt, jcmp_gt, w32_id, jcpy_out, Sum.elim_inl, Sum.elim_inr, jt2, jt3, jt4, jt5, jt6, jt7, jt8] at fs3
      try dsimp only [Sum.elim_inl, Sum.elim_inr, jt2, jt3, jt4, jt5, jt6, jt7, jt8]
      try dsimp only [Sum.elim_inl, Sum.elim_inr, jt2, jt3, jt4, jt5, jt6, jt7, jt8]
      refine ⟨?_, ?_, ?_⟩
      · (have e8 : pj y8 324 0 = pj h43 324 0 := (by rw [re3.2.2]); rw [pj_i (by decide), pj_i (by decide), F43 _ _ (by omega)] at e8; exact ⟨⟨ys3.2.2.1, ys3.2.2.2.1, ys3.2.2.2.2⟩, a14, R1, f1, i1, ⟨pr.2.2.1, pr.2.2.2.1⟩, ps.2.1, by (rw [sumN_s (by omega)]; omega), z1, ⟨ys3.1.1.trans st.2.2.1.symm, by (rw [if_pos (by omega), ys3.1.2.1]; omega), by (rw [if_neg (by omega)]; exact ys3.1.2.2), ys3.2.1⟩, re3.2.1.trans E20, re3.1, by (rw [re3.2.2]; exact IV), by omega⟩) -- o17 e1.1
      · exact jj3 -- o18 e1.2
      · (rw [rx.2.1] at fs3; exact ⟨fJ_t FJ fs3.1, fs3.2⟩) -- o19 e1.3
    · skip
      have r5 := r3; clear r3; dsimp only [Sum.elim_inl, Sum.elim_inr] at r5
      obtain ⟨y9, y10, y11, y12, y13, y14⟩ := r
      try dsimp only [Sum.elim_inl, Sum.elim_inr, jt2, jt3, jt4, jt5, jt6, jt7, jt8] at r5
      have no4 := r5
      clear r5
      try simp (disch := omega) only [jst_eq, jst_ne, jst_ni, jI_i, jcmp_lt, jcmp_gt, w32_id, jcpy_out, Sum.elim_inl, Sum.elim_inr, jt2, jt3, jt4, jt5, jt6, jt7, jt8] at no4
      try dsimp only [Sum.elim_inl, Sum.elim_inr, jt2, jt3, jt4, jt5, jt6, jt7, jt8]
      (first | assumption | omega | ((try dsimp only [jt2, jt3, jt4]); first | omega | (simp (disch := omega) only [jst_eq, jst_ne, jst_ni, jst_o, jI_i, jcpy_out, w32_id, jdiv_nn, jshr_k, jand_255] <;> first | done | omega | assumption)) | (intros; simp (disch := omega) only [jst_eq, jst_ne, jst_ni, jst_o, jI_i, jcpy_out, w32_id, jdiv_nn, *] <;> first | done | omega) | (intros; simp (disch := omega) only [jst_eq, jst_ne, jst_ni, jst_o, jI_i, jcpy_out, w32_id, jdiv_nn] at * <;> first | done | omega | assumption) | (intros; first | rfl | (exfalso; omega) | ((repeat' apply And.intro) <;> first | assumption | rfl | omega | trivial))) -- o20 e2
  · skip
    try simp (disch := omega) only [jst_eq, jst_ne, jst_ni, jI_i, jcmp_lt, jcmp_gt, w32_id, jcpy_out, Sum.elim_inl, Sum.elim_inr, jt2, jt3, jt4, jt5, jt6, jt7, jt8] at c1
    refine OK_if (fun c2 => ?_) (fun c2 => ?_)
    · skip
      try simp (disch := omega) only [jst_eq, jst_ne, jst_ni, jI_i, jcmp_lt, jcmp_gt, w32_id, jcpy_out, Sum.elim_inl, Sum.elim_inr, jt2, jt3, jt4, jt5, jt6, jt7, jt8] at c2
      refine OK_jlx (fun x47 ex47 => ?_)
      try simp (disch := omega) only [jst_eq, jst_ne, jst_ni, jI_i, jcmp_lt, jcmp_gt, w32_id, jcpy_out, Sum.elim_inl, Sum.elim_inr, jt2, jt3, jt4, jt5, jt6, jt7, jt8] at ex47
      refine OK_mono (vX5_ithAct_j236_57 (E := E) (Rf := Rf) (W := W) (A := A) (pts := pts) (wh := wh) (rv := rv) (M := M) (T := T) (n := n) (m := m) (sg := up1 sg a11 f1) (used := used + a14) _ _ _ _ _ _ _ _ _ _ _ _ (by exact J43) (by exact tq) (by exact ia) (by exact io) (by exact ⟨OO.2.2.1, (up1_o (by omega)).trans op.2.1, (up1_p (by omega)).trans (E21.symm.trans (by omega)), E21.trans up1_e.symm⟩) (by omega)) (fun r r6 => ?_)
      rcases r with r | r
      · skip
        have r7 := r6; clear r6; dsimp only [Sum.elim_inl, Sum.elim_inr] at r7
        obtain ⟨y15, y16, y17, y18, y19, y20, y21, y22⟩ := r
        try dsimp only [Sum.elim_inl, Sum.elim_inr, jt2, jt3, jt4, jt5, jt6, jt7, jt8] at r7
        obtain ⟨ys5, re5, jj5, fs5⟩ := r7
        try simp (disch := omega) only [jst_eq, jst_ne, jst_ni, jI_i, jcmp_lt, jcmp_gt, w32_id, jcpy_out, Sum.elim_inl, Sum.elim_inr, jt2, jt3, jt4, jt5, jt6, jt7, jt8] at ys5
        try simp (disch := omega) only [jst_eq, jst_ne, jst_ni, jI_i, jcmp_lt, jcmp_gt, w32_id, jcpy_out, Sum.elim_inl, Sum.elim_inr, jt2, jt3, jt4, jt5, jt6, jt7, jt8] at re5
        try simp (disch := omega) only [jst_eq, jst_ne, jst_ni, jI_i, jcmp_lt, jcmp_gt, w32_id, jcpy_out, Sum.elim_inl, Sum.elim_inr, jt2, jt3, jt4, jt5, jt6, jt7, jt8] at jj5
        try simp (disch := omega) only [jst_eq, jst_ne, jst_ni, jI_i, jcmp_lt, jcmp_gt, w32_id, jcpy_out, Sum.elim_inl, Sum.elim_inr, jt2, jt3, jt4, jt5, jt6, jt7, jt8] at fs5
        try dsimp only [Sum.elim_inl, Sum.elim_inr, jt2, jt3, jt4, jt5, jt6, jt7, jt8]
        try dsimp only [Sum.elim_inl, Sum.elim_inr, jt2, jt3, jt4, jt5, jt6, jt7, jt8]
        refine ⟨?_, ?_, ?_⟩
        · (have e8 : pj y22 324 0 = pj h43 324 0 := (by rw [re5.2.2]); rw [pj_i (by decide), pj_i (by decide), F43 _ _ (by omega)] at e8; exact ⟨⟨ys5.2.2.1, ys5.2.2.2.1, ys5.2.2.2.2⟩, a14, R1, f1, i1, ⟨pr.2.2.1, pr.2.2.2.1⟩, ps.2.1, by (rw [sumN_s (by omega)]; omega), z1, ⟨ys5.1.1.trans st.2.2.1.symm, by (rw [if_neg (by omega)]; exact ys5.1.2.1), by (rw [if_pos (by omega), ys5.1.2.2]; omega), ys5.2.1⟩, re5.2.1.trans E20, re5.1, by (rw [re5.2.2]; exact IV), by omega⟩) -- o27 e3.1
        · exact jj5 -- o28 e3.2
        · (rw [rx.2.1] at fs5; exact ⟨fJ_t FJ fs5.1, fs5.2⟩) -- o29 e3.3
      · skip
        have r8 := r6; clear r6; dsimp only [Sum.elim_inl, Sum.elim_inr] at r8
        obtain ⟨y23, y24, y25, y26, y27, y28⟩ := r
        try dsimp only [Sum.elim_inl, Sum.elim_inr, jt2, jt3, jt4, jt5, jt6, jt7, jt8] at r8
        have no6 := r8
        clear r8
        try simp (disch := omega) only [jst_eq, jst_ne, jst_ni, jI_i, jcmp_lt, jcmp_gt, w32_id, jcpy_out, Sum.elim_inl, Sum.elim_inr, jt2, jt3, jt4, jt5, jt6, jt7, jt8] at no6
        try dsimp only [Sum.elim_inl, Sum.elim_inr, jt2, jt3, jt4, jt5, jt6, jt7, jt8]
        (first | assumption | omega | ((try dsimp only [jt2, jt3, jt4]); first | omega | (simp (disch := omega) only [jst_eq, jst_ne, jst_ni, jst_o, jI_i, jcpy_out, w32_id, jdiv_nn, jshr_k, jand_255] <;> first | done | omega | assumption)) | (intros; simp (disch := omega) only [jst_eq, jst_ne, jst_ni, jst_o, jI_i, jcpy_out, w32_id, jdiv_nn, *] <;> first | done | omega) | (intros; simp (disch := omega) only [jst_eq, jst_ne, jst_ni, jst_o, jI_i, jcpy_out, w32_id, jdiv_nn] at * <;> first | done | omega | assumption) | (intros; first | rfl | (exfalso; omega) | ((repeat' apply And.intro) <;> first | assumption | rfl | omega | trivial))) -- o30 e4
    · skip
      try simp (disch := omega) only [jst_eq, jst_ne, jst_ni, jI_i, jcmp_lt, jcmp_gt, w32_id, jcpy_out, Sum.elim_inl, Sum.elim_inr, jt2, jt3, jt4, jt5, jt6, jt7, jt8] at c2
      refine OK_mono (vX5_ithAct_j236_57 (E := E) (Rf := Rf) (W := W) (A := A) (pts := pts) (wh := wh) (rv := rv) (M := M) (T := T) (n := n) (m := m) (sg := up1 sg a11 f1) (used := used + a14) _ _ _ _ _ _ _ _ _ _ _ _ (by exact J43) (by exact tq) (by exact ia) (by exact io) (by exact ⟨OO.2.2.1, (up1_o (by omega)).trans op.2.1, (up1_o (by omega)).trans op.2.2, E21.trans up1_e.symm⟩) (by omega)) (fun r r9 => ?_)
      rcases r with r | r
      · skip
        have r10 := r9; clear r9; dsimp only [Sum.elim_inl, Sum.elim_inr] at r10
        obtain ⟨y29, y30, y31, y32, y33, y34, y35, y36⟩ := r
        try dsimp only [Sum.elim_inl, Sum.elim_inr, jt2, jt3, jt4, jt5, jt6, jt7, jt8] at r10
        obtain ⟨ys7, re7, jj7, fs7⟩ := r10
        try simp (disch := omega) only [jst_eq, jst_ne, jst_ni, jI_i, jcmp_lt, jcmp_gt, w32_id, jcpy_out, Sum.elim_inl, Sum.elim_inr, jt2, jt3, jt4, jt5, jt6, jt7, jt8] at ys7
        try simp (disch := omega) only [jst_eq, jst_ne, jst_ni, jI_i, jcmp_lt, jcmp_gt, w32_id, jcpy_out, Sum.elim_inl, Sum.elim_inr, jt2, jt3, jt4, jt5, jt6, jt7, jt8] at re7
        try simp (disch := omega) only [jst_eq, jst_ne, jst_ni, jI_i, jcmp_lt, jcmp_gt, w32_id, jcpy_out, Sum.elim_inl, Sum.elim_inr, jt2, jt3, jt4, jt5, jt6, jt7, jt8] at jj7
        try simp (disch := omega) only [jst_eq, jst_ne, jst_ni, jI_i, jcmp_lt, jcmp_gt, w32_id, jcpy_out, Sum.elim_inl, Sum.elim_inr, jt2, jt3, jt4, jt5, jt6, jt7, jt8] at fs7
        try dsimp only [Sum.elim_inl, Sum.elim_inr, jt2, jt3, jt4, jt5, jt6, jt7, jt8]
        try dsimp only [Sum.elim_inl, Sum.elim_inr, jt2, jt3, jt4, jt5, jt6, jt7, jt8]
        refine ⟨?_, ?_, ?_⟩
        · (have e8 : pj y36 324 0 = pj h43 324 0 := (by rw [re7.2.2]); rw [pj_i (by decide), pj_i (by decide), F43 _ _ (by omega)] at e8; exact ⟨⟨ys7.2.2.1, ys7.2.2.2.1, ys7.2.2.2.2⟩, a14, R1, f1, i1, ⟨pr.2.2.1, pr.2.2.2.1⟩, ps.2.1, by (rw [sumN_s (by omega)]; omega), z1, ⟨ys7.1.1.trans st.2.2.1.symm, by (rw [if_neg (by omega)]; exact ys7.1.2.1), by (rw [if_neg (by omega)]; exact ys7.1.2.2), ys7.2.1⟩, re7.2.1.trans E20, re7.1, by (rw [re7.2.2]; exact IV), by omega⟩) -- o37 e5.1
        · exact jj7 -- o38 e5.2
        · (rw [rx.2.1] at fs7; exact ⟨fJ_t FJ fs7.1, fs7.2⟩) -- o39 e5.3
      · skip
        have r11 := r9; clear r9; dsimp only [Sum.elim_inl, Sum.elim_inr] at r11
        obtain ⟨y37, y38, y39, y40, y41, y42⟩ := r
        try dsimp only [Sum.elim_inl, Sum.elim_inr, jt2, jt3, jt4, jt5, jt6, jt7, jt8] at r11
        have no8 := r11
        clear r11
        try simp (disch := omega) only [jst_eq, jst_ne, jst_ni, jI_i, jcmp_lt, jcmp_gt, w32_id, jcpy_out, Sum.elim_inl, Sum.elim_inr, jt2, jt3, jt4, jt5, jt6, jt7, jt8] at no8
        try dsimp only [Sum.elim_inl, Sum.elim_inr, jt2, jt3, jt4, jt5, jt6, jt7, jt8]
        (first | assumption | omega | ((try dsimp only [jt2, jt3, jt4]); first | omega | (simp (disch := omega) only [jst_eq, jst_ne, jst_ni, jst_o, jI_i, jcpy_out, w32_id, jdiv_nn, jshr_k, jand_255] <;> first | done | omega | assumption)) | (intros; simp (disch := omega) only [jst_eq, jst_ne, jst_ni, jst_o, jI_i, jcpy_out, w32_id, jdiv_nn, *] <;> first | done | omega) | (intros; simp (disch := omega) only [jst_eq, jst_ne, jst_ni, jst_o, jI_i, jcpy_out, w32_id, jdiv_nn] at * <;> first | done | omega | assumption) | (intros; first | rfl | (exfalso; omega) | ((repeat' apply And.intro) <;> first | assumption | rfl | omega | trivial))) -- o40 e6
theorem vX5_ithAct_j96_57 {F : Int → Int → Int → AH → Option (Int × AH)} (a1 : Int) (a3 : Int) (a5 : Int) (a6 : Int) (a7 : Int) (a8 : Int) (a9 : Int) (a10 : Int) (a11 : Int) (a12 : Int) (a13 : Int) (a14 : Int) {h : AH} {E : EV} {Rf : Int → TR} {W : Int → Int → Int → VW} {A : AD} {pts wh : Int} {rv : Int → Int} {M : Int → (Int → Int) → Prop} {T : TB} {n m D : Nat} {w sg : Int → Int} {g : Int → TR} {used ik U N : Int} {hb : AH} (hF : ITX E Rf W A pts wh rv M T n F D) (jx : JXq h E Rf W A pts wh rv M T n) (tq : TQ E W pts A n T) (ia : (0 ≤ a1 ∧ a1 < A.2.2.2.1) ∧ A.2.2.2.2.1 a1 = a5 ∧ 0 ≤ a5 ∧ a5 < E.1.1) (io : a6 = eO E a5 ∧ 0 ≤ a11 ∧ (m : Int) = a6 - a11 - 1 ∧ 1 ≤ a6 ∧ a6 ≤ 3) (op : opS E W pts A n a5 a11 used sg ∧ sg 0 = a8 ∧ sg 1 = a9) (pr : A.2.2.2.2.2.2.2 a1 + used + a10 ≤ n ∧ 0 ≤ used ∧ 1 ≤ a14 ∧ a14 ≤ a10 ∧ a14 ≤ D + 1 ∧ (m = 0 → a14 = a10)) (rx : rowX h a3 U w T) (bd : rsW E W pts T (ct E W pts A) a5 w (m + 1) a11 a10 sg < 9223372036854775808) (ps : h 307 20 = ik - sumN (alW E W pts T (ct E W pts A) a5 w m a11 a10 sg) a14.toNat ∧ sumN (alW E W pts T (ct E W pts A) a5 w m a11 a10 sg) a14.toNat ≤ ik ∧ ik < 9223372036854775808) (st : (h 307 19 = U ∧ U + 120 * a10 ≤ 4800) ∧ capT h 324 2200 ∧ ((a11 = 0 ∧ a12 = -1 ∧ pj h = pj hb ∧ N = h 324 0) ∨ (0 < a11 ∧ N = a12 ∧ ivC 324 N (ndT (eO E a5) (ndI E a5) g) (pj hb) a11.toNat (pj h))) ∧ (0 ≤ N ∧ N ≤ h 324 0 ∧ h 324 0 ≤ N + 1 + used ∧ N + 1 + used + a10 ≤ 2200)) (z : a13 = 0) : OK (gX5_ithAct_j96_57 F a1 a3 a5 a6 a7 a8 a9 a10 a11 a12 a13 a14 h) (Sum.elim (fun r => jt8 r fun y1 y2 y3 y4 y5 y6 y7 h' => (y7 = a14 + 1 ∧ ((y6 = 0 ∧ (y1 = a7 ∧ y2 = a8 ∧ y3 = a9 ∧ y4 = a10 ∧ y5 = a12) ∧ sumN (alW E W pts T (ct E W pts A) a5 w m a11 a10 sg) (a14 + 1).toNat ≤ ik ∧ h' 307 20 = ik - sumN (alW E W pts T (ct E W pts A) a5 w m a11 a10 sg) (a14 + 1).toNat ∧ pj h' = pj h) ∨ (y6 = 1 ∧ fdO E W pts A T D a5 w m a11 a10 sg g ik N (N + 1 + used) hb h' y1 y2 y3 y4 a8 a9))) ∧ (JXq h' E Rf W A pts wh rv M T n) ∧ (fJx U h h' ∧ h' 307 19 = U)) (fun r => jt6 r fun x1 x2 x3 x4 x5 h' => (0 : Int) = 1)) := by
  have n12 := tq.1.1
  have pp := (tq.1.2.2.2.1.2.2 a1 ia.1.1 ia.1.2).1
  have T120 := jx.2.1.1
  have w1 : w32 (a10 - a14) = a10 - a14 := w32_id (by omega) (by omega)
  have w2 : w32 (a14 + 1) = a14 + 1 := w32_id (by omega) (by omega)
  have rx0 := rx.1
  have AB := al_rs (E := E) (W := W) (pts := pts) (A := A) (T := T) (ac := a5) (m := m) (k := a11) (left := a10) (r := a14) (s := sg) rx.2.2 (by omega)
  have A0 := alT_0 (E := E) (W := W) (pts := pts) (L := T) (ac := a5) (m := m) (k := a11) (left := a10) (r := a14) (s := sg) (c := ct E W pts A) ct_0 rx.2.2
  have S0 : 0 ≤ sumN (alW E W pts T (ct E W pts A) a5 w m a11 a10 sg) a14.toNat := sumN_n (fun j _ => alT_0 ct_0 rx.2.2) _
  unfold gX5_ithAct_j96_57
  refine OK_jb2 (vX5_newRow (by omega)) (fun v26 h27 r1 => ?_)
  try dsimp only [Sum.elim_inl, Sum.elim_inr, jt2, jt3, jt4, jt5, jt6, jt7, jt8] at r1
  obtain ⟨vn1, zr1, fs1⟩ := r1
  try simp (disch := omega) only [jst_eq, jst_ne, jst_ni, jI_i, jcmp_lt, jcmp_gt, w32_id, jcpy_out, Sum.elim_inl, Sum.elim_inr, jt2, jt3, jt4, jt5, jt6, jt7, jt8] at vn1
  try simp (disch := omega) only [jst_eq, jst_ne, jst_ni, jI_i, jcmp_lt, jcmp_gt, w32_id, jcpy_out, Sum.elim_inl, Sum.elim_inr, jt2, jt3, jt4, jt5, jt6, jt7, jt8] at zr1
  try simp (disch := omega) only [jst_eq, jst_ne, jst_ni, jI_i, jcmp_lt, jcmp_gt, w32_id, jcpy_out, Sum.elim_inl, Sum.elim_inr, jt2, jt3, jt4, jt5, jt6, jt7, jt8] at fs1
  have vE : v26 = U := by omega
  have J27 : JXq h27 E Rf W A pts wh rv M T n := JX_n jx (fun a s y1 y2 => fs1 a s (by omega) (by omega))
  have FJ27 : fJx U h h27 := fun a s y1 y2 y3 y4 y5 y6 => fs1 a s (by omega) (by omega)
  have R27 := rowX_J T120 rx FJ27 (Int.le_refl _)
  have UR : h 307 19 = U := st.1.1
  refine OK_jb2 (vX5_weigh (E := E) (Rf := Rf) (W := W) (A := A) (pts := pts) (wh := wh) (rv := rv) (M := M) (T := T) (n := n) (m := m) (w := w) (sg := sg) (used := used) (ac := a5) _ _ _ _ _ _ _ _ _ (by exact J27) (by exact tq) (by exact ia) (by omega) (by exact op) (by omega) (by exact ⟨by omega, R27.2.1, fun f f0 f1 => by (have q := zr1 f f0 (by omega); rw [UR, ← vE] at q; exact q), rx.2.2⟩) (by (rw [w1, show a14 + (a10 - a14) = a10 by omega]; omega))) (fun v29 h30 r2 => ?_)
  try dsimp only [Sum.elim_inl, Sum.elim_inr, jt2, jt3, jt4, jt5, jt6, jt7, jt8] at r2
  obtain ⟨vv2, sr2, jj2, fs2⟩ := r2
  try simp (disch := omega) only [jst_eq, jst_ne, jst_ni, jI_i, jcmp_lt, jcmp_gt, w32_id, jcpy_out, Sum.elim_inl, Sum.elim_inr, jt2, jt3, jt4, jt5, jt6, jt7, jt8] at vv2
  try simp (disch := omega) only [jst_eq, jst_ne, jst_ni, jI_i, jcmp_lt, jcmp_gt, w32_id, jcpy_out, Sum.elim_inl, Sum.elim_inr, jt2, jt3, jt4, jt5, jt6, jt7, jt8] at sr2
  try simp (disch := omega) only [jst_eq, jst_ne, jst_ni, jI_i, jcmp_lt, jcmp_gt, w32_id, jcpy_out, Sum.elim_inl, Sum.elim_inr, jt2, jt3, jt4, jt5, jt6, jt7, jt8] at jj2
  try simp (disch := omega) only [jst_eq, jst_ne, jst_ni, jI_i, jcmp_lt, jcmp_gt, w32_id, jcpy_out, Sum.elim_inl, Sum.elim_inr, jt2, jt3, jt4, jt5, jt6, jt7, jt8] at fs2
  have AE : a14 + w32 (a10 - a14) = a10 := by omega
  try rw [AE] at vv2 sr2
  have AE2 : a14 + (a10 - a14) = a10 := by omega
  try rw [AE2] at vv2 sr2
  have V29 : v29 = (alW E W pts T (ct E W pts A) a5 w m a11 a10 sg) a14 := vv2
  have F30 : fWx U h27 h30 := by { rw [← vE]; exact fs2.1 }
  have P30 : h30 307 20 = ik - sumN (alW E W pts T (ct E W pts A) a5 w m a11 a10 sg) a14.toNat := by { rw [F30 _ _ (by omega) (by omega) (by omega) (by omega) (by omega), fs1 _ _ (by omega) (by omega)]; exact ps.1 }
  have FJ30 : fJx U h h30 := fJ_t FJ27 (fJ_W F30)
  have PJ30 : pj h30 = pj h := (fWx_pj F30).trans (pj_f (fun a s a0 a1 => fs1 a s (by omega) (by omega)))
  have U30 : h30 307 19 = U + 120 := by { rw [F30 _ _ (by omega) (by omega) (by omega) (by omega) (by omega)]; omega }
  have N30 : h30 324 0 = h 324 0 := by { have e : pj h30 324 0 = pj h 324 0 := (by rw [PJ30]); rw [pj_i (by decide), pj_i (by decide)] at e; exact e }
  have C30 := capT_J (by omega) st.2.1 FJ30
  have R30 : rowX h30 v26 (U + 120) (owW E W pts T (ct E W pts A) a5 w m a11 a10 sg a14) T := ⟨by omega, sr2, fun f => owT_0 ct_0 rx.2.2⟩
  rw [P30, V29]
  refine OK_if (fun c1 => ?_) (fun c1 => ?_)
  · skip
    try simp (disch := omega) only [jst_eq, jst_ne, jst_ni, jI_i, jcmp_lt, jcmp_gt, w32_id, jcpy_out, Sum.elim_inl, Sum.elim_inr, jt2, jt3, jt4, jt5, jt6, jt7, jt8] at c1
    have c1w : ik - sumN (alW E W pts T (ct E W pts A) a5 w m a11 a10 sg) a14.toNat < (alW E W pts T (ct E W pts A) a5 w m a11 a10 sg) a14 := by first | exact c1 | exact jcmp_lt.1 c1
    refine OK_if (fun c2 => ?_) (fun c2 => ?_)
    · skip
      try simp (disch := omega) only [jst_eq, jst_ne, jst_ni, jI_i, jcmp_lt, jcmp_gt, w32_id, jcpy_out, Sum.elim_inl, Sum.elim_inr, jt2, jt3, jt4, jt5, jt6, jt7, jt8] at c2
      have T2 := st.2.2.1.resolve_left (fun y => by (have := y.2.1; omega))
      refine OK_mono (vX5_ithAct_j178_57 (E := E) (Rf := Rf) (W := W) (A := A) (pts := pts) (wh := wh) (rv := rv) (M := M) (T := T) (n := n) (m := m) (D := D) (w := w) (sg := sg) (g := g) (used := used) (ik := ik) (U := U) (N := N) (hb := hb) _ _ _ _ _ _ _ _ _ _ _ (by exact hF) (by exact jj2) (by exact tq) (by exact ia) (by exact io) (by exact op) (by exact ⟨pr.1, pr.2.1, pr.2.2.1, pr.2.2.2.1, pr.2.2.2.2.1⟩) (by exact ⟨R30, vE, by omega⟩) (by exact ⟨P30, ps.2.1, c1w, by omega⟩) (by exact ⟨⟨U30, st.1.2⟩, C30, T2.2.1, by (rw [PJ30]; exact T2.2.2), by (rw [N30]; exact st.2.2.2)⟩)) (fun r r3 => ?_)
      rcases r with r | r
      · skip
        have r4 := r3; clear r3; dsimp only [Sum.elim_inl, Sum.elim_inr] at r4
        obtain ⟨y1, y2, y3, y4, y5, y6, y7, y8⟩ := r
        try dsimp only [Sum.elim_inl, Sum.elim_inr, jt2, jt3, jt4, jt5, jt6, jt7, jt8] at r4
        obtain ⟨fd3, jj3, fs3⟩ := r4
        try simp (disch := omega) only [jst_eq, jst_ne, jst_ni, jI_i, jcmp_lt, jcmp_gt, w32_id, jcpy_out, Sum.elim_inl, Sum.elim_inr, jt2, jt3, jt4, jt5, jt6, jt7, jt8] at fd3
        try simp (disch := omega) only [jst_eq, jst_ne, jst_ni, jI_i, jcmp_lt, jcmp_gt, w32_id, jcpy_out, Sum.elim_inl, Sum.elim_inr, jt2, jt3, jt4, jt5, jt6, jt7, jt8] at jj3
        try simp (disch := omega) only [jst_eq, jst_ne, jst_ni, jI_i, jcmp_lt, jcmp_gt, w32_id, jcpy_out, Sum.elim_inl, Sum.elim_inr, jt2, jt3, jt4, jt5, jt6, jt7, jt8] at fs3
        try dsimp only [Sum.elim_inl, Sum.elim_inr, jt2, jt3, jt4, jt5, jt6, jt7, jt8]
        try dsimp only [Sum.elim_inl, Sum.elim_inr, jt2, jt3, jt4, jt5, jt6, jt7, jt8]
        refine ⟨?_, ?_, ?_⟩
        · exact ⟨fd3.1.2.2, Or.inr ⟨fd3.1.2.1, fd3.2⟩⟩ -- o20 e1.1
        · exact jj3 -- o21 e1.2
        · exact ⟨fJ_t FJ30 fs3.1, fs3.2⟩ -- o22 e1.3
      · skip
        have r5 := r3; clear r3; dsimp only [Sum.elim_inl, Sum.elim_inr] at r5
        obtain ⟨y9, y10, y11, y12, y13, y14⟩ := r
        try dsimp only [Sum.elim_inl, Sum.elim_inr, jt2, jt3, jt4, jt5, jt6, jt7, jt8] at r5
        have no4 := r5
        clear r5
        try simp (disch := omega) only [jst_eq, jst_ne, jst_ni, jI_i, jcmp_lt, jcmp_gt, w32_id, jcpy_out, Sum.elim_inl, Sum.elim_inr, jt2, jt3, jt4, jt5, jt6, jt7, jt8] at no4
        try dsimp only [Sum.elim_inl, Sum.elim_inr, jt2, jt3, jt4, jt5, jt6, jt7, jt8]
        (first | assumption | omega | ((try dsimp only [jt2, jt3, jt4]); first | omega | (simp (disch := omega) only [jst_eq, jst_ne, jst_ni, jst_o, jI_i, jcpy_out, w32_id, jdiv_nn, jshr_k, jand_255] <;> first | done | omega | assumption)) | (intros; simp (disch := omega) only [jst_eq, jst_ne, jst_ni, jst_o, jI_i, jcpy_out, w32_id, jdiv_nn, *] <;> first | done | omega) | (intros; simp (disch := omega) only [jst_eq, jst_ne, jst_ni, jst_o, jI_i, jcpy_out, w32_id, jdiv_nn] at * <;> first | done | omega | assumption) | (intros; first | rfl | (exfalso; omega) | ((repeat' apply And.intro) <;> first | assumption | rfl | omega | trivial))) -- o23 e2
    · skip
      try simp (disch := omega) only [jst_eq, jst_ne, jst_ni, jI_i, jcmp_lt, jcmp_gt, w32_id, jcpy_out, Sum.elim_inl, Sum.elim_inr, jt2, jt3, jt4, jt5, jt6, jt7, jt8] at c2
      have T1 := st.2.2.1.resolve_right (fun y => by (have := y.2.1; omega))
      refine OK_jb (vX1_kindOf (nA := E.1.1) (cA := E.1.2.1) (oA := E.1.2.2.1) (wA := E.1.2.2.2.1) (kA := E.1.2.2.2.2) _ _ (by exact jj2.1.1.2.1.1) (by exact ⟨ia.2.2.1, ia.2.2.2, by omega, by (rw [oper_eq ia.2.2.1]; omega)⟩)) (fun v34 r6 => ?_)
      try dsimp only [Sum.elim_inl, Sum.elim_inr, jt2, jt3, jt4, jt5, jt6, jt7, jt8] at r6
      have v5 := r6
      clear r6
      try simp (disch := omega) only [jst_eq, jst_ne, jst_ni, jI_i, jcmp_lt, jcmp_gt, w32_id, jcpy_out, Sum.elim_inl, Sum.elim_inr, jt2, jt3, jt4, jt5, jt6, jt7, jt8] at v5
      have E34 : v34 = eK E a5 (eO E a5) := by { rw [← io.1, ← kind_eq ia.2.2.1]; assumption }
      refine OK_jb2 (vX3_add (M := 2200) _ _ _ _ _ (by exact C30) (by omega)) (fun v36 h37 r7 => ?_)
      try dsimp only [Sum.elim_inl, Sum.elim_inr, jt2, jt3, jt4, jt5, jt6, jt7, jt8] at r7
      obtain ⟨v6, at6, pt6, fr6⟩ := r7
      try simp (disch := omega) only [jst_eq, jst_ne, jst_ni, jI_i, jcmp_lt, jcmp_gt, w32_id, jcpy_out, Sum.elim_inl, Sum.elim_inr, jt2, jt3, jt4, jt5, jt6, jt7, jt8] at v6
      try simp (disch := omega) only [jst_eq, jst_ne, jst_ni, jI_i, jcmp_lt, jcmp_gt, w32_id, jcpy_out, Sum.elim_inl, Sum.elim_inr, jt2, jt3, jt4, jt5, jt6, jt7, jt8] at at6
      try simp (disch := omega) only [jst_eq, jst_ne, jst_ni, jI_i, jcmp_lt, jcmp_gt, w32_id, jcpy_out, Sum.elim_inl, Sum.elim_inr, jt2, jt3, jt4, jt5, jt6, jt7, jt8] at pt6
      try simp (disch := omega) only [jst_eq, jst_ne, jst_ni, jI_i, jcmp_lt, jcmp_gt, w32_id, jcpy_out, Sum.elim_inl, Sum.elim_inr, jt2, jt3, jt4, jt5, jt6, jt7, jt8] at fr6
      have T1n := T1.2.2.2
      have a110 := T1.1
      have IV0 := nd_0 (n := eO E a5) (g := g) (by omega) v6 ⟨at6.1, at6.2.1, at6.2.2.1.trans E34⟩ pt6 fr6
      rw [PJ30, T1.2.2.1, N30, ← T1n] at IV0
      have F37 : ∀ a s, ¬ (324 ≤ a ∧ a ≤ 329 ∧ 0 ≤ s) → h37 a s = h30 a s := fun a s y => fr6 a s (by omega) (by omega) (by omega)
      have J37 : JXq h37 E Rf W A pts wh rv M T n := JX_n jj2 (fun a s y1 y2 => F37 a s (by omega))
      have FJ37 : ∀ lo, fJx lo h30 h37 := fun lo a s y1 y2 y3 y4 y5 y6 => F37 a s y6
      refine OK_mono (vX5_ithAct_j178_57 (E := E) (Rf := Rf) (W := W) (A := A) (pts := pts) (wh := wh) (rv := rv) (M := M) (T := T) (n := n) (m := m) (D := D) (w := w) (sg := sg) (g := g) (used := used) (ik := ik) (U := U) (N := N) (hb := hb) _ _ _ _ _ _ _ _ _ _ _ (by exact hF) (by exact J37) (by exact tq) (by exact ia) (by exact io) (by exact op) (by exact ⟨pr.1, pr.2.1, pr.2.2.1, pr.2.2.2.1, pr.2.2.2.2.1⟩) (by exact ⟨rowX_J T120 R30 (FJ37 (U + 120)) (Int.le_refl _), vE, by omega⟩) (by exact ⟨by (rw [F37 _ _ (by omega)]; exact P30), ps.2.1, c1w, by omega⟩) (by exact ⟨⟨by (rw [F37 _ _ (by omega)]; exact U30), st.1.2⟩, capT_J (by omega) C30 (FJ37 (U + 120)), by omega, by (rw [a110]; exact IV0), by omega⟩)) (fun r r8 => ?_)
      rcases r with r | r
      · skip
        have r9 := r8; clear r8; dsimp only [Sum.elim_inl, Sum.elim_inr] at r9
        obtain ⟨y15, y16, y17, y18, y19, y20, y21, y22⟩ := r
        try dsimp only [Sum.elim_inl, Sum.elim_inr, jt2, jt3, jt4, jt5, jt6, jt7, jt8] at r9
        obtain ⟨fd7, jj7, fs7⟩ := r9
        try simp (disch := omega) only [jst_eq, jst_ne, jst_ni, jI_i, jcmp_lt, jcmp_gt, w32_id, jcpy_out, Sum.elim_inl, Sum.elim_inr, jt2, jt3, jt4, jt5, jt6, jt7, jt8] at fd7
        try simp (disch := omega) only [jst_eq, jst_ne, jst_ni, jI_i, jcmp_lt, jcmp_gt, w32_id, jcpy_out, Sum.elim_inl, Sum.elim_inr, jt2, jt3, jt4, jt5, jt6, jt7, jt8] at jj7
        try simp (disch := omega) only [jst_eq, jst_ne, jst_ni, jI_i, jcmp_lt, jcmp_gt, w32_id, jcpy_out, Sum.elim_inl, Sum.elim_inr, jt2, jt3, jt4, jt5, jt6, jt7, jt8] at fs7
        try dsimp only [Sum.elim_inl, Sum.elim_inr, jt2, jt3, jt4, jt5, jt6, jt7, jt8]
        try dsimp only [Sum.elim_inl, Sum.elim_inr, jt2, jt3, jt4, jt5, jt6, jt7, jt8]
        refine ⟨?_, ?_, ?_⟩
        · exact ⟨fd7.1.2.2, Or.inr ⟨fd7.1.2.1, fd7.2⟩⟩ -- o38 e3.1
        · exact jj7 -- o39 e3.2
        · exact ⟨fJ_t FJ30 (fJ_t (FJ37 U) fs7.1), fs7.2⟩ -- o40 e3.3
      · skip
        have r10 := r8; clear r8; dsimp only [Sum.elim_inl, Sum.elim_inr] at r10
        obtain ⟨y23, y24, y25, y26, y27, y28⟩ := r
        try dsimp only [Sum.elim_inl, Sum.elim_inr, jt2, jt3, jt4, jt5, jt6, jt7, jt8] at r10
        have no8 := r10
        clear r10
        try simp (disch := omega) only [jst_eq, jst_ne, jst_ni, jI_i, jcmp_lt, jcmp_gt, w32_id, jcpy_out, Sum.elim_inl, Sum.elim_inr, jt2, jt3, jt4, jt5, jt6, jt7, jt8] at no8
        try dsimp only [Sum.elim_inl, Sum.elim_inr, jt2, jt3, jt4, jt5, jt6, jt7, jt8]
        (first | assumption | omega | ((try dsimp only [jt2, jt3, jt4]); first | omega | (simp (disch := omega) only [jst_eq, jst_ne, jst_ni, jst_o, jI_i, jcpy_out, w32_id, jdiv_nn, jshr_k, jand_255] <;> first | done | omega | assumption)) | (intros; simp (disch := omega) only [jst_eq, jst_ne, jst_ni, jst_o, jI_i, jcpy_out, w32_id, jdiv_nn, *] <;> first | done | omega) | (intros; simp (disch := omega) only [jst_eq, jst_ne, jst_ni, jst_o, jI_i, jcpy_out, w32_id, jdiv_nn] at * <;> first | done | omega | assumption) | (intros; first | rfl | (exfalso; omega) | ((repeat' apply And.intro) <;> first | assumption | rfl | omega | trivial))) -- o41 e4
  · skip
    try simp (disch := omega) only [jst_eq, jst_ne, jst_ni, jI_i, jcmp_lt, jcmp_gt, w32_id, jcpy_out, Sum.elim_inl, Sum.elim_inr, jt2, jt3, jt4, jt5, jt6, jt7, jt8] at c1
    have c1w : ¬ ik - sumN (alW E W pts T (ct E W pts A) a5 w m a11 a10 sg) a14.toNat < (alW E W pts T (ct E W pts A) a5 w m a11 a10 sg) a14 := by first | exact c1 | exact fun y => c1 (jcmp_lt.2 y)
    have F5 : ∀ a s x y, ¬ (a = 307 ∧ (s = 19 ∨ s = 20)) → jst (jst h30 307 20 x) 307 19 y a s = h30 a s := fun a s x y z => by { rw [jst_o (by omega), jst_o (by omega)] }
    refine OK_jl ?_
    unfold gX5_ithAct_j309_57
    refine OK_jl ?_
    unfold gX5_ithAct_j315_57
    refine OK_jlx (fun x63 ex63 => ?_)
    try simp (disch := omega) only [jst_eq, jst_ne, jst_ni, jI_i, jcmp_lt, jcmp_gt, w32_id, jcpy_out, Sum.elim_inl, Sum.elim_inr, jt2, jt3, jt4, jt5, jt6, jt7, jt8] at ex63
    refine OK_some ?_
    try dsimp only [Sum.elim_inl, Sum.elim_inr, jt2, jt3, jt4, jt5, jt6, jt7, jt8]
    try dsimp only [Sum.elim_inl, Sum.elim_inr, jt2, jt3, jt4, jt5, jt6, jt7, jt8]
    refine ⟨?_, ?_, ?_⟩
    · exact ⟨by omega, Or.inl ⟨z, ⟨rfl, rfl, rfl, rfl, rfl⟩, by (rw [sumN_s (by omega)]; omega), by (rw [jst_o (by omega), jst_eq, sumN_s (by omega), w64_id (by omega) (by omega)]; omega), (pj_f (fun a s a0 a1 => F5 a s _ _ (by omega))).trans PJ30⟩⟩ -- o42 e5.1
    · exact JX_n jj2 (fun a s y1 y2 => F5 a s _ _ (by omega)) -- o43 e5.2
    · exact ⟨fJ_t FJ30 (fun a s y1 y2 y3 y4 y5 y6 => F5 a s _ _ (by omega)), jst_eq.trans vE⟩ -- o44 e5.3
/-- while an operand is looked for -/
def lnO (a13 : Int) (P Q : Prop) : Prop := (a13 = 0 ∧ P) ∨ (a13 = 1 ∧ Q)
theorem vX5_ithAct_l57 {F : Int → Int → Int → AH → Option (Int × AH)} (i1 : Int) (i3 : Int) (i5 : Int) (i6 : Int) (i11 : Int) (a70 : Int) (a80 : Int) (a90 : Int) (a100 : Int) (a120 : Int) (a130 : Int) (a140 : Int) {h0 : AH} {E : EV} {Rf : Int → TR} {W : Int → Int → Int → VW} {A : AD} {pts wh : Int} {rv : Int → Int} {M : Int → (Int → Int) → Prop} {T : TB} {n m D : Nat} {w sg : Int → Int} {g : Int → TR} {used ik U N : Int} {hb : AH} (hF : ITX E Rf W A pts wh rv M T n F D) (jx : JXq h0 E Rf W A pts wh rv M T n) (tq : TQ E W pts A n T) (ia : (0 ≤ i1 ∧ i1 < A.2.2.2.1) ∧ A.2.2.2.2.1 i1 = i5 ∧ 0 ≤ i5 ∧ i5 < E.1.1) (io : i6 = eO E i5 ∧ 0 ≤ i11 ∧ (m : Int) = i6 - i11 - 1 ∧ 1 ≤ i6 ∧ i6 ≤ 3) (op : opS E W pts A n i5 i11 used sg ∧ sg 0 = a80 ∧ sg 1 = a90) (pr : A.2.2.2.2.2.2.2 i1 + used + a100 ≤ n ∧ 0 ≤ used ∧ 0 ≤ a100 ∧ a100 ≤ D + 1) (rx : rowX h0 i3 U w T) (bd : rsW E W pts T (ct E W pts A) i5 w (m + 1) i11 a100 sg < 9223372036854775808) (ps : h0 307 20 = ik ∧ 0 ≤ ik ∧ ik < 9223372036854775808) (st : (h0 307 19 = U ∧ U + 120 * a100 ≤ 4800) ∧ capT h0 324 2200 ∧ ((i11 = 0 ∧ a70 = -1 ∧ pj h0 = pj hb ∧ N = h0 324 0) ∨ (0 < i11 ∧ N = a70 ∧ ivC 324 N (ndT (eO E i5) (ndI E i5) g) (pj hb) i11.toNat (pj h0))) ∧ (0 ≤ N ∧ N ≤ h0 324 0 ∧ h0 324 0 ≤ N + 1 + used ∧ N + 1 + used + a100 ≤ 2200)) (z : a120 = a70 ∧ a130 = 0 ∧ a140 = 1) : OK (gX5_ithAct_l57 F i1 i3 i5 i6 i11 a70 a80 a90 a100 a120 a130 a140 h0) (fun r => jt6 r fun y7 y8 y9 y10 y13 h' => (lnO y13 ((y7 = a70 ∧ y8 = a80 ∧ y9 = a90 ∧ y10 = a100) ∧ rsW E W pts T (ct E W pts A) i5 w (m + 1) i11 a100 sg ≤ ik ∧ h' 307 20 = ik - rsW E W pts T (ct E W pts A) i5 w (m + 1) i11 a100 sg ∧ pj h' = pj h0) (fdO E W pts A T D i5 w m i11 a100 sg g ik N (N + 1 + used) hb h' y7 y8 y9 y10 a80 a90)) ∧ (JXq h' E Rf W A pts wh rv M T n) ∧ (fJx U h0 h' ∧ h' 307 19 = U)) := by
  unfold gX5_ithAct_l57
  refine OK_jit (I := (fun (s : Int × Int × Int × Int × Int × Int × Int × AH) => jt8 s fun a7 a8 a9 a10 a12 a13 a14 h => (1 ≤ a14) ∧ (lnO a13 ((a7 = a70 ∧ a8 = a80 ∧ a9 = a90 ∧ a10 = a100 ∧ a12 = a70) ∧ a14 ≤ a100 + 1 ∧ sumN (alW E W pts T (ct E W pts A) i5 w m i11 a100 sg) a14.toNat ≤ ik ∧ h 307 20 = ik - sumN (alW E W pts T (ct E W pts A) i5 w m i11 a100 sg) a14.toNat ∧ pj h = pj h0) (fdO E W pts A T D i5 w m i11 a100 sg g ik N (N + 1 + used) hb h a7 a8 a9 a10 a80 a90)) ∧ (JXq h E Rf W A pts wh rv M T n) ∧ (fJx U h0 h ∧ h 307 19 = U))) (m := (fun (s : Int × Int × Int × Int × Int × Int × Int × AH) => jt8 s fun a7 a8 a9 a10 a12 a13 a14 h => (a100 + 1 - a14).toNat)) ?_ ?_
  · intro s hs
    obtain ⟨a7, a8, a9, a10, a12, a13, a14, h⟩ := s
    dsimp only [Sum.elim_inl, Sum.elim_inr, jt2, jt3, jt4, jt5, jt6, jt7, jt8] at hs
    obtain ⟨q0, iv, JJ, fr⟩ := hs
    unfold gX5_ithAct_b57
    refine OK_jt8 ?_
    have n12 := tq.1.1
    have pp := (tq.1.2.2.2.1.2.2 i1 ia.1.1 ia.1.2).1
    have T120 := jx.2.1.1
    have w1 : w32 (i6 - 1) = i6 - 1 := w32_id (by omega) (by omega)
    have w2 : w32 (i6 - 1 - i11) = i6 - 1 - i11 := w32_id (by omega) (by omega)
    have A10 : 0 ≤ a10 ∧ a10 ≤ a100 := by
      rcases iv with y | y
      · have := y.2.1.2.2.2.1
        omega
      · obtain ⟨r, R1, f1, i1', q1, q2, q3, q4, q5, q6⟩ := y.2
        have := q5.2.2.2
        omega
    have w3 : w32 (a10 - (i6 - 1 - i11)) = a10 - (i6 - 1 - i11) := w32_id (by omega) (by omega)
    have w4 : 1 ≤ a14 → a14 ≤ 20 → w32 (a14 + 1) = a14 + 1 := fun x y => w32_id (by omega) (by omega)
    refine OK_if (fun c1 => ?_) (fun c1 => ?_)
    · skip
      try simp (disch := omega) only [jst_eq, jst_ne, jst_ni, jI_i, jcmp_lt, jcmp_gt, w32_id, jcpy_out, Sum.elim_inl, Sum.elim_inr, jt2, jt3, jt4, jt5, jt6, jt7, jt8] at c1
      refine OK_ir ?_
      try dsimp only [Sum.elim_inl, Sum.elim_inr, jt2, jt3, jt4, jt5, jt6, jt7, jt8]
      refine ⟨?_, ?_, ?_⟩
      · (rcases iv with y | y; { have y10 := y.2.1.2.2.2.1; have e := al_sum (E := E) (W := W) (pts := pts) (A := A) (T := T) (ac := i5) (w := w) (m := m) (k := i11) (left := a100) (r := a14) (s := sg) (by omega) y.2.2.1 (fun j j0 j1 => al_z ⟨by omega, j1⟩ (Or.inl (by omega))); exact Or.inl ⟨y.1, ⟨y.2.1.1, y.2.1.2.1, y.2.1.2.2.1, y10⟩, by (rw [← e]; exact y.2.2.2.1), by (rw [← e]; exact y.2.2.2.2.1), y.2.2.2.2.2⟩ }; { exact Or.inr y }) -- o1 e1.1
      · exact JJ -- o2 e1.2
      · exact fr -- o3 e1.3
    · skip
      try simp (disch := omega) only [jst_eq, jst_ne, jst_ni, jI_i, jcmp_lt, jcmp_gt, w32_id, jcpy_out, Sum.elim_inl, Sum.elim_inr, jt2, jt3, jt4, jt5, jt6, jt7, jt8] at c1
      refine OK_if (fun c2 => ?_) (fun c2 => ?_)
      · skip
        try simp (disch := omega) only [jst_eq, jst_ne, jst_ni, jI_i, jcmp_lt, jcmp_gt, w32_id, jcpy_out, Sum.elim_inl, Sum.elim_inr, jt2, jt3, jt4, jt5, jt6, jt7, jt8] at c2
        have Y := (Or.resolve_right iv (fun y => by (have := y.1; omega))).2
        obtain ⟨⟨f7, f8, f9, f10, f12⟩, Y1, Y2, Y3, Y5⟩ := Y
        have N0 : h 324 0 = h0 324 0 := by { have e : pj h 324 0 = pj h0 324 0 := (by rw [Y5]); rw [pj_i (by decide), pj_i (by decide)] at e; exact e }
        try rw [f7]
        try rw [f8]
        try rw [f9]
        try rw [f10]
        try rw [f12]
        have a14u : a14 ≤ a100 - (i6 - 1 - i11) := by omega
        refine OK_if (fun c3 => ?_) (fun c3 => ?_)
        · skip
          try simp (disch := omega) only [jst_eq, jst_ne, jst_ni, jI_i, jcmp_lt, jcmp_gt, w32_id, jcpy_out, Sum.elim_inl, Sum.elim_inr, jt2, jt3, jt4, jt5, jt6, jt7, jt8] at c3
          refine OK_if (fun c4 => ?_) (fun c4 => ?_)
          · skip
            try simp (disch := omega) only [jst_eq, jst_ne, jst_ni, jI_i, jcmp_lt, jcmp_gt, w32_id, jcpy_out, Sum.elim_inl, Sum.elim_inr, jt2, jt3, jt4, jt5, jt6, jt7, jt8] at c4
            refine OK_mono (vX5_ithAct_j96_57 (E := E) (Rf := Rf) (W := W) (A := A) (pts := pts) (wh := wh) (rv := rv) (M := M) (T := T) (n := n) (m := m) (D := D) (w := w) (sg := sg) (g := g) (used := used) (ik := ik) (U := U) (N := N) (hb := hb) _ _ _ _ _ _ _ _ _ _ _ _ (by exact hF) (by exact JJ) (by exact tq) (by exact ia) (by exact io) (by exact op) (by exact ⟨pr.1, pr.2.1, q0, by omega, by omega, fun _ => by omega⟩) (by exact rowX_J T120 rx fr.1 (Int.le_refl _)) (by exact bd) (by exact ⟨Y3, Y2, ps.2.2⟩) (by exact ⟨⟨fr.2, st.1.2⟩, capT_J (by have := rx.1; omega) st.2.1 fr.1, by (rw [Y5, N0]; exact st.2.2)⟩) (by exact c2)) (fun r r1 => ?_)
            rcases r with r | r
            · skip
              have r2 := r1; clear r1; dsimp only [Sum.elim_inl, Sum.elim_inr] at r2
              obtain ⟨y1, y2, y3, y4, y5, y6, y7, y8⟩ := r
              try dsimp only [Sum.elim_inl, Sum.elim_inr, jt2, jt3, jt4, jt5, jt6, jt7, jt8] at r2
              obtain ⟨fd1, jj1, fs1⟩ := r2
              try simp (disch := omega) only [jst_eq, jst_ne, jst_ni, jI_i, jcmp_lt, jcmp_gt, w32_id, jcpy_out, Sum.elim_inl, Sum.elim_inr, jt2, jt3, jt4, jt5, jt6, jt7, jt8] at fd1
              try simp (disch := omega) only [jst_eq, jst_ne, jst_ni, jI_i, jcmp_lt, jcmp_gt, w32_id, jcpy_out, Sum.elim_inl, Sum.elim_inr, jt2, jt3, jt4, jt5, jt6, jt7, jt8] at jj1
              try simp (disch := omega) only [jst_eq, jst_ne, jst_ni, jI_i, jcmp_lt, jcmp_gt, w32_id, jcpy_out, Sum.elim_inl, Sum.elim_inr, jt2, jt3, jt4, jt5, jt6, jt7, jt8] at fs1
              try dsimp only [Sum.elim_inl, Sum.elim_inr, jt2, jt3, jt4, jt5, jt6, jt7, jt8]
              refine ⟨?_, ?_⟩
              · try dsimp only [Sum.elim_inl, Sum.elim_inr, jt2, jt3, jt4, jt5, jt6, jt7, jt8]
                refine ⟨?_, ?_, ?_, ?_⟩
                · (rw [fd1.1]; omega) -- o16 e2i.1
                · (rcases fd1.2 with q | q; { exact Or.inl ⟨q.1, q.2.1, by omega, by (rw [fd1.1]; exact q.2.2.1), by (rw [fd1.1]; exact q.2.2.2.1), q.2.2.2.2.trans Y5⟩ }; { exact Or.inr q }) -- o17 e2i.2
                · exact jj1 -- o18 e2i.3
                · exact ⟨fJ_t fr.1 fs1.1, fs1.2⟩ -- o19 e2i.4
              · (rw [fd1.1]; omega) -- o20 e2m
            · skip
              have r3 := r1; clear r1; dsimp only [Sum.elim_inl, Sum.elim_inr] at r3
              obtain ⟨y9, y10, y11, y12, y13, y14⟩ := r
              try dsimp only [Sum.elim_inl, Sum.elim_inr, jt2, jt3, jt4, jt5, jt6, jt7, jt8] at r3
              have no2 := r3
              clear r3
              try simp (disch := omega) only [jst_eq, jst_ne, jst_ni, jI_i, jcmp_lt, jcmp_gt, w32_id, jcpy_out, Sum.elim_inl, Sum.elim_inr, jt2, jt3, jt4, jt5, jt6, jt7, jt8] at no2
              try dsimp only [Sum.elim_inl, Sum.elim_inr, jt2, jt3, jt4, jt5, jt6, jt7, jt8]
              try dsimp only [Sum.elim_inl, Sum.elim_inr, jt2, jt3, jt4, jt5, jt6, jt7, jt8]
              refine ⟨?_, ?_, ?_⟩
              · (first | assumption | omega | ((try dsimp only [jt2, jt3, jt4]); first | omega | (simp (disch := omega) only [jst_eq, jst_ne, jst_ni, jst_o, jI_i, jcpy_out, w32_id, jdiv_nn, jshr_k, jand_255] <;> first | done | omega | assumption)) | (intros; simp (disch := omega) only [jst_eq, jst_ne, jst_ni, jst_o, jI_i, jcpy_out, w32_id, jdiv_nn, *] <;> first | done | omega) | (intros; simp (disch := omega) only [jst_eq, jst_ne, jst_ni, jst_o, jI_i, jcpy_out, w32_id, jdiv_nn] at * <;> first | done | omega | assumption) | (intros; first | rfl | (exfalso; omega) | ((repeat' apply And.intro) <;> first | assumption | rfl | omega | trivial))) -- o21 e3.1
              · (first | assumption | omega | ((try dsimp only [jt2, jt3, jt4]); first | omega | (simp (disch := omega) only [jst_eq, jst_ne, jst_ni, jst_o, jI_i, jcpy_out, w32_id, jdiv_nn, jshr_k, jand_255] <;> first | done | omega | assumption)) | (intros; simp (disch := omega) only [jst_eq, jst_ne, jst_ni, jst_o, jI_i, jcpy_out, w32_id, jdiv_nn, *] <;> first | done | omega) | (intros; simp (disch := omega) only [jst_eq, jst_ne, jst_ni, jst_o, jI_i, jcpy_out, w32_id, jdiv_nn] at * <;> first | done | omega | assumption) | (intros; first | rfl | (exfalso; omega) | ((repeat' apply And.intro) <;> first | assumption | rfl | omega | trivial))) -- o22 e3.2
              · (first | assumption | omega | ((try dsimp only [jt2, jt3, jt4]); first | omega | (simp (disch := omega) only [jst_eq, jst_ne, jst_ni, jst_o, jI_i, jcpy_out, w32_id, jdiv_nn, jshr_k, jand_255] <;> first | done | omega | assumption)) | (intros; simp (disch := omega) only [jst_eq, jst_ne, jst_ni, jst_o, jI_i, jcpy_out, w32_id, jdiv_nn, *] <;> first | done | omega) | (intros; simp (disch := omega) only [jst_eq, jst_ne, jst_ni, jst_o, jI_i, jcpy_out, w32_id, jdiv_nn] at * <;> first | done | omega | assumption) | (intros; first | rfl | (exfalso; omega) | ((repeat' apply And.intro) <;> first | assumption | rfl | omega | trivial))) -- o23 e3.3
          · skip
            try simp (disch := omega) only [jst_eq, jst_ne, jst_ni, jI_i, jcmp_lt, jcmp_gt, w32_id, jcpy_out, Sum.elim_inl, Sum.elim_inr, jt2, jt3, jt4, jt5, jt6, jt7, jt8] at c4
            have w63 := w4 q0 (by omega)
            unfold gX5_ithAct_j315_57
            refine OK_jlx (fun x63 ex63 => ?_)
            try simp (disch := omega) only [jst_eq, jst_ne, jst_ni, jI_i, jcmp_lt, jcmp_gt, w32_id, jcpy_out, Sum.elim_inl, Sum.elim_inr, jt2, jt3, jt4, jt5, jt6, jt7, jt8] at ex63
            refine OK_il ?_ ?_
            · try dsimp only [Sum.elim_inl, Sum.elim_inr, jt2, jt3, jt4, jt5, jt6, jt7, jt8]
              refine ⟨?_, ?_, ?_, ?_⟩
              · omega -- o24 e4i.1
              · (have ST := sumN_s (g := (alW E W pts T (ct E W pts A) i5 w m i11 a100 sg)) (a := a14) (by omega); rw [al_z ⟨by omega, by omega⟩ (Or.inr (Or.inl ⟨by omega, by omega⟩)), Int.add_zero] at ST; exact Or.inl ⟨c2, ⟨by first | rfl | assumption, by first | rfl | assumption, by first | rfl | assumption, by first | rfl | assumption, by first | rfl | assumption⟩, by omega, by (rw [show x63 = a14 + 1 by omega, ST]; exact Y2), by (rw [show x63 = a14 + 1 by omega, ST]; exact Y3), Y5⟩) -- o25 e4i.2
              · exact JJ -- o26 e4i.3
              · exact fr -- o27 e4i.4
            · (dsimp only [jt8]; omega) -- o28 e4m
        · skip
          try simp (disch := omega) only [jst_eq, jst_ne, jst_ni, jI_i, jcmp_lt, jcmp_gt, w32_id, jcpy_out, Sum.elim_inl, Sum.elim_inr, jt2, jt3, jt4, jt5, jt6, jt7, jt8] at c3
          refine OK_mono (vX5_ithAct_j96_57 (E := E) (Rf := Rf) (W := W) (A := A) (pts := pts) (wh := wh) (rv := rv) (M := M) (T := T) (n := n) (m := m) (D := D) (w := w) (sg := sg) (g := g) (used := used) (ik := ik) (U := U) (N := N) (hb := hb) _ _ _ _ _ _ _ _ _ _ _ _ (by exact hF) (by exact JJ) (by exact tq) (by exact ia) (by exact io) (by exact op) (by exact ⟨pr.1, pr.2.1, q0, by omega, by omega, fun y => by omega⟩) (by exact rowX_J T120 rx fr.1 (Int.le_refl _)) (by exact bd) (by exact ⟨Y3, Y2, ps.2.2⟩) (by exact ⟨⟨fr.2, st.1.2⟩, capT_J (by have := rx.1; omega) st.2.1 fr.1, by (rw [Y5, N0]; exact st.2.2)⟩) (by exact c2)) (fun r r4 => ?_)
          rcases r with r | r
          · skip
            have r5 := r4; clear r4; dsimp only [Sum.elim_inl, Sum.elim_inr] at r5
            obtain ⟨y15, y16, y17, y18, y19, y20, y21, y22⟩ := r
            try dsimp only [Sum.elim_inl, Sum.elim_inr, jt2, jt3, jt4, jt5, jt6, jt7, jt8] at r5
            obtain ⟨fd3, jj3, fs3⟩ := r5
            try simp (disch := omega) only [jst_eq, jst_ne, jst_ni, jI_i, jcmp_lt, jcmp_gt, w32_id, jcpy_out, Sum.elim_inl, Sum.elim_inr, jt2, jt3, jt4, jt5, jt6, jt7, jt8] at fd3
            try simp (disch := omega) only [jst_eq, jst_ne, jst_ni, jI_i, jcmp_lt, jcmp_gt, w32_id, jcpy_out, Sum.elim_inl, Sum.elim_inr, jt2, jt3, jt4, jt5, jt6, jt7, jt8] at jj3
            try simp (disch := omega) only [jst_eq, jst_ne, jst_ni, jI_i, jcmp_lt, jcmp_gt, w32_id, jcpy_out, Sum.elim_inl, Sum.elim_inr, jt2, jt3, jt4, jt5, jt6, jt7, jt8] at fs3
            try dsimp only [Sum.elim_inl, Sum.elim_inr, jt2, jt3, jt4, jt5, jt6, jt7, jt8]
            refine ⟨?_, ?_⟩
            · try dsimp only [Sum.elim_inl, Sum.elim_inr, jt2, jt3, jt4, jt5, jt6, jt7, jt8]
              refine ⟨?_, ?_, ?_, ?_⟩
              · (rw [fd3.1]; omega) -- o41 e5i.1
              · (rcases fd3.2 with q | q; { exact Or.inl ⟨q.1, q.2.1, by omega, by (rw [fd3.1]; exact q.2.2.1), by (rw [fd3.1]; exact q.2.2.2.1), q.2.2.2.2.trans Y5⟩ }; { exact Or.inr q }) -- o42 e5i.2
              · exact jj3 -- o43 e5i.3
              · exact ⟨fJ_t fr.1 fs3.1, fs3.2⟩ -- o44 e5i.4
            · (rw [fd3.1]; omega) -- o45 e5m
          · skip
            have r6 := r4; clear r4; dsimp only [Sum.elim_inl, Sum.elim_inr] at r6
            obtain ⟨y23, y24, y25, y26, y27, y28⟩ := r
            try dsimp only [Sum.elim_inl, Sum.elim_inr, jt2, jt3, jt4, jt5, jt6, jt7, jt8] at r6
            have no4 := r6
            clear r6
            try simp (disch := omega) only [jst_eq, jst_ne, jst_ni, jI_i, jcmp_lt, jcmp_gt, w32_id, jcpy_out, Sum.elim_inl, Sum.elim_inr, jt2, jt3, jt4, jt5, jt6, jt7, jt8] at no4
            try dsimp only [Sum.elim_inl, Sum.elim_inr, jt2, jt3, jt4, jt5, jt6, jt7, jt8]
            try dsimp only [Sum.elim_inl, Sum.elim_inr, jt2, jt3, jt4, jt5, jt6, jt7, jt8]
            refine ⟨?_, ?_, ?_⟩
            · (first | assumption | omega | ((try dsimp only [jt2, jt3, jt4]); first | omega | (simp (disch := omega) only [jst_eq, jst_ne, jst_ni, jst_o, jI_i, jcpy_out, w32_id, jdiv_nn, jshr_k, jand_255] <;> first | done | omega | assumption)) | (intros; simp (disch := omega) only [jst_eq, jst_ne, jst_ni, jst_o, jI_i, jcpy_out, w32_id, jdiv_nn, *] <;> first | done | omega) | (intros; simp (disch := omega) only [jst_eq, jst_ne, jst_ni, jst_o, jI_i, jcpy_out, w32_id, jdiv_nn] at * <;> first | done | omega | assumption) | (intros; first | rfl | (exfalso; omega) | ((repeat' apply And.intro) <;> first | assumption | rfl | omega | trivial))) -- o46 e6.1
            · (first | assumption | omega | ((try dsimp only [jt2, jt3, jt4]); first | omega | (simp (disch := omega) only [jst_eq, jst_ne, jst_ni, jst_o, jI_i, jcpy_out, w32_id, jdiv_nn, jshr_k, jand_255] <;> first | done | omega | assumption)) | (intros; simp (disch := omega) only [jst_eq, jst_ne, jst_ni, jst_o, jI_i, jcpy_out, w32_id, jdiv_nn, *] <;> first | done | omega) | (intros; simp (disch := omega) only [jst_eq, jst_ne, jst_ni, jst_o, jI_i, jcpy_out, w32_id, jdiv_nn] at * <;> first | done | omega | assumption) | (intros; first | rfl | (exfalso; omega) | ((repeat' apply And.intro) <;> first | assumption | rfl | omega | trivial))) -- o47 e6.2
            · (first | assumption | omega | ((try dsimp only [jt2, jt3, jt4]); first | omega | (simp (disch := omega) only [jst_eq, jst_ne, jst_ni, jst_o, jI_i, jcpy_out, w32_id, jdiv_nn, jshr_k, jand_255] <;> first | done | omega | assumption)) | (intros; simp (disch := omega) only [jst_eq, jst_ne, jst_ni, jst_o, jI_i, jcpy_out, w32_id, jdiv_nn, *] <;> first | done | omega) | (intros; simp (disch := omega) only [jst_eq, jst_ne, jst_ni, jst_o, jI_i, jcpy_out, w32_id, jdiv_nn] at * <;> first | done | omega | assumption) | (intros; first | rfl | (exfalso; omega) | ((repeat' apply And.intro) <;> first | assumption | rfl | omega | trivial))) -- o48 e6.3
      · skip
        try simp (disch := omega) only [jst_eq, jst_ne, jst_ni, jI_i, jcmp_lt, jcmp_gt, w32_id, jcpy_out, Sum.elim_inl, Sum.elim_inr, jt2, jt3, jt4, jt5, jt6, jt7, jt8] at c2
        refine OK_ir ?_
        try dsimp only [Sum.elim_inl, Sum.elim_inr, jt2, jt3, jt4, jt5, jt6, jt7, jt8]
        refine ⟨?_, ?_, ?_⟩
        · (rcases iv with y | y; { exact absurd y.1 c2 }; { exact Or.inr y }) -- o49 e7.1
        · exact JJ -- o50 e7.2
        · exact fr -- o51 e7.3
  · try dsimp only [Sum.elim_inl, Sum.elim_inr, jt2, jt3, jt4, jt5, jt6, jt7, jt8]
    refine ⟨?_, ?_, ?_, ?_⟩
    · omega -- o52 init.1
    · (have S1 : sumN (alW E W pts T (ct E W pts A) i5 w m i11 a100 sg) (1 : Int).toNat = 0 := (by have e := sumN_s (g := (alW E W pts T (ct E W pts A) i5 w m i11 a100 sg)) (a := 0) (Int.le_refl 0); rw [al_z ⟨Int.le_refl _, pr.2.2.1⟩ (Or.inr (Or.inr rfl))] at e; exact e); rw [z.2.2]; exact Or.inl ⟨z.2.1, ⟨rfl, rfl, rfl, rfl, z.1⟩, by omega, by (rw [S1]; exact ps.2.1), by (rw [S1, Int.sub_zero]; exact ps.1), rfl⟩) -- o53 init.2
    · exact jx -- o54 init.3
    · exact ⟨fJ_r _, st.1.1⟩ -- o55 init.4
/-- operands, so many are chosen -/
def opX (E : EV) (W : Int → Int → Int → VW) (pts : Int) (A : AD) (T : TB) (n D : Nat) (ac : Int) (w : Int → Int) (a2 i N : Int) (hb : AH) (root u1 u2 left k : Int) (h : AH) : Prop := ∃ (s : Int → Int) (g : Int → TR) (used ik : Int), opS E W pts A n ac k used s ∧ (s 0 = u1 ∧ s 1 = u2) ∧ (used + left = a2 ∧ 0 ≤ used ∧ 0 ≤ left) ∧ (h 307 20 = ik ∧ 0 ≤ ik ∧ ik < 9223372036854775808) ∧ ((0 < k → ik < rsW E W pts T (ct E W pts A) ac w (eO E ac - k).toNat k left s) ∧ (0 < k → i < rsW E W pts T (ct E W pts A) ac w (eO E ac).toNat 0 a2 s0T) ∧ rsW E W pts T (ct E W pts A) ac w (eO E ac - k).toNat k left s < 9223372036854775808) ∧ (∀ R f r, opRd E W pts T (ct E W pts A) (itR E W pts A T (ct E W pts A) (D + 1)) ac w (eO E ac - k).toNat k left s g ik R f r → opRd E W pts T (ct E W pts A) (itR E W pts A T (ct E W pts A) (D + 1)) ac w (eO E ac).toNat 0 a2 s0T (fun _ => .leaf (0, 0, 0, 0)) i R f r) ∧ ((k = 0 ∧ root = -1 ∧ pj h = pj hb ∧ N = h 324 0 ∧ ik = i ∧ s = s0T ∧ left = a2) ∨ (0 < k ∧ N = root ∧ ivC 324 N (ndT (eO E ac) (ndI E ac) g) (pj hb) k.toNat (pj h))) ∧ (N ≤ h 324 0 ∧ h 324 0 ≤ N + 1 + used) ∧ (k = eO E ac → h 307 21 = ixS E W pts T ac s)
theorem ow_eq {E : EV} {W : Int → Int → Int → VW} {pts : Int} {T : TB} {c : Int → Int → Int} {ac : Int} {w : Int → Int} {m : Nat} {k left : Int} {s : Int → Int} {r f i : Int} (i0 : 0 ≤ i) (l : i < owW E W pts T c ac w m k left s r f) : owW E W pts T c ac w m k left s r f = rsW E W pts T c ac w m (k + 1) (left - r) (up1 s k f) := by
  unfold owW at l ⊢
  by_cases y : T.2.1 f = eK E ac k ∧ c r f ≠ 0
  · exact cif_y y
  · rw [cif_n y] at l
    omega
/-- one operand more -/
theorem opX_st {E : EV} {W : Int → Int → Int → VW} {pts : Int} {A : AD} {T : TB} {n D m : Nat} {ac : Int} {w : Int → Int} {a2 i N : Int} {hb h' : AH} {u1 u2 left k x7 x8 x9 x10 j used ik : Int} {s : Int → Int} {g : Int → TR} (tq : TQ E W pts A n T) (d : dsT pts T) (w0 : ∀ f, 0 ≤ w f) (pr : 1 ≤ A.2.2.2.2.2.2.2 j ∧ A.2.2.2.2.2.2.2 j + a2 ≤ n) (e3 : 1 ≤ eO E ac ∧ eO E ac ≤ 3) (k0 : 0 ≤ k) (mk : (m : Int) = eO E ac - k - 1) (N0 : 0 ≤ N) (o : opS E W pts A n ac k used s) (ss : s 0 = u1 ∧ s 1 = u2) (ul : used + left = a2 ∧ 0 ≤ used ∧ 0 ≤ left) (ki : k = 0 → ik = i ∧ s = s0T ∧ left = a2) (i1 : 0 < k → i < rsW E W pts T (ct E W pts A) ac w (eO E ac).toNat 0 a2 s0T) (ik0 : 0 ≤ ik) (bd : rsW E W pts T (ct E W pts A) ac w (m + 1) k left s < 9223372036854775808) (co : ∀ R f r, opRd E W pts T (ct E W pts A) (itR E W pts A T (ct E W pts A) (D + 1)) ac w (m + 1) k left s g ik R f r → opRd E W pts T (ct E W pts A) (itR E W pts A T (ct E W pts A) (D + 1)) ac w (eO E ac).toNat 0 a2 s0T (fun _ => .leaf (0, 0, 0, 0)) i R f r) (fd : fdO E W pts A T D ac w m k left s g ik N (N + 1 + used) hb h' x7 x8 x9 x10 u1 u2) : opX E W pts A T n D ac w a2 i N hb x7 x8 x9 x10 (k + 1) h' := by
  obtain ⟨r, R1, f1, i1', r0, q1, q2, it, xs, p20, p21, iv, tp⟩ := fd
  have A1 := al_1 (by omega) q1 q2
  have IG := itR_ok tq d (D + 1) r _ _ R1 f1 i1' (by omega) (by omega) (fun f => owT_0 ct_0 w0) (by omega) it
  have OO := ow_op tq o (by omega) (by omega) IG.1.1.1 IG.1.2.1 IG.1.2.2
  have OE := ow_eq IG.1.2.1 IG.1.2.2
  have lx := tq.2.1.1
  have OL := ow_le (E := E) (W := W) (pts := pts) (ac := ac) (k := k) (left := left) (s := s) (m := m) (r := r) (f := f1) (T := T) (c := ct E W pts A) ct_0 w0 ⟨IG.1.1.1, by omega⟩
  have AR := al_rs (E := E) (W := W) (pts := pts) (A := A) (T := T) (ac := ac) (m := m) (k := k) (left := left) (r := r) (s := s) w0 (by omega)
  have me : (eO E ac - (k + 1)).toNat = m := by omega
  have kz := kss_0 sz_0 (ndT (eO E ac) (ndI E ac) (up1 g k R1)) (k + 1).toNat
  have iv1 := iv.1
  rw [pj_i (by decide)] at iv1
  refine ⟨up1 s k f1, up1 g k R1, used + r, i1', OO.2.2.1, ⟨?_, ?_⟩, by omega, ⟨p20, IG.1.2.1, by have := IG.1.2.2; omega⟩, ⟨fun _ => ?_, fun _ => ?_, ?_⟩, fun R f r' op => ?_, Or.inr ⟨by omega, xs.1.symm, iv⟩, ⟨by omega, by omega⟩, fun e => p21 (by omega)⟩
  · rw [xs.2.1]
    by_cases y : k = 0
    · rw [if_pos y]; exact up1_p y.symm
    · rw [if_neg y, up1_o (by omega)]; exact ss.1
  · rw [xs.2.2.1]
    by_cases y : k = 1
    · rw [if_pos y]; exact up1_p y.symm
    · rw [if_neg y, up1_o (by omega)]; exact ss.2
  · rw [me, xs.2.2.2]
    exact OO.2.2.2
  · by_cases y : k = 0
    · have z := ki y
      have e : (eO E ac).toNat = m + 1 := by omega
      rw [e, rsT_a, ← z.1, ← z.2.1, ← z.2.2, ← y]
      have mo := sumN_m (f := alW E W pts T (ct E W pts A) ac w m k left s) (fun j _ => alT_0 ct_0 w0) (n := (r + 1).toNat) (m := (left + 1).toNat) (by omega)
      omega
    · exact i1 (by omega)
  · rw [me, xs.2.2.2, ← OE]
    omega
  · rw [me, xs.2.2.2] at op
    exact co R f r' ⟨r, R1, f1, i1', by omega, r0.2, q1, q2, it, op⟩
theorem vX5_ithAct_l40 {F : Int → Int → Int → AH → Option (Int × AH)} (i1 : Int) (i3 : Int) (i5 : Int) (i6 : Int) (a70 : Int) (a80 : Int) (a90 : Int) (a100 : Int) (a110 : Int) {h0 : AH} {E : EV} {Rf : Int → TR} {W : Int → Int → Int → VW} {A : AD} {pts wh : Int} {rv : Int → Int} {M : Int → (Int → Int) → Prop} {T : TB} {n D : Nat} {w : Int → Int} {a2 i U : Int} (hF : ITX E Rf W A pts wh rv M T n F D) (jx : JXq h0 E Rf W A pts wh rv M T n) (tq : TQ E W pts A n T) (ia : (0 ≤ i1 ∧ i1 < A.2.2.2.1) ∧ A.2.2.2.2.1 i1 = i5 ∧ 0 ≤ i5 ∧ i5 < E.1.1) (io : i6 = eO E i5 ∧ 1 ≤ i6 ∧ i6 ≤ 3) (pr : A.2.2.2.2.2.2.2 i1 + a2 ≤ n ∧ 1 ≤ a2 ∧ a2 ≤ D + 1) (rx : rowX h0 i3 U w T) (bd : rsW E W pts T (ct E W pts A) i5 w (eO E i5).toNat 0 a2 s0T < 9223372036854775808) (st : stX2 h0 i U a2 (a2 + 1)) (z : a70 = -1 ∧ a80 = -1 ∧ a90 = -1 ∧ a100 = a2 ∧ a110 = 0) : OK (gX5_ithAct_l40 F i1 i3 i5 i6 a70 a80 a90 a100 a110 h0) (Sum.elim (fun h' => (rsW E W pts T (ct E W pts A) i5 w (eO E i5).toNat 0 a2 s0T ≤ i ∧ h' 307 20 = i - rsW E W pts T (ct E W pts A) i5 w (eO E i5).toNat 0 a2 s0T ∧ pj h' = pj h0) ∧ (JXq h' E Rf W A pts wh rv M T n) ∧ (fJx U h0 h' ∧ h' 307 19 = U)) (fun r => jt2 r fun v h' => (0 ≤ v ∧ i < rsW E W pts T (ct E W pts A) i5 w (eO E i5).toNat 0 a2 s0T ∧ ∃ R f r, opRd E W pts T (ct E W pts A) (itR E W pts A T (ct E W pts A) (D + 1)) i5 w (eO E i5).toNat 0 a2 s0T (fun _ => .leaf (0, 0, 0, 0)) i R f r ∧ poC 324 R (pj h0) v (pj h') ∧ h' 307 21 = f ∧ h' 307 20 = r) ∧ (JXq h' E Rf W A pts wh rv M T n) ∧ (fJx U h0 h' ∧ h' 307 19 = U))) := by
  unfold gX5_ithAct_l40
  refine OK_jit (I := (fun (s : Int × Int × Int × Int × Int × AH) => jt6 s fun a7 a8 a9 a10 a11 h => (0 ≤ a11 ∧ a11 ≤ i6) ∧ (opX E W pts A T n D i5 w a2 i (h0 324 0) h0 a7 a8 a9 a10 a11 h) ∧ (JXq h E Rf W A pts wh rv M T n) ∧ (fJx U h0 h ∧ h 307 19 = U))) (m := (fun (s : Int × Int × Int × Int × Int × AH) => jt6 s fun a7 a8 a9 a10 a11 h => (i6 - a11).toNat)) ?_ ?_
  · intro s hs
    obtain ⟨a7, a8, a9, a10, a11, h⟩ := s
    dsimp only [Sum.elim_inl, Sum.elim_inr, jt2, jt3, jt4, jt5, jt6, jt7, jt8] at hs
    obtain ⟨q0, iv, JJ, fr⟩ := hs
    unfold gX5_ithAct_b40
    refine OK_jt6 ?_
    have n12 := tq.1.1
    have pp := (tq.1.2.2.2.1.2.2 i1 ia.1.1 ia.1.2).1
    have T120 := jx.2.1.1
    have w20 : w32 (a11 + 1) = a11 + 1 := w32_id (by omega) (by omega)
    obtain ⟨sg, g, used, ik, o1, o2, o3, o4, o5, o6, o7, o8, o9⟩ := iv
    have N0 := st.2.2.2
    have st1 := st.1
    have st2 := st.2.1
    refine OK_if (fun c1 => ?_) (fun c1 => ?_)
    · skip
      try simp (disch := omega) only [jst_eq, jst_ne, jst_ni, jI_i, jcmp_lt, jcmp_gt, w32_id, jcpy_out, Sum.elim_inl, Sum.elim_inr, jt2, jt3, jt4, jt5, jt6, jt7, jt8] at c1
      refine OK_ir ?_
      try dsimp only [Sum.elim_inl, Sum.elim_inr, jt2, jt3, jt4, jt5, jt6, jt7, jt8]
      refine ⟨?_, ?_, ?_⟩
      · (have aE : a11 = eO E i5 := (by omega); have M0 : (eO E i5 - a11).toNat = 0 := (by omega); have Z := o7.resolve_left (fun y => by (have := y.1; omega)); have Z2 := Z.2.2; rw [aE] at Z2; rw [M0] at o6; refine ⟨by have := Z.2.1; omega, o5.2.1 (by omega), ndT (eO E i5) (ndI E i5) g, ixS E W pts T i5 sg, ik, o6 _ _ _ ⟨rfl, rfl, rfl⟩, ?_, o9 aE, o4.1⟩; rw [← Z.2.1]; exact nd_end (by omega) rfl Z2) -- o1 e1.1
      · exact JJ -- o2 e1.2
      · exact fr -- o3 e1.3
    · skip
      try simp (disch := omega) only [jst_eq, jst_ne, jst_ni, jI_i, jcmp_lt, jcmp_gt, w32_id, jcpy_out, Sum.elim_inl, Sum.elim_inr, jt2, jt3, jt4, jt5, jt6, jt7, jt8] at c1
      have ME : (eO E i5 - a11).toNat = (i6 - a11 - 1).toNat + 1 := by omega
      rw [ME] at o5 o6
      refine OK_jb (vX5_ithAct_l57 (E := E) (Rf := Rf) (W := W) (A := A) (pts := pts) (wh := wh) (rv := rv) (M := M) (T := T) (n := n) (m := (i6 - a11 - 1).toNat) (D := D) (w := w) (sg := sg) (g := g) (used := used) (ik := ik) (U := U) (N := h0 324 0) (hb := h0) _ _ _ _ _ _ _ _ _ _ _ _ (by exact hF) (by exact JJ) (by exact tq) (by exact ia) (by exact ⟨io.1, q0.1, by omega, io.2⟩) (by exact ⟨o1, o2⟩) (by exact ⟨by omega, o3.2.1, o3.2.2, by omega⟩) (by exact rowX_J T120 rx fr.1 (Int.le_refl _)) (by exact o5.2.2) (by exact o4) (by exact ⟨⟨fr.2, by omega⟩, capT_J (by have := rx.1; omega) st.2.2.1 fr.1, o7.elim (fun y => Or.inl ⟨y.1, y.2.1, y.2.2.1, y.2.2.2.1⟩) Or.inr, by omega⟩) (by exact ⟨rfl, rfl, rfl⟩)) (fun o11 r1 => ?_)
      obtain ⟨y13, y14, y15, y16, y17, h18⟩ := o11
      refine OK_jt6 ?_
      try dsimp only [Sum.elim_inl, Sum.elim_inr, jt2, jt3, jt4, jt5, jt6, jt7, jt8] at r1
      obtain ⟨fd1, jj1, fs1⟩ := r1
      try simp (disch := omega) only [jst_eq, jst_ne, jst_ni, jI_i, jcmp_lt, jcmp_gt, w32_id, jcpy_out, Sum.elim_inl, Sum.elim_inr, jt2, jt3, jt4, jt5, jt6, jt7, jt8] at fd1
      try simp (disch := omega) only [jst_eq, jst_ne, jst_ni, jI_i, jcmp_lt, jcmp_gt, w32_id, jcpy_out, Sum.elim_inl, Sum.elim_inr, jt2, jt3, jt4, jt5, jt6, jt7, jt8] at jj1
      try simp (disch := omega) only [jst_eq, jst_ne, jst_ni, jI_i, jcmp_lt, jcmp_gt, w32_id, jcpy_out, Sum.elim_inl, Sum.elim_inr, jt2, jt3, jt4, jt5, jt6, jt7, jt8] at fs1
      unfold gX5_ithAct_j321_40
      refine OK_if (fun c2 => ?_) (fun c2 => ?_)
      · skip
        try simp (disch := omega) only [jst_eq, jst_ne, jst_ni, jI_i, jcmp_lt, jcmp_gt, w32_id, jcpy_out, Sum.elim_inl, Sum.elim_inr, jt2, jt3, jt4, jt5, jt6, jt7, jt8] at c2
        have FA := (Or.resolve_right fd1 (fun y => by (have := y.1; omega))).2
        have a0 : a11 = 0 := Classical.byContradiction fun y => by { have x1 := o5.1 (by omega); have x2 := FA.2.1; omega }
        have Z0 := o7.resolve_right (fun y => by (have := y.1; omega))
        have RE : rsW E W pts T (ct E W pts A) i5 w ((i6 - a11 - 1).toNat + 1) a11 a10 sg = rsW E W pts T (ct E W pts A) i5 w (eO E i5).toNat 0 a2 s0T := by { rw [← ME, a0, Int.sub_zero, Z0.2.2.2.2.2.1, Z0.2.2.2.2.2.2] }
        refine OK_ir ?_
        try dsimp only [Sum.elim_inl, Sum.elim_inr, jt2, jt3, jt4, jt5, jt6, jt7, jt8]
        refine ⟨?_, ?_, ?_⟩
        · (rw [← RE, ← Z0.2.2.2.2.1]; exact ⟨FA.2.1, FA.2.2.1, FA.2.2.2.trans Z0.2.2.1⟩) -- o16 e2.1
        · exact jj1 -- o17 e2.2
        · exact ⟨fJ_t fr.1 fs1.1, fs1.2⟩ -- o18 e2.3
      · skip
        try simp (disch := omega) only [jst_eq, jst_ne, jst_ni, jI_i, jcmp_lt, jcmp_gt, w32_id, jcpy_out, Sum.elim_inl, Sum.elim_inr, jt2, jt3, jt4, jt5, jt6, jt7, jt8] at c2
        have FB := (Or.resolve_left fd1 (fun y => c2 y.1)).2
        refine OK_jlx (fun x20 ex20 => ?_)
        try simp (disch := omega) only [jst_eq, jst_ne, jst_ni, jI_i, jcmp_lt, jcmp_gt, w32_id, jcpy_out, Sum.elim_inl, Sum.elim_inr, jt2, jt3, jt4, jt5, jt6, jt7, jt8] at ex20
        refine OK_il ?_ ?_
        · try dsimp only [Sum.elim_inl, Sum.elim_inr, jt2, jt3, jt4, jt5, jt6, jt7, jt8]
          refine ⟨?_, ?_, ?_, ?_⟩
          · omega -- o19 e3i.1
          · (rw [show x20 = a11 + 1 by omega]; exact opX_st (j := i1) tq JJ.2.1.2.2.2.2 rx.2.2 ⟨pp.1, pr.1⟩ (by omega) q0.1 (by omega) (by omega) o1 o2 o3 (fun y => by (have Z := o7.resolve_right (fun q => by (have := q.1; omega)); exact ⟨Z.2.2.2.2.1, Z.2.2.2.2.2.1, Z.2.2.2.2.2.2⟩)) o5.2.1 o4.2.1 o5.2.2 o6 FB) -- o20 e3i.2
          · exact jj1 -- o21 e3i.3
          · exact ⟨fJ_t fr.1 fs1.1, fs1.2⟩ -- o22 e3i.4
        · (dsimp only [jt6]; omega) -- o23 e3m
  · try dsimp only [Sum.elim_inl, Sum.elim_inr, jt2, jt3, jt4, jt5, jt6, jt7, jt8]
    refine ⟨?_, ?_, ?_, ?_⟩
    · omega -- o24 init.1
    · (have st1 := st.1; have N0 := st.2.2.2; rw [z.2.2.2.2, z.2.2.2.1, z.1, z.2.1, z.2.2.1]; exact ⟨s0T, fun _ => .leaf (0, 0, 0, 0), 0, i, opS_0 _, ⟨rfl, rfl⟩, ⟨by omega, by decide, by omega⟩, ⟨st1.1, st1.2.1, st1.2.2⟩, ⟨fun y => by omega, fun y => by omega, by (rw [Int.sub_zero]; exact bd)⟩, fun R f r op => by (rw [Int.sub_zero] at op; exact op), Or.inl ⟨rfl, rfl, rfl, rfl, rfl, rfl, rfl⟩, ⟨Int.le_refl _, by omega⟩, fun e => by omega⟩) -- o25 init.2
    · exact jx -- o26 init.3
    · exact ⟨fJ_r _, st.2.1.1⟩ -- o27 init.4
theorem vX5_ithAct_ {F : Int → Int → Int → AH → Option (Int × AH)} (a1 : Int) (a2 : Int) (a3 : Int) {h : AH} {E : EV} {Rf : Int → TR} {W : Int → Int → Int → VW} {A : AD} {pts wh : Int} {rv : Int → Int} {M : Int → (Int → Int) → Prop} {T : TB} {n D : Nat} {w : Int → Int} {i U ac : Int} (hF : ITX E Rf W A pts wh rv M T n F D) (tq : TQ E W pts A n T) (jx : JXq h E Rf W A pts wh rv M T n) (ia : (0 ≤ a1 ∧ a1 < A.2.2.2.1) ∧ A.2.2.2.2.1 a1 = ac ∧ 0 ≤ ac ∧ ac < E.1.1) (pr : 1 ≤ a2 ∧ a2 ≤ D + 1 ∧ A.2.2.2.2.2.2.2 a1 + a2 ≤ n) (rx : rowX h a3 U w T) (st : stX2 h i U a2 (a2 + 1)) (bd : rsW E W pts T (ct E W pts A) ac w (eO E ac).toNat 0 a2 s0T < 9223372036854775808) : OK (gX5_ithAct_ F a1 a2 a3 h) (fun r => jt2 r fun v h' => ((v = -1 ∧ rsW E W pts T (ct E W pts A) ac w (eO E ac).toNat 0 a2 s0T ≤ i ∧ h' 307 20 = i - rsW E W pts T (ct E W pts A) ac w (eO E ac).toNat 0 a2 s0T ∧ pj h' = pj h) ∨ (0 ≤ v ∧ i < rsW E W pts T (ct E W pts A) ac w (eO E ac).toNat 0 a2 s0T ∧ ∃ R f r, opRd E W pts T (ct E W pts A) (itR E W pts A T (ct E W pts A) (D + 1)) ac w (eO E ac).toNat 0 a2 s0T (fun _ => .leaf (0, 0, 0, 0)) i R f r ∧ poC 324 R (pj h) v (pj h') ∧ h' 307 21 = f ∧ h' 307 20 = r)) ∧ (JXq h' E Rf W A pts wh rv M T n) ∧ (fJx U h h') ∧ (h' 307 19 = U)) := by
  have NP := jx.1.2.2.2.1
  have ca := (NP.2.2.2 a1 ia.1.1 ia.1.2).1
  have en := jx.1.1.2.1
  have oo := en.2.1.2.2.1 _ ia.2.2.1 ia.2.2.2
  unfold gX5_ithAct_
  refine OK_jg (by (first | assumption | omega | ((try dsimp only [jt2, jt3, jt4]); first | omega | (simp (disch := omega) only [jst_eq, jst_ne, jst_ni, jst_o, jI_i, jcpy_out, w32_id, jdiv_nn, jshr_k, jand_255] <;> first | done | omega | assumption)) | (intros; simp (disch := omega) only [jst_eq, jst_ne, jst_ni, jst_o, jI_i, jcpy_out, w32_id, jdiv_nn, *] <;> first | done | omega) | (intros; simp (disch := omega) only [jst_eq, jst_ne, jst_ni, jst_o, jI_i, jcpy_out, w32_id, jdiv_nn] at * <;> first | done | omega | assumption) | (intros; first | rfl | (exfalso; omega) | ((repeat' apply And.intro) <;> first | assumption | rfl | omega | trivial)))) ?_ -- o1
  refine OK_jlx (fun x1 ex1 => ?_)
  try simp (disch := omega) only [jst_eq, jst_ne, jst_ni, jI_i, jcmp_lt, jcmp_gt, w32_id, jcpy_out, Sum.elim_inl, Sum.elim_inr, jt2, jt3, jt4, jt5, jt6, jt7, jt8] at ex1
  have x1e : x1 = ac := by { rw [← ia.2.1]; first | omega | (rw [ex1]; exact ca) }
  subst x1e
  refine OK_jb (vX1_operandsOf (nA := E.1.1) (cA := E.1.2.1) (oA := E.1.2.2.1) (wA := E.1.2.2.2.1) (kA := E.1.2.2.2.2) _ (by exact en.1) (by exact ia.2.2)) (fun v3 r1 => ?_)
  try dsimp only [Sum.elim_inl, Sum.elim_inr, jt2, jt3, jt4, jt5, jt6, jt7, jt8] at r1
  have v1 := r1
  clear r1
  try simp (disch := omega) only [jst_eq, jst_ne, jst_ni, jI_i, jcmp_lt, jcmp_gt, w32_id, jcpy_out, Sum.elim_inl, Sum.elim_inr, jt2, jt3, jt4, jt5, jt6, jt7, jt8] at v1
  have e3 : v3 = eO E x1 := by { rw [← oper_eq ia.2.2.1]; first | exact op1 | assumption }
  refine OK_jb (vX5_ithAct_l40 (E := E) (Rf := Rf) (W := W) (A := A) (pts := pts) (wh := wh) (rv := rv) (M := M) (T := T) (n := n) (D := D) (w := w) (a2 := a2) (i := i) (U := U) _ _ _ _ _ _ _ _ _ (by exact hF) (by exact jx) (by exact tq) (by exact ia) (by exact ⟨e3, by omega, by omega⟩) (by exact ⟨pr.2.2, pr.1, pr.2.1⟩) (by exact rx) (by exact bd) (by exact st) (by exact ⟨rfl, rfl, rfl, rfl, rfl⟩)) (fun o4 r2 => ?_)
  rcases o4 with o6 | o7
  · skip
    have r3 := r2; clear r2
    dsimp only [Sum.elim_inl, Sum.elim_inr] at r3
    try dsimp only [Sum.elim_inl, Sum.elim_inr, jt2, jt3, jt4, jt5, jt6, jt7, jt8] at r3
    obtain ⟨nf2, jj2, fs2⟩ := r3
    try simp (disch := omega) only [jst_eq, jst_ne, jst_ni, jI_i, jcmp_lt, jcmp_gt, w32_id, jcpy_out, Sum.elim_inl, Sum.elim_inr, jt2, jt3, jt4, jt5, jt6, jt7, jt8] at nf2
    try simp (disch := omega) only [jst_eq, jst_ne, jst_ni, jI_i, jcmp_lt, jcmp_gt, w32_id, jcpy_out, Sum.elim_inl, Sum.elim_inr, jt2, jt3, jt4, jt5, jt6, jt7, jt8] at jj2
    try simp (disch := omega) only [jst_eq, jst_ne, jst_ni, jI_i, jcmp_lt, jcmp_gt, w32_id, jcpy_out, Sum.elim_inl, Sum.elim_inr, jt2, jt3, jt4, jt5, jt6, jt7, jt8] at fs2
    refine OK_jml ?_
    refine OK_some ?_
    try dsimp only [Sum.elim_inl, Sum.elim_inr, jt2, jt3, jt4, jt5, jt6, jt7, jt8]
    try dsimp only [Sum.elim_inl, Sum.elim_inr, jt2, jt3, jt4, jt5, jt6, jt7, jt8]
    refine ⟨?_, ?_, ?_, ?_⟩
    · exact Or.inl ⟨rfl, nf2⟩ -- o14 e1.1
    · exact jj2 -- o15 e1.2
    · exact fs2.1 -- o16 e1.3
    · exact fs2.2 -- o17 e1.4
  · skip
    have r4 := r2; clear r2
    dsimp only [Sum.elim_inl, Sum.elim_inr] at r4
    refine OK_jmr ?_
    obtain ⟨y8, h9⟩ := o7
    refine OK_jt2 ?_
    try dsimp only [Sum.elim_inl, Sum.elim_inr, jt2, jt3, jt4, jt5, jt6, jt7, jt8] at r4
    obtain ⟨fd3, jj3, fs3⟩ := r4
    try simp (disch := omega) only [jst_eq, jst_ne, jst_ni, jI_i, jcmp_lt, jcmp_gt, w32_id, jcpy_out, Sum.elim_inl, Sum.elim_inr, jt2, jt3, jt4, jt5, jt6, jt7, jt8] at fd3
    try simp (disch := omega) only [jst_eq, jst_ne, jst_ni, jI_i, jcmp_lt, jcmp_gt, w32_id, jcpy_out, Sum.elim_inl, Sum.elim_inr, jt2, jt3, jt4, jt5, jt6, jt7, jt8] at jj3
    try simp (disch := omega) only [jst_eq, jst_ne, jst_ni, jI_i, jcmp_lt, jcmp_gt, w32_id, jcpy_out, Sum.elim_inl, Sum.elim_inr, jt2, jt3, jt4, jt5, jt6, jt7, jt8] at fs3
    refine OK_some ?_
    try dsimp only [Sum.elim_inl, Sum.elim_inr, jt2, jt3, jt4, jt5, jt6, jt7, jt8]
    try dsimp only [Sum.elim_inl, Sum.elim_inr, jt2, jt3, jt4, jt5, jt6, jt7, jt8]
    refine ⟨?_, ?_, ?_, ?_⟩
    · exact Or.inr fd3 -- o18 e2.1
    · exact jj3 -- o19 e2.2
    · exact fs3.1 -- o20 e2.3
    · exact fs3.2 -- o21 e2.4
theorem ITX_D {E : EV} {Rf : Int → TR} {W : Int → Int → Int → VW} {A : AD} {pts wh : Int} {rv : Int → Int} {M : Int → (Int → Int) → Prop} {T : TB} {n : Nat} (tq : TQ E W pts A n T) : ∀ D : Nat, ITX E Rf W A pts wh rv M T n (gX5_ithActD D) D
  | 0 => fun a1 a2 a3 h w i U ac jx ia pr _ _ _ => by have e : ((0 : Nat) : Int) = 0 := rfl; omega
  | D + 1 => fun a1 a2 a3 h w i U ac jx ia pr rx st bd => vX5_ithAct_ a1 a2 a3 (ITX_D tq D) tq jx ia (by omega) rx st bd
theorem vX5_ith (a1 a2 a3 : Int) {h : AH} {E : EV} {Rf : Int → TR} {W : Int → Int → Int → VW} {A : AD} {pts wh : Int} {rv : Int → Int} {M : Int → (Int → Int) → Prop} {T : TB} {n : Nat} {w : Int → Int} {U : Int} (jx : JXq h E Rf W A pts wh rv M T n) (tq : TQ E W pts A n T) (q1 : 1 ≤ a1 ∧ a1 ≤ n) (rx : rowX h a2 U w T) (i0 : 0 ≤ a3 ∧ a3 < 9223372036854775808) (st : (h 307 19 = U ∧ U + 120 * (a1 - 1) ≤ 4800) ∧ capT h 324 2200 ∧ 0 ≤ h 324 0 ∧ h 324 0 + a1 ≤ 2200) (tb : a3 < twC E W pts A T w a1 ∧ twC E W pts A T w a1 < 9223372036854775808) : OK (gX5_ith a1 a2 a3 h) (fun r => jt2 r fun v h' => (0 ≤ v ∧ ∃ R f r, itR E W pts A T (ct E W pts A) 41 a1 w a3 R f r ∧ poC 324 R (pj h) v (pj h') ∧ h' 307 21 = f ∧ h' 307 20 = r) ∧ JXq h' E Rf W A pts wh rv M T n ∧ fJx U h h' ∧ h' 307 19 = U) := vX5_ith_ a1 a2 a3 (D := 40) (ITX_D tq 40) jx tq ⟨q1.1, q1.2, by have n12 := tq.1.1; omega⟩ rx i0 st tb

