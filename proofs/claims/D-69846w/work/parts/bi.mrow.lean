/-! m: what the operands of a price weigh: a row -/
def fRw (b : Int) (h h' : AH) : Prop := ∀ a s, ¬ (a = 454 ∧ s = 20) → ¬ (a = 754 ∧ 0 ≤ s) → ¬ ((a = 786 ∨ a = 787) ∧ 0 ≤ s) → ¬ (a = b ∧ 0 ≤ s) → h' a s = h a s
theorem fRw_r {b : Int} (h : AH) : fRw b h h := fun _ _ _ _ _ _ => rfl
theorem fRw_t {b : Int} {h h1 h2 : AH} (x : fRw b h h1) (y : fRw b h1 h2) : fRw b h h2 := fun a s z1 z2 z3 z4 => (y a s z1 z2 z3 z4).trans (x a s z1 z2 z3 z4)
theorem fR_w {b : Int} {h h' : AH} (f : fR h h') : fRw b h h' := fun a s z1 z2 z3 _ => f a s z1 z2 z3
theorem fRw_o {d : Int} {h h' : AH} (f : fRw (770 + d) h h') (d0 : 0 ≤ d ∧ d ≤ 15) : fMo d h h' := fun a s z1 z2 z3 z4 z5 => f a s (fun q => z1 ⟨q.1, by omega⟩) z2 (fun q => z3 (by omega)) (fun q => z3 (by omega))
theorem fRw_pm {d : Int} {h h' : AH} (f : fRw (770 + d) h h') (d0 : 0 ≤ d) : pm h' = pm h := pm_f (fun a s y => f a s (by omega) (by omega) (by omega) (by omega))
theorem vX14_operands_j242_147 {F : Int → Int → Int → Int → AH → Option (Int × AH)} (a1 : Int) (a3 : Int) (a6 : Int) (a7 : Int) (a8 : Int) (a9 : Int) (a10 : Int) (a11 : Int) (a12 : Int) (a13 : Int) (a15 : Int) (a16 : Int) (a17 : Int) (a18 : Int) (a19 : Int) (a21 : Int) (t0 : Int) (t1 : Int) (t3 : Int) (t4 : Int) (t5 : Int) (t6 : Int) (t7 : Int) {h : AH} {E : EV} {Rf : Int → TR} {W : Int → Int → Int → VW} {K : AK} {tp : Int} {p m : Nat} {T : TB} {w sg : Int → Int} {used d : Int} (mr : MR h E Rf W K tp p T ((p : Int) + 1)) (tq : tqM E W K p p) (ia : (0 ≤ a1 ∧ a1 < (kA K).2.2.2.1) ∧ (kA K).2.2.2.2.1 a1 = a6 ∧ 0 ≤ a6 ∧ a6 < E.1.1) (io : a7 = eO E a6 ∧ 0 ≤ a16 ∧ (m : Int) = a7 - a16 - 1 ∧ a7 ≤ 3) (op : opS E W (kP K) (kA K) p a6 a16 used sg) (pr : (kA K).2.2.2.2.2.2.2 a1 + used + a9 ≤ p ∧ 0 ≤ used ∧ 1 ≤ a18 ∧ a18 ≤ a9) (fa : (0 ≤ a21 ∧ a21 < (LV E W (kP K) (kA K) p).1) ∧ t0 = a15 ∧ t1 = a21 ∧ t3 = a1 ∧ t4 = a9 - a18 ∧ ((LV E W (kP K) (kA K) p).2.1 a21 = eK E a6 a16 ∧ (ct E W (kP K) (kA K)) a18 a21 ≠ 0) ∧ up1 sg a16 a21 0 = t5 ∧ up1 sg a16 a21 1 = t6 ∧ up1 sg a16 a21 2 = t7) (rx : rowM h a3 w (LV E W (kP K) (kA K) p).1 ∧ wBd w ∧ a3 < 770 + d ∧ a15 = 770 + d ∧ 1 ≤ d ∧ d ≤ 15) (lw : lnW h) (bd : (alW E W (kP K) (LV E W (kP K) (kA K) p) (ct E W (kP K) (kA K)) a6 w m a16 a9 sg a18) < 9223372036854775808) (q1 : a19 = w64 (sumN (aTW E W (kP K) (LV E W (kP K) (kA K) p) (ct E W (kP K) (kA K)) a6 w m a16 a9 sg a18) a21.toNat)) (q2 : ∀ f, 0 ≤ f → f < a21 → h a15 f = owW E W (kP K) (LV E W (kP K) (kA K) p) (ct E W (kP K) (kA K)) a6 w m a16 a9 sg a18 f) : OK (gX14_operands_j242_147 F a1 a3 a6 a7 a8 a9 a10 a11 a12 a13 a15 a16 a17 a18 a19 a21 t0 t1 t3 t4 t5 t6 t7 h) (Sum.elim (fun r => jt3 r fun x y h' => (x = w64 (sumN (aTW E W (kP K) (LV E W (kP K) (kA K) p) (ct E W (kP K) (kA K)) a6 w m a16 a9 sg a18) (a21 + 1).toNat) ∧ y = a21 + 1) ∧ (∀ f, 0 ≤ f → f < a21 + 1 → h' a15 f = owW E W (kP K) (LV E W (kP K) (kA K) p) (ct E W (kP K) (kA K)) a6 w m a16 a9 sg a18 f) ∧ (MR h' E Rf W K tp p T ((p : Int) + 1)) ∧ (fRw (770 + d) h h')) (fun r => jt2 r fun x1 h' => (0 : Int) = 1)) := by
  obtain ⟨fr0, e0, e1, e3, e4, kz, u0, u1, u2⟩ := fa
  subst e0
  subst e1
  subst e3
  subst e4
  have n12 := tq.1.1.1
  have L120 := tq.2.2
  have pp := (tq.1.1.2.2.2.1.2.2 t3 ia.1.1 ia.1.2).1
  have oo := tq.1.1.2.2.2.2.1.2.2.1 _ ia.2.2.1 ia.2.2.2
  have SU := ct_sup tq.1.1 (i := a18) (f := t1) fr0.1 (by omega) kz.2
  have OP := opS_1 op (by omega) ⟨fr0.1, SU.2.1⟩ kz.1 SU.2.2.2
  have wk : w32 (a16 + 1) = a16 + 1 := w32_id (by omega) (by omega)
  have wx : w32 (t1 + 1) = t1 + 1 := w32_id (by omega) (by omega)
  have me : (eO E a6 - (a16 + 1)).toNat = m := by omega
  have w0 : ∀ f, 0 ≤ w f := fun f => (rx.2.1 f).1
  have OW : owW E W (kP K) (LV E W (kP K) (kA K) p) (ct E W (kP K) (kA K)) a6 w m a16 a9 sg a18 t1 = rsW E W (kP K) (LV E W (kP K) (kA K) p) (ct E W (kP K) (kA K)) a6 w m (a16 + 1) (a9 - a18) (up1 sg a16 t1) := cif_y kz
  have OB := ow_le (E := E) (W := W) (pts := kP K) (ac := a6) (k := a16) (left := a9) (s := sg) (m := m) (r := a18) (c := (ct E W (kP K) (kA K))) (T := (LV E W (kP K) (kA K) p)) (f := t1) ct_0 w0 fr0
  have O0 := owT_0 (E := E) (W := W) (pts := kP K) (ac := a6) (k := a16) (left := a9) (s := sg) (m := m) (r := a18) (c := (ct E W (kP K) (kA K))) (L := (LV E W (kP K) (kA K) p)) (f := t1) ct_0 w0
  have rl := lw d (by omega) (by omega)
  unfold gX14_operands_j242_147
  refine OK_jb2 (vX14_rest (E := E) (Rf := Rf) (W := W) (K := K) (tp := tp) (p := p) (T := T) (w := w) (sg := up1 sg a16 t1) (used := used + a18) (ac := a6) _ _ _ _ _ _ _ (by exact mr) (by exact tq) (by exact ia) (by (rw [wk]; exact ⟨OP, u0, u1, u2⟩)) (by (rw [wk]; omega)) (by exact rx.1) (by exact rx.2.1)) (fun v64 h65 r1 => ?_)
  try dsimp only [Sum.elim_inl, Sum.elim_inr, jt2, jt3, jt4, jt5, jt6, jt7, jt8] at r1
  obtain ⟨vv1, mr1, fs1⟩ := r1
  try simp (disch := omega) only [jst_eq, jst_ne, jst_ni, jI_i, jcmp_lt, jcmp_gt, w32_id, jcpy_out, Sum.elim_inl, Sum.elim_inr, jt2, jt3, jt4, jt5, jt6, jt7, jt8] at vv1
  try simp (disch := omega) only [jst_eq, jst_ne, jst_ni, jI_i, jcmp_lt, jcmp_gt, w32_id, jcpy_out, Sum.elim_inl, Sum.elim_inr, jt2, jt3, jt4, jt5, jt6, jt7, jt8] at mr1
  try simp (disch := omega) only [jst_eq, jst_ne, jst_ni, jI_i, jcmp_lt, jcmp_gt, w32_id, jcpy_out, Sum.elim_inl, Sum.elim_inr, jt2, jt3, jt4, jt5, jt6, jt7, jt8] at fs1
  try rw [wk] at vv1
  rw [me, ← OW, w64_id (by omega) (by omega)] at vv1
  have L65 := lnW_o lw (fR_o (d := 0) fs1 (by decide)) (Int.le_refl _)
  have rl65 := L65 d (by omega) (by omega)
  have r65 : h65 t0 (-2) = 102 ∧ h65 t0 (-1) = 122 := by { rw [rx.2.2.2.1]; exact rl65.2 }
  have c65 : h65 (756 + a18) t1 = (ct E W (kP K) (kA K)) a18 t1 := mr1.2.2.2 a18 t1 (by omega) (by omega) fr0.1 fr0.2
  refine OK_jg (by (first | assumption | omega | ((try dsimp only [jt2, jt3, jt4]); first | omega | (simp (disch := omega) only [jst_eq, jst_ne, jst_ni, jst_o, jI_i, jcpy_out, w32_id, jdiv_nn, jshr_k, jand_255] <;> first | done | omega | assumption)) | (intros; simp (disch := omega) only [jst_eq, jst_ne, jst_ni, jst_o, jI_i, jcpy_out, w32_id, jdiv_nn, *] <;> first | done | omega) | (intros; simp (disch := omega) only [jst_eq, jst_ne, jst_ni, jst_o, jI_i, jcpy_out, w32_id, jdiv_nn] at * <;> first | done | omega | assumption) | (intros; first | rfl | (exfalso; omega) | ((repeat' apply And.intro) <;> first | assumption | rfl | omega | trivial)))) ?_ -- o8
  refine OK_jl ?_
  have F66 : ∀ a s, ¬ (a = t0 ∧ s = t1) → jst h65 t0 t1 v64 a s = h65 a s := fun a s y => jst_o y
  have K66 : jst h65 t0 t1 v64 t0 t1 = v64 := jst_eq
  have c66 : jst h65 t0 t1 v64 (756 + a18) t1 = (ct E W (kP K) (kA K)) a18 t1 := by { rw [F66 _ _ (by omega)]; exact mr1.2.2.2 a18 t1 (by omega) (by omega) fr0.1 fr0.2 }
  have M66 := MR_n (d := d) mr1 (by omega) (by omega) (fun a s y1 y2 y3 y4 => F66 a s (by omega))
  have r66 : jst h65 t0 t1 v64 t0 (-2) = 102 ∧ jst h65 t0 t1 v64 t0 (-1) = 122 := by { rw [F66 _ _ (by omega), F66 _ _ (by omega)]; rw [rx.2.2.2.1]; exact rl65.2 }
  have ST : aTW E W (kP K) (LV E W (kP K) (kA K) p) (ct E W (kP K) (kA K)) a6 w m a16 a9 sg a18 t1 = v64 * (ct E W (kP K) (kA K)) a18 t1 := by { rw [show v64 = _ from vv1]; exact Int.mul_comm _ _ }
  refine OK_jg (by (first | assumption | omega | ((try dsimp only [jt2, jt3, jt4]); first | omega | (simp (disch := omega) only [jst_eq, jst_ne, jst_ni, jst_o, jI_i, jcpy_out, w32_id, jdiv_nn, jshr_k, jand_255] <;> first | done | omega | assumption)) | (intros; simp (disch := omega) only [jst_eq, jst_ne, jst_ni, jst_o, jI_i, jcpy_out, w32_id, jdiv_nn, *] <;> first | done | omega) | (intros; simp (disch := omega) only [jst_eq, jst_ne, jst_ni, jst_o, jI_i, jcpy_out, w32_id, jdiv_nn] at * <;> first | done | omega | assumption) | (intros; first | rfl | (exfalso; omega) | ((repeat' apply And.intro) <;> first | assumption | rfl | omega | trivial)))) ?_ -- o9
  refine OK_jg (by (first | assumption | omega | ((try dsimp only [jt2, jt3, jt4]); first | omega | (simp (disch := omega) only [jst_eq, jst_ne, jst_ni, jst_o, jI_i, jcpy_out, w32_id, jdiv_nn, jshr_k, jand_255] <;> first | done | omega | assumption)) | (intros; simp (disch := omega) only [jst_eq, jst_ne, jst_ni, jst_o, jI_i, jcpy_out, w32_id, jdiv_nn, *] <;> first | done | omega) | (intros; simp (disch := omega) only [jst_eq, jst_ne, jst_ni, jst_o, jI_i, jcpy_out, w32_id, jdiv_nn] at * <;> first | done | omega | assumption) | (intros; first | rfl | (exfalso; omega) | ((repeat' apply And.intro) <;> first | assumption | rfl | omega | trivial)))) ?_ -- o10
  refine OK_jg (by (first | assumption | omega | ((try dsimp only [jt2, jt3, jt4]); first | omega | (simp (disch := omega) only [jst_eq, jst_ne, jst_ni, jst_o, jI_i, jcpy_out, w32_id, jdiv_nn, jshr_k, jand_255] <;> first | done | omega | assumption)) | (intros; simp (disch := omega) only [jst_eq, jst_ne, jst_ni, jst_o, jI_i, jcpy_out, w32_id, jdiv_nn, *] <;> first | done | omega) | (intros; simp (disch := omega) only [jst_eq, jst_ne, jst_ni, jst_o, jI_i, jcpy_out, w32_id, jdiv_nn] at * <;> first | done | omega | assumption) | (intros; first | rfl | (exfalso; omega) | ((repeat' apply And.intro) <;> first | assumption | rfl | omega | trivial)))) ?_ -- o11
  refine OK_jlx (fun x67 ex67 => ?_)
  try simp (disch := omega) only [jst_eq, jst_ne, jst_ni, jI_i, jcmp_lt, jcmp_gt, w32_id, jcpy_out, Sum.elim_inl, Sum.elim_inr, jt2, jt3, jt4, jt5, jt6, jt7, jt8] at ex67
  unfold gX14_operands_j272_147
  refine OK_jlx (fun x60 ex60 => ?_)
  try simp (disch := omega) only [jst_eq, jst_ne, jst_ni, jI_i, jcmp_lt, jcmp_gt, w32_id, jcpy_out, Sum.elim_inl, Sum.elim_inr, jt2, jt3, jt4, jt5, jt6, jt7, jt8] at ex60
  refine OK_some ?_
  try dsimp only [Sum.elim_inl, Sum.elim_inr, jt2, jt3, jt4, jt5, jt6, jt7, jt8]
  try dsimp only [Sum.elim_inl, Sum.elim_inr, jt2, jt3, jt4, jt5, jt6, jt7, jt8]
  refine ⟨?_, ?_, ?_, ?_⟩
  · (refine ⟨?_, by omega⟩; rw [ex67]; (first | rw [K66, c66] | rw [c65]); rw [q1, w64_a, sumN_s fr0.1, ST]) -- o12 e1.1
  · (intro f f0 f1; by_cases y : f = t1; { rw [y, K66]; exact vv1 }; { rw [F66 _ _ (by omega), fs1 _ _ (by omega) (by omega) (by omega)]; exact q2 f f0 (by omega) }) -- o13 e1.2
  · exact M66.1 -- o14 e1.3
  · exact fRw_t (fR_w fs1) (fun a s y1 y2 y3 y4 => F66 a s (by omega)) -- o15 e1.4
theorem vX14_operands_l147 {F : Int → Int → Int → Int → AH → Option (Int × AH)} (i1 : Int) (i3 : Int) (i6 : Int) (i7 : Int) (i8 : Int) (i9 : Int) (i10 : Int) (i11 : Int) (i12 : Int) (i13 : Int) (i15 : Int) (i16 : Int) (i17 : Int) (i18 : Int) (a190 : Int) (a210 : Int) {h0 : AH} {E : EV} {Rf : Int → TR} {W : Int → Int → Int → VW} {K : AK} {tp : Int} {p m : Nat} {T : TB} {w sg : Int → Int} {used d : Int} (mr : MR h0 E Rf W K tp p T ((p : Int) + 1)) (tq : tqM E W K p p) (ia : (0 ≤ i1 ∧ i1 < (kA K).2.2.2.1) ∧ (kA K).2.2.2.2.1 i1 = i6 ∧ 0 ≤ i6 ∧ i6 < E.1.1) (io : i7 = eO E i6 ∧ 0 ≤ i16 ∧ (m : Int) = i7 - i16 - 1 ∧ i7 ≤ 3) (op : opS E W (kP K) (kA K) p i6 i16 used sg ∧ sg 0 = i10 ∧ sg 1 = i11 ∧ sg 2 = i12) (pr : (kA K).2.2.2.2.2.2.2 i1 + used + i9 ≤ p ∧ 0 ≤ used ∧ 1 ≤ i18 ∧ i18 ≤ i9) (rx : rowM h0 i3 w (LV E W (kP K) (kA K) p).1 ∧ wBd w ∧ i3 < 770 + d ∧ i15 = 770 + d ∧ 1 ≤ d ∧ d ≤ 15) (lw : lnW h0) (bd : (alW E W (kP K) (LV E W (kP K) (kA K) p) (ct E W (kP K) (kA K)) i6 w m i16 i9 sg i18) < 9223372036854775808) (z : a190 = 0 ∧ a210 = 0) : OK (gX14_operands_l147 F i1 i3 i6 i7 i8 i9 i10 i11 i12 i13 i15 i16 i17 i18 a190 a210 h0) (fun r => jt2 r fun v h' => (v = w64 (alW E W (kP K) (LV E W (kP K) (kA K) p) (ct E W (kP K) (kA K)) i6 w m i16 i9 sg i18)) ∧ (∀ f, 0 ≤ f → f < (LV E W (kP K) (kA K) p).1 → h' i15 f = owW E W (kP K) (LV E W (kP K) (kA K) p) (ct E W (kP K) (kA K)) i6 w m i16 i9 sg i18 f) ∧ (MR h' E Rf W K tp p T ((p : Int) + 1)) ∧ (fRw (770 + d) h0 h')) := by
  unfold gX14_operands_l147
  refine OK_jit (I := (fun (s : Int × Int × AH) => jt3 s fun a19 a21 h => (0 ≤ a21 ∧ a21 ≤ (LV E W (kP K) (kA K) p).1) ∧ (a19 = w64 (sumN (aTW E W (kP K) (LV E W (kP K) (kA K) p) (ct E W (kP K) (kA K)) i6 w m i16 i9 sg i18) a21.toNat)) ∧ (∀ f, 0 ≤ f → f < a21 → h i15 f = owW E W (kP K) (LV E W (kP K) (kA K) p) (ct E W (kP K) (kA K)) i6 w m i16 i9 sg i18 f) ∧ (MR h E Rf W K tp p T ((p : Int) + 1)) ∧ (fRw (770 + d) h0 h))) (m := (fun (s : Int × Int × AH) => jt3 s fun a19 a21 h => ((LV E W (kP K) (kA K) p).1 - a21).toNat)) ?_ ?_
  · intro s hs
    obtain ⟨a19, a21, h⟩ := s
    dsimp only [Sum.elim_inl, Sum.elim_inr, jt2, jt3, jt4, jt5, jt6, jt7, jt8] at hs
    obtain ⟨q0, q1, q2, ms, fr⟩ := hs
    unfold gX14_operands_b147
    refine OK_jt3 ?_
    have n12 := tq.1.1.1
    have L120 := tq.2.2
    have pp := (tq.1.1.2.2.2.1.2.2 i1 ia.1.1 ia.1.2).1
    have oo := tq.1.1.2.2.2.2.1.2.2.1 _ ia.2.2.1 ia.2.2.2
    have N44 := ms.2.2.1.1
    have LW := lnW_o lw (fRw_o fr (by omega)) (by omega)
    have rl := LW d (by omega) (by omega)
    have RX := rowM_o rx.1 (fRw_o fr (by omega)) rx.2.2.1
    have w9 : w32 (i9 - i18) = i9 - i18 := w32_id (by omega) (by omega)
    have r15 : h i15 (-2) = 102 ∧ h i15 (-1) = 122 := by { rw [rx.2.2.2.1]; exact rl.2 }
    refine OK_if (fun c1 => ?_) (fun c1 => ?_)
    · skip
      try simp (disch := omega) only [jst_eq, jst_ne, jst_ni, jI_i, jcmp_lt, jcmp_gt, w32_id, jcpy_out, Sum.elim_inl, Sum.elim_inr, jt2, jt3, jt4, jt5, jt6, jt7, jt8] at c1
      refine OK_ir ?_
      try dsimp only [Sum.elim_inl, Sum.elim_inr, jt2, jt3, jt4, jt5, jt6, jt7, jt8]
      refine ⟨?_, ?_, ?_, ?_⟩
      · (rw [q1, show a21 = (LV E W (kP K) (kA K) p).1 by omega, aT_al]) -- o1 e1.1
      · exact fun f f0 f1 => q2 f f0 (by omega) -- o2 e1.2
      · exact ms -- o3 e1.3
      · exact fr -- o4 e1.4
    · skip
      try simp (disch := omega) only [jst_eq, jst_ne, jst_ni, jI_i, jcmp_lt, jcmp_gt, w32_id, jcpy_out, Sum.elim_inl, Sum.elim_inr, jt2, jt3, jt4, jt5, jt6, jt7, jt8] at c1
      refine OK_jg (by (first | assumption | omega | ((try dsimp only [jt2, jt3, jt4]); first | omega | (simp (disch := omega) only [jst_eq, jst_ne, jst_ni, jst_o, jI_i, jcpy_out, w32_id, jdiv_nn, jshr_k, jand_255] <;> first | done | omega | assumption)) | (intros; simp (disch := omega) only [jst_eq, jst_ne, jst_ni, jst_o, jI_i, jcpy_out, w32_id, jdiv_nn, *] <;> first | done | omega) | (intros; simp (disch := omega) only [jst_eq, jst_ne, jst_ni, jst_o, jI_i, jcpy_out, w32_id, jdiv_nn] at * <;> first | done | omega | assumption) | (intros; first | rfl | (exfalso; omega) | ((repeat' apply And.intro) <;> first | assumption | rfl | omega | trivial)))) ?_ -- o5
      refine OK_jl ?_
      have F54 : ∀ a s, ¬ (a = i15 ∧ s = a21) → jst h i15 a21 0 a s = h a s := fun a s y => jst_o y
      have K54 : jst h i15 a21 0 i15 a21 = 0 := jst_eq
      generalize eg54 : jst h i15 a21 0 = g54 at *
      have wx : w32 (a21 + 1) = a21 + 1 := w32_id (by omega) (by omega)
      have M54 := MR_n (d := d) ms (by omega) (by omega) (fun a s y1 y2 y3 y4 => F54 a s (by omega))
      have c54 : g54 (756 + i18) a21 = (ct E W (kP K) (kA K)) i18 a21 := M54.1.2.2.2 i18 a21 (by omega) (by omega) q0.1 (by omega)
      have Q54 : ∀ f, 0 ≤ f → f < a21 → g54 i15 f = owW E W (kP K) (LV E W (kP K) (kA K) p) (ct E W (kP K) (kA K)) i6 w m i16 i9 sg i18 f := fun f f0 f1 => (F54 _ _ (by omega)).trans (q2 f f0 f1)
      have FR54 : fRw (770 + d) h0 g54 := fRw_t fr (fun a s y1 y2 y3 y4 => F54 a s (by omega))
      have L54 := lnW_o lw (fRw_o FR54 (by omega)) (by omega)
      have RX54 := rowM_o rx.1 (fRw_o FR54 (by omega)) rx.2.2.1
      refine OK_jb (vIsOf (E := E) (Rf := Rf) (W := W) (K := K) (tp := tp) (p := p) (T := T) _ _ _ (by exact M54.1.1) (by exact M54.1.2.1) (by exact ⟨q0.1, by omega⟩) (by exact ia.2.2) (by omega)) (fun v56 r1 => ?_)
      try dsimp only [Sum.elim_inl, Sum.elim_inr, jt2, jt3, jt4, jt5, jt6, jt7, jt8] at r1
      have io1 := r1
      clear r1
      try simp (disch := omega) only [jst_eq, jst_ne, jst_ni, jI_i, jcmp_lt, jcmp_gt, w32_id, jcpy_out, Sum.elim_inl, Sum.elim_inr, jt2, jt3, jt4, jt5, jt6, jt7, jt8] at io1
      refine OK_if (fun c2 => ?_) (fun c2 => ?_)
      · skip
        try simp (disch := omega) only [jst_eq, jst_ne, jst_ni, jI_i, jcmp_lt, jcmp_gt, w32_id, jcpy_out, Sum.elim_inl, Sum.elim_inr, jt2, jt3, jt4, jt5, jt6, jt7, jt8] at c2
        have OZ : owW E W (kP K) (LV E W (kP K) (kA K) p) (ct E W (kP K) (kA K)) i6 w m i16 i9 sg i18 a21 = 0 := cif_n (fun y => by rcases io1 with u | u; { exact u.2 y.1 }; { omega })
        unfold gX14_operands_j272_147
        refine OK_jlx (fun x60 ex60 => ?_)
        try simp (disch := omega) only [jst_eq, jst_ne, jst_ni, jI_i, jcmp_lt, jcmp_gt, w32_id, jcpy_out, Sum.elim_inl, Sum.elim_inr, jt2, jt3, jt4, jt5, jt6, jt7, jt8] at ex60
        refine OK_il ?_ ?_
        · try dsimp only [Sum.elim_inl, Sum.elim_inr, jt2, jt3, jt4, jt5, jt6, jt7, jt8]
          refine ⟨?_, ?_, ?_, ?_, ?_⟩
          · (first | assumption | omega | ((try dsimp only [jt2, jt3, jt4]); first | omega | (simp (disch := omega) only [jst_eq, jst_ne, jst_ni, jst_o, jI_i, jcpy_out, w32_id, jdiv_nn, jshr_k, jand_255] <;> first | done | omega | assumption)) | (intros; simp (disch := omega) only [jst_eq, jst_ne, jst_ni, jst_o, jI_i, jcpy_out, w32_id, jdiv_nn, *] <;> first | done | omega) | (intros; simp (disch := omega) only [jst_eq, jst_ne, jst_ni, jst_o, jI_i, jcpy_out, w32_id, jdiv_nn] at * <;> first | done | omega | assumption) | (intros; first | rfl | (exfalso; omega) | ((repeat' apply And.intro) <;> first | assumption | rfl | omega | trivial))) -- o11 e2i.1
          · (have ST : aTW E W (kP K) (LV E W (kP K) (kA K) p) (ct E W (kP K) (kA K)) i6 w m i16 i9 sg i18 a21 = 0 := (by rw [show aTW E W (kP K) (LV E W (kP K) (kA K) p) (ct E W (kP K) (kA K)) i6 w m i16 i9 sg i18 a21 = (ct E W (kP K) (kA K)) i18 a21 * owW E W (kP K) (LV E W (kP K) (kA K) p) (ct E W (kP K) (kA K)) i6 w m i16 i9 sg i18 a21 from rfl, OZ, Int.mul_zero]); rw [q1, show x60 = a21 + 1 by omega, sumN_s q0.1, ST, Int.add_zero]) -- o12 e2i.2
          · (intro f f0 f1; rw [show x60 = a21 + 1 by omega] at f1; by_cases y : f = a21; { rw [y, K54, OZ] }; { exact Q54 f f0 (by omega) }) -- o13 e2i.3
          · exact M54.1 -- o14 e2i.4
          · exact FR54 -- o15 e2i.5
        · (first | assumption | omega | ((try dsimp only [jt2, jt3, jt4]); first | omega | (simp (disch := omega) only [jst_eq, jst_ne, jst_ni, jst_o, jI_i, jcpy_out, w32_id, jdiv_nn, jshr_k, jand_255] <;> first | done | omega | assumption)) | (intros; simp (disch := omega) only [jst_eq, jst_ne, jst_ni, jst_o, jI_i, jcpy_out, w32_id, jdiv_nn, *] <;> first | done | omega) | (intros; simp (disch := omega) only [jst_eq, jst_ne, jst_ni, jst_o, jI_i, jcpy_out, w32_id, jdiv_nn] at * <;> first | done | omega | assumption) | (intros; first | rfl | (exfalso; omega) | ((repeat' apply And.intro) <;> first | assumption | rfl | omega | trivial))) -- o16 e2m
      · skip
        try simp (disch := omega) only [jst_eq, jst_ne, jst_ni, jI_i, jcmp_lt, jcmp_gt, w32_id, jcpy_out, Sum.elim_inl, Sum.elim_inr, jt2, jt3, jt4, jt5, jt6, jt7, jt8] at c2
        have kz : (LV E W (kP K) (kA K) p).2.1 a21 = eK E i6 i16 := by { rcases io1 with u | u; { omega }; { exact u.2 } }
        rw [c54]
        refine OK_jg (by (first | assumption | omega | ((try dsimp only [jt2, jt3, jt4]); first | omega | (simp (disch := omega) only [jst_eq, jst_ne, jst_ni, jst_o, jI_i, jcpy_out, w32_id, jdiv_nn, jshr_k, jand_255] <;> first | done | omega | assumption)) | (intros; simp (disch := omega) only [jst_eq, jst_ne, jst_ni, jst_o, jI_i, jcpy_out, w32_id, jdiv_nn, *] <;> first | done | omega) | (intros; simp (disch := omega) only [jst_eq, jst_ne, jst_ni, jst_o, jI_i, jcpy_out, w32_id, jdiv_nn] at * <;> first | done | omega | assumption) | (intros; first | rfl | (exfalso; omega) | ((repeat' apply And.intro) <;> first | assumption | rfl | omega | trivial)))) ?_ -- o17
        refine OK_jg (by (first | assumption | omega | ((try dsimp only [jt2, jt3, jt4]); first | omega | (simp (disch := omega) only [jst_eq, jst_ne, jst_ni, jst_o, jI_i, jcpy_out, w32_id, jdiv_nn, jshr_k, jand_255] <;> first | done | omega | assumption)) | (intros; simp (disch := omega) only [jst_eq, jst_ne, jst_ni, jst_o, jI_i, jcpy_out, w32_id, jdiv_nn, *] <;> first | done | omega) | (intros; simp (disch := omega) only [jst_eq, jst_ne, jst_ni, jst_o, jI_i, jcpy_out, w32_id, jdiv_nn] at * <;> first | done | omega | assumption) | (intros; first | rfl | (exfalso; omega) | ((repeat' apply And.intro) <;> first | assumption | rfl | omega | trivial)))) ?_ -- o18
        refine OK_if (fun c3 => ?_) (fun c3 => ?_)
        · skip
          try simp (disch := omega) only [jst_eq, jst_ne, jst_ni, jI_i, jcmp_lt, jcmp_gt, w32_id, jcpy_out, Sum.elim_inl, Sum.elim_inr, jt2, jt3, jt4, jt5, jt6, jt7, jt8] at c3
          have c3w : (ct E W (kP K) (kA K)) i18 a21 = 0 := by first | exact c3 | exact jcmp_eq.1 c3
          have OZ : owW E W (kP K) (LV E W (kP K) (kA K) p) (ct E W (kP K) (kA K)) i6 w m i16 i9 sg i18 a21 = 0 := cif_n (fun y => y.2 c3w)
          unfold gX14_operands_j272_147
          refine OK_jlx (fun x60 ex60 => ?_)
          try simp (disch := omega) only [jst_eq, jst_ne, jst_ni, jI_i, jcmp_lt, jcmp_gt, w32_id, jcpy_out, Sum.elim_inl, Sum.elim_inr, jt2, jt3, jt4, jt5, jt6, jt7, jt8] at ex60
          refine OK_il ?_ ?_
          · try dsimp only [Sum.elim_inl, Sum.elim_inr, jt2, jt3, jt4, jt5, jt6, jt7, jt8]
            refine ⟨?_, ?_, ?_, ?_, ?_⟩
            · (first | assumption | omega | ((try dsimp only [jt2, jt3, jt4]); first | omega | (simp (disch := omega) only [jst_eq, jst_ne, jst_ni, jst_o, jI_i, jcpy_out, w32_id, jdiv_nn, jshr_k, jand_255] <;> first | done | omega | assumption)) | (intros; simp (disch := omega) only [jst_eq, jst_ne, jst_ni, jst_o, jI_i, jcpy_out, w32_id, jdiv_nn, *] <;> first | done | omega) | (intros; simp (disch := omega) only [jst_eq, jst_ne, jst_ni, jst_o, jI_i, jcpy_out, w32_id, jdiv_nn] at * <;> first | done | omega | assumption) | (intros; first | rfl | (exfalso; omega) | ((repeat' apply And.intro) <;> first | assumption | rfl | omega | trivial))) -- o19 e3i.1
            · (have ST : aTW E W (kP K) (LV E W (kP K) (kA K) p) (ct E W (kP K) (kA K)) i6 w m i16 i9 sg i18 a21 = 0 := (by rw [show aTW E W (kP K) (LV E W (kP K) (kA K) p) (ct E W (kP K) (kA K)) i6 w m i16 i9 sg i18 a21 = (ct E W (kP K) (kA K)) i18 a21 * owW E W (kP K) (LV E W (kP K) (kA K) p) (ct E W (kP K) (kA K)) i6 w m i16 i9 sg i18 a21 from rfl, OZ, Int.mul_zero]); rw [q1, show x60 = a21 + 1 by omega, sumN_s q0.1, ST, Int.add_zero]) -- o20 e3i.2
            · (intro f f0 f1; rw [show x60 = a21 + 1 by omega] at f1; by_cases y : f = a21; { rw [y, K54, OZ] }; { exact Q54 f f0 (by omega) }) -- o21 e3i.3
            · exact M54.1 -- o22 e3i.4
            · exact FR54 -- o23 e3i.5
          · (first | assumption | omega | ((try dsimp only [jt2, jt3, jt4]); first | omega | (simp (disch := omega) only [jst_eq, jst_ne, jst_ni, jst_o, jI_i, jcpy_out, w32_id, jdiv_nn, jshr_k, jand_255] <;> first | done | omega | assumption)) | (intros; simp (disch := omega) only [jst_eq, jst_ne, jst_ni, jst_o, jI_i, jcpy_out, w32_id, jdiv_nn, *] <;> first | done | omega) | (intros; simp (disch := omega) only [jst_eq, jst_ne, jst_ni, jst_o, jI_i, jcpy_out, w32_id, jdiv_nn] at * <;> first | done | omega | assumption) | (intros; first | rfl | (exfalso; omega) | ((repeat' apply And.intro) <;> first | assumption | rfl | omega | trivial))) -- o24 e3m
        · skip
          try simp (disch := omega) only [jst_eq, jst_ne, jst_ni, jI_i, jcmp_lt, jcmp_gt, w32_id, jcpy_out, Sum.elim_inl, Sum.elim_inr, jt2, jt3, jt4, jt5, jt6, jt7, jt8] at c3
          have c3w : ¬ (ct E W (kP K) (kA K)) i18 a21 = 0 := by first | exact c3 | exact fun y => c3 (jcmp_eq.2 y)
          refine OK_if (fun c4 => ?_) (fun c4 => ?_)
          · skip
            try simp (disch := omega) only [jst_eq, jst_ne, jst_ni, jI_i, jcmp_lt, jcmp_gt, w32_id, jcpy_out, Sum.elim_inl, Sum.elim_inr, jt2, jt3, jt4, jt5, jt6, jt7, jt8] at c4
            unfold gX14_operands_j216_147
            refine OK_if (fun c5 => ?_) (fun c5 => ?_)
            · skip
              try simp (disch := omega) only [jst_eq, jst_ne, jst_ni, jI_i, jcmp_lt, jcmp_gt, w32_id, jcpy_out, Sum.elim_inl, Sum.elim_inr, jt2, jt3, jt4, jt5, jt6, jt7, jt8] at c5
              exfalso
              omega
            · skip
              try simp (disch := omega) only [jst_eq, jst_ne, jst_ni, jI_i, jcmp_lt, jcmp_gt, w32_id, jcpy_out, Sum.elim_inl, Sum.elim_inr, jt2, jt3, jt4, jt5, jt6, jt7, jt8] at c5
              unfold gX14_operands_j229_147
              refine OK_if (fun c6 => ?_) (fun c6 => ?_)
              · skip
                try simp (disch := omega) only [jst_eq, jst_ne, jst_ni, jI_i, jcmp_lt, jcmp_gt, w32_id, jcpy_out, Sum.elim_inl, Sum.elim_inr, jt2, jt3, jt4, jt5, jt6, jt7, jt8] at c6
                exfalso
                omega
              · skip
                try simp (disch := omega) only [jst_eq, jst_ne, jst_ni, jI_i, jcmp_lt, jcmp_gt, w32_id, jcpy_out, Sum.elim_inl, Sum.elim_inr, jt2, jt3, jt4, jt5, jt6, jt7, jt8] at c6
                refine OK_mono (vX14_operands_j242_147 (E := E) (Rf := Rf) (W := W) (K := K) (tp := tp) (p := p) (T := T) (m := m) (w := w) (sg := sg) (used := used) (d := d) _ _ _ _ _ _ _ _ _ _ _ _ _ _ _ _ _ _ _ _ _ _ _ (by exact M54.1) (by exact tq) (by exact ia) (by exact io) (by exact op.1) (by exact pr) (by exact ⟨⟨q0.1, by omega⟩, rfl, rfl, rfl, w9, ⟨kz, c3w⟩, up1_p (by omega), (up1_o (by omega)).trans op.2.2.1, (up1_o (by omega)).trans op.2.2.2⟩) (by exact ⟨RX54, rx.2⟩) (by exact L54) (by exact bd) (by exact q1) (by exact Q54)) (fun r r2 => ?_)
                rcases r with r | r
                · skip
                  have r3 := r2; clear r2; dsimp only [Sum.elim_inl, Sum.elim_inr] at r3
                  obtain ⟨y1, y2, y3⟩ := r
                  try dsimp only [Sum.elim_inl, Sum.elim_inr, jt2, jt3, jt4, jt5, jt6, jt7, jt8] at r3
                  obtain ⟨sq2, sr2, mr2, fs2⟩ := r3
                  try simp (disch := omega) only [jst_eq, jst_ne, jst_ni, jI_i, jcmp_lt, jcmp_gt, w32_id, jcpy_out, Sum.elim_inl, Sum.elim_inr, jt2, jt3, jt4, jt5, jt6, jt7, jt8] at sq2
                  try simp (disch := omega) only [jst_eq, jst_ne, jst_ni, jI_i, jcmp_lt, jcmp_gt, w32_id, jcpy_out, Sum.elim_inl, Sum.elim_inr, jt2, jt3, jt4, jt5, jt6, jt7, jt8] at sr2
                  try simp (disch := omega) only [jst_eq, jst_ne, jst_ni, jI_i, jcmp_lt, jcmp_gt, w32_id, jcpy_out, Sum.elim_inl, Sum.elim_inr, jt2, jt3, jt4, jt5, jt6, jt7, jt8] at mr2
                  try simp (disch := omega) only [jst_eq, jst_ne, jst_ni, jI_i, jcmp_lt, jcmp_gt, w32_id, jcpy_out, Sum.elim_inl, Sum.elim_inr, jt2, jt3, jt4, jt5, jt6, jt7, jt8] at fs2
                  try dsimp only [Sum.elim_inl, Sum.elim_inr, jt2, jt3, jt4, jt5, jt6, jt7, jt8]
                  refine ⟨?_, ?_⟩
                  · try dsimp only [Sum.elim_inl, Sum.elim_inr, jt2, jt3, jt4, jt5, jt6, jt7, jt8]
                    refine ⟨?_, ?_, ?_, ?_, ?_⟩
                    · (rw [sq2.2]; omega) -- o37 e4i.1
                    · (rw [sq2.2]; exact sq2.1) -- o38 e4i.2
                    · (rw [sq2.2]; exact sr2) -- o39 e4i.3
                    · exact mr2 -- o40 e4i.4
                    · exact fRw_t FR54 fs2 -- o41 e4i.5
                  · (rw [sq2.2]; omega) -- o42 e4m
                · skip
                  have r4 := r2; clear r2; dsimp only [Sum.elim_inl, Sum.elim_inr] at r4
                  obtain ⟨y4, y5⟩ := r
                  try dsimp only [Sum.elim_inl, Sum.elim_inr, jt2, jt3, jt4, jt5, jt6, jt7, jt8] at r4
                  have no3 := r4
                  clear r4
                  try simp (disch := omega) only [jst_eq, jst_ne, jst_ni, jI_i, jcmp_lt, jcmp_gt, w32_id, jcpy_out, Sum.elim_inl, Sum.elim_inr, jt2, jt3, jt4, jt5, jt6, jt7, jt8] at no3
                  try dsimp only [Sum.elim_inl, Sum.elim_inr, jt2, jt3, jt4, jt5, jt6, jt7, jt8]
                  try dsimp only [Sum.elim_inl, Sum.elim_inr, jt2, jt3, jt4, jt5, jt6, jt7, jt8]
                  refine ⟨?_, ?_, ?_, ?_⟩
                  · (first | assumption | omega | ((try dsimp only [jt2, jt3, jt4]); first | omega | (simp (disch := omega) only [jst_eq, jst_ne, jst_ni, jst_o, jI_i, jcpy_out, w32_id, jdiv_nn, jshr_k, jand_255] <;> first | done | omega | assumption)) | (intros; simp (disch := omega) only [jst_eq, jst_ne, jst_ni, jst_o, jI_i, jcpy_out, w32_id, jdiv_nn, *] <;> first | done | omega) | (intros; simp (disch := omega) only [jst_eq, jst_ne, jst_ni, jst_o, jI_i, jcpy_out, w32_id, jdiv_nn] at * <;> first | done | omega | assumption) | (intros; first | rfl | (exfalso; omega) | ((repeat' apply And.intro) <;> first | assumption | rfl | omega | trivial))) -- o43 e5.1
                  · (first | assumption | omega | ((try dsimp only [jt2, jt3, jt4]); first | omega | (simp (disch := omega) only [jst_eq, jst_ne, jst_ni, jst_o, jI_i, jcpy_out, w32_id, jdiv_nn, jshr_k, jand_255] <;> first | done | omega | assumption)) | (intros; simp (disch := omega) only [jst_eq, jst_ne, jst_ni, jst_o, jI_i, jcpy_out, w32_id, jdiv_nn, *] <;> first | done | omega) | (intros; simp (disch := omega) only [jst_eq, jst_ne, jst_ni, jst_o, jI_i, jcpy_out, w32_id, jdiv_nn] at * <;> first | done | omega | assumption) | (intros; first | rfl | (exfalso; omega) | ((repeat' apply And.intro) <;> first | assumption | rfl | omega | trivial))) -- o44 e5.2
                  · (first | assumption | omega | ((try dsimp only [jt2, jt3, jt4]); first | omega | (simp (disch := omega) only [jst_eq, jst_ne, jst_ni, jst_o, jI_i, jcpy_out, w32_id, jdiv_nn, jshr_k, jand_255] <;> first | done | omega | assumption)) | (intros; simp (disch := omega) only [jst_eq, jst_ne, jst_ni, jst_o, jI_i, jcpy_out, w32_id, jdiv_nn, *] <;> first | done | omega) | (intros; simp (disch := omega) only [jst_eq, jst_ne, jst_ni, jst_o, jI_i, jcpy_out, w32_id, jdiv_nn] at * <;> first | done | omega | assumption) | (intros; first | rfl | (exfalso; omega) | ((repeat' apply And.intro) <;> first | assumption | rfl | omega | trivial))) -- o45 e5.3
                  · (first | assumption | omega | ((try dsimp only [jt2, jt3, jt4]); first | omega | (simp (disch := omega) only [jst_eq, jst_ne, jst_ni, jst_o, jI_i, jcpy_out, w32_id, jdiv_nn, jshr_k, jand_255] <;> first | done | omega | assumption)) | (intros; simp (disch := omega) only [jst_eq, jst_ne, jst_ni, jst_o, jI_i, jcpy_out, w32_id, jdiv_nn, *] <;> first | done | omega) | (intros; simp (disch := omega) only [jst_eq, jst_ne, jst_ni, jst_o, jI_i, jcpy_out, w32_id, jdiv_nn] at * <;> first | done | omega | assumption) | (intros; first | rfl | (exfalso; omega) | ((repeat' apply And.intro) <;> first | assumption | rfl | omega | trivial))) -- o46 e5.4
          · skip
            try simp (disch := omega) only [jst_eq, jst_ne, jst_ni, jI_i, jcmp_lt, jcmp_gt, w32_id, jcpy_out, Sum.elim_inl, Sum.elim_inr, jt2, jt3, jt4, jt5, jt6, jt7, jt8] at c4
            unfold gX14_operands_j216_147
            refine OK_if (fun c7 => ?_) (fun c7 => ?_)
            · skip
              try simp (disch := omega) only [jst_eq, jst_ne, jst_ni, jI_i, jcmp_lt, jcmp_gt, w32_id, jcpy_out, Sum.elim_inl, Sum.elim_inr, jt2, jt3, jt4, jt5, jt6, jt7, jt8] at c7
              unfold gX14_operands_j229_147
              refine OK_if (fun c8 => ?_) (fun c8 => ?_)
              · skip
                try simp (disch := omega) only [jst_eq, jst_ne, jst_ni, jI_i, jcmp_lt, jcmp_gt, w32_id, jcpy_out, Sum.elim_inl, Sum.elim_inr, jt2, jt3, jt4, jt5, jt6, jt7, jt8] at c8
                exfalso
                omega
              · skip
                try simp (disch := omega) only [jst_eq, jst_ne, jst_ni, jI_i, jcmp_lt, jcmp_gt, w32_id, jcpy_out, Sum.elim_inl, Sum.elim_inr, jt2, jt3, jt4, jt5, jt6, jt7, jt8] at c8
                refine OK_mono (vX14_operands_j242_147 (E := E) (Rf := Rf) (W := W) (K := K) (tp := tp) (p := p) (T := T) (m := m) (w := w) (sg := sg) (used := used) (d := d) _ _ _ _ _ _ _ _ _ _ _ _ _ _ _ _ _ _ _ _ _ _ _ (by exact M54.1) (by exact tq) (by exact ia) (by exact io) (by exact op.1) (by exact pr) (by exact ⟨⟨q0.1, by omega⟩, rfl, rfl, rfl, w9, ⟨kz, c3w⟩, (up1_o (by omega)).trans op.2.1, up1_p (by omega), (up1_o (by omega)).trans op.2.2.2⟩) (by exact ⟨RX54, rx.2⟩) (by exact L54) (by exact bd) (by exact q1) (by exact Q54)) (fun r r5 => ?_)
                rcases r with r | r
                · skip
                  have r6 := r5; clear r5; dsimp only [Sum.elim_inl, Sum.elim_inr] at r6
                  obtain ⟨y6, y7, y8⟩ := r
                  try dsimp only [Sum.elim_inl, Sum.elim_inr, jt2, jt3, jt4, jt5, jt6, jt7, jt8] at r6
                  obtain ⟨sq4, sr4, mr4, fs4⟩ := r6
                  try simp (disch := omega) only [jst_eq, jst_ne, jst_ni, jI_i, jcmp_lt, jcmp_gt, w32_id, jcpy_out, Sum.elim_inl, Sum.elim_inr, jt2, jt3, jt4, jt5, jt6, jt7, jt8] at sq4
                  try simp (disch := omega) only [jst_eq, jst_ne, jst_ni, jI_i, jcmp_lt, jcmp_gt, w32_id, jcpy_out, Sum.elim_inl, Sum.elim_inr, jt2, jt3, jt4, jt5, jt6, jt7, jt8] at sr4
                  try simp (disch := omega) only [jst_eq, jst_ne, jst_ni, jI_i, jcmp_lt, jcmp_gt, w32_id, jcpy_out, Sum.elim_inl, Sum.elim_inr, jt2, jt3, jt4, jt5, jt6, jt7, jt8] at mr4
                  try simp (disch := omega) only [jst_eq, jst_ne, jst_ni, jI_i, jcmp_lt, jcmp_gt, w32_id, jcpy_out, Sum.elim_inl, Sum.elim_inr, jt2, jt3, jt4, jt5, jt6, jt7, jt8] at fs4
                  try dsimp only [Sum.elim_inl, Sum.elim_inr, jt2, jt3, jt4, jt5, jt6, jt7, jt8]
                  refine ⟨?_, ?_⟩
                  · try dsimp only [Sum.elim_inl, Sum.elim_inr, jt2, jt3, jt4, jt5, jt6, jt7, jt8]
                    refine ⟨?_, ?_, ?_, ?_, ?_⟩
                    · (rw [sq4.2]; omega) -- o59 e6i.1
                    · (rw [sq4.2]; exact sq4.1) -- o60 e6i.2
                    · (rw [sq4.2]; exact sr4) -- o61 e6i.3
                    · exact mr4 -- o62 e6i.4
                    · exact fRw_t FR54 fs4 -- o63 e6i.5
                  · (rw [sq4.2]; omega) -- o64 e6m
                · skip
                  have r7 := r5; clear r5; dsimp only [Sum.elim_inl, Sum.elim_inr] at r7
                  obtain ⟨y9, y10⟩ := r
                  try dsimp only [Sum.elim_inl, Sum.elim_inr, jt2, jt3, jt4, jt5, jt6, jt7, jt8] at r7
                  have no5 := r7
                  clear r7
                  try simp (disch := omega) only [jst_eq, jst_ne, jst_ni, jI_i, jcmp_lt, jcmp_gt, w32_id, jcpy_out, Sum.elim_inl, Sum.elim_inr, jt2, jt3, jt4, jt5, jt6, jt7, jt8] at no5
                  try dsimp only [Sum.elim_inl, Sum.elim_inr, jt2, jt3, jt4, jt5, jt6, jt7, jt8]
                  try dsimp only [Sum.elim_inl, Sum.elim_inr, jt2, jt3, jt4, jt5, jt6, jt7, jt8]
                  refine ⟨?_, ?_, ?_, ?_⟩
                  · (first | assumption | omega | ((try dsimp only [jt2, jt3, jt4]); first | omega | (simp (disch := omega) only [jst_eq, jst_ne, jst_ni, jst_o, jI_i, jcpy_out, w32_id, jdiv_nn, jshr_k, jand_255] <;> first | done | omega | assumption)) | (intros; simp (disch := omega) only [jst_eq, jst_ne, jst_ni, jst_o, jI_i, jcpy_out, w32_id, jdiv_nn, *] <;> first | done | omega) | (intros; simp (disch := omega) only [jst_eq, jst_ne, jst_ni, jst_o, jI_i, jcpy_out, w32_id, jdiv_nn] at * <;> first | done | omega | assumption) | (intros; first | rfl | (exfalso; omega) | ((repeat' apply And.intro) <;> first | assumption | rfl | omega | trivial))) -- o65 e7.1
                  · (first | assumption | omega | ((try dsimp only [jt2, jt3, jt4]); first | omega | (simp (disch := omega) only [jst_eq, jst_ne, jst_ni, jst_o, jI_i, jcpy_out, w32_id, jdiv_nn, jshr_k, jand_255] <;> first | done | omega | assumption)) | (intros; simp (disch := omega) only [jst_eq, jst_ne, jst_ni, jst_o, jI_i, jcpy_out, w32_id, jdiv_nn, *] <;> first | done | omega) | (intros; simp (disch := omega) only [jst_eq, jst_ne, jst_ni, jst_o, jI_i, jcpy_out, w32_id, jdiv_nn] at * <;> first | done | omega | assumption) | (intros; first | rfl | (exfalso; omega) | ((repeat' apply And.intro) <;> first | assumption | rfl | omega | trivial))) -- o66 e7.2
                  · (first | assumption | omega | ((try dsimp only [jt2, jt3, jt4]); first | omega | (simp (disch := omega) only [jst_eq, jst_ne, jst_ni, jst_o, jI_i, jcpy_out, w32_id, jdiv_nn, jshr_k, jand_255] <;> first | done | omega | assumption)) | (intros; simp (disch := omega) only [jst_eq, jst_ne, jst_ni, jst_o, jI_i, jcpy_out, w32_id, jdiv_nn, *] <;> first | done | omega) | (intros; simp (disch := omega) only [jst_eq, jst_ne, jst_ni, jst_o, jI_i, jcpy_out, w32_id, jdiv_nn] at * <;> first | done | omega | assumption) | (intros; first | rfl | (exfalso; omega) | ((repeat' apply And.intro) <;> first | assumption | rfl | omega | trivial))) -- o67 e7.3
                  · (first | assumption | omega | ((try dsimp only [jt2, jt3, jt4]); first | omega | (simp (disch := omega) only [jst_eq, jst_ne, jst_ni, jst_o, jI_i, jcpy_out, w32_id, jdiv_nn, jshr_k, jand_255] <;> first | done | omega | assumption)) | (intros; simp (disch := omega) only [jst_eq, jst_ne, jst_ni, jst_o, jI_i, jcpy_out, w32_id, jdiv_nn, *] <;> first | done | omega) | (intros; simp (disch := omega) only [jst_eq, jst_ne, jst_ni, jst_o, jI_i, jcpy_out, w32_id, jdiv_nn] at * <;> first | done | omega | assumption) | (intros; first | rfl | (exfalso; omega) | ((repeat' apply And.intro) <;> first | assumption | rfl | omega | trivial))) -- o68 e7.4
            · skip
              try simp (disch := omega) only [jst_eq, jst_ne, jst_ni, jI_i, jcmp_lt, jcmp_gt, w32_id, jcpy_out, Sum.elim_inl, Sum.elim_inr, jt2, jt3, jt4, jt5, jt6, jt7, jt8] at c7
              unfold gX14_operands_j229_147
              refine OK_if (fun c9 => ?_) (fun c9 => ?_)
              · skip
                try simp (disch := omega) only [jst_eq, jst_ne, jst_ni, jI_i, jcmp_lt, jcmp_gt, w32_id, jcpy_out, Sum.elim_inl, Sum.elim_inr, jt2, jt3, jt4, jt5, jt6, jt7, jt8] at c9
                refine OK_mono (vX14_operands_j242_147 (E := E) (Rf := Rf) (W := W) (K := K) (tp := tp) (p := p) (T := T) (m := m) (w := w) (sg := sg) (used := used) (d := d) _ _ _ _ _ _ _ _ _ _ _ _ _ _ _ _ _ _ _ _ _ _ _ (by exact M54.1) (by exact tq) (by exact ia) (by exact io) (by exact op.1) (by exact pr) (by exact ⟨⟨q0.1, by omega⟩, rfl, rfl, rfl, w9, ⟨kz, c3w⟩, (up1_o (by omega)).trans op.2.1, (up1_o (by omega)).trans op.2.2.1, up1_p (by omega)⟩) (by exact ⟨RX54, rx.2⟩) (by exact L54) (by exact bd) (by exact q1) (by exact Q54)) (fun r r8 => ?_)
                rcases r with r | r
                · skip
                  have r9 := r8; clear r8; dsimp only [Sum.elim_inl, Sum.elim_inr] at r9
                  obtain ⟨y11, y12, y13⟩ := r
                  try dsimp only [Sum.elim_inl, Sum.elim_inr, jt2, jt3, jt4, jt5, jt6, jt7, jt8] at r9
                  obtain ⟨sq6, sr6, mr6, fs6⟩ := r9
                  try simp (disch := omega) only [jst_eq, jst_ne, jst_ni, jI_i, jcmp_lt, jcmp_gt, w32_id, jcpy_out, Sum.elim_inl, Sum.elim_inr, jt2, jt3, jt4, jt5, jt6, jt7, jt8] at sq6
                  try simp (disch := omega) only [jst_eq, jst_ne, jst_ni, jI_i, jcmp_lt, jcmp_gt, w32_id, jcpy_out, Sum.elim_inl, Sum.elim_inr, jt2, jt3, jt4, jt5, jt6, jt7, jt8] at sr6
                  try simp (disch := omega) only [jst_eq, jst_ne, jst_ni, jI_i, jcmp_lt, jcmp_gt, w32_id, jcpy_out, Sum.elim_inl, Sum.elim_inr, jt2, jt3, jt4, jt5, jt6, jt7, jt8] at mr6
                  try simp (disch := omega) only [jst_eq, jst_ne, jst_ni, jI_i, jcmp_lt, jcmp_gt, w32_id, jcpy_out, Sum.elim_inl, Sum.elim_inr, jt2, jt3, jt4, jt5, jt6, jt7, jt8] at fs6
                  try dsimp only [Sum.elim_inl, Sum.elim_inr, jt2, jt3, jt4, jt5, jt6, jt7, jt8]
                  refine ⟨?_, ?_⟩
                  · try dsimp only [Sum.elim_inl, Sum.elim_inr, jt2, jt3, jt4, jt5, jt6, jt7, jt8]
                    refine ⟨?_, ?_, ?_, ?_, ?_⟩
                    · (rw [sq6.2]; omega) -- o81 e8i.1
                    · (rw [sq6.2]; exact sq6.1) -- o82 e8i.2
                    · (rw [sq6.2]; exact sr6) -- o83 e8i.3
                    · exact mr6 -- o84 e8i.4
                    · exact fRw_t FR54 fs6 -- o85 e8i.5
                  · (rw [sq6.2]; omega) -- o86 e8m
                · skip
                  have r10 := r8; clear r8; dsimp only [Sum.elim_inl, Sum.elim_inr] at r10
                  obtain ⟨y14, y15⟩ := r
                  try dsimp only [Sum.elim_inl, Sum.elim_inr, jt2, jt3, jt4, jt5, jt6, jt7, jt8] at r10
                  have no7 := r10
                  clear r10
                  try simp (disch := omega) only [jst_eq, jst_ne, jst_ni, jI_i, jcmp_lt, jcmp_gt, w32_id, jcpy_out, Sum.elim_inl, Sum.elim_inr, jt2, jt3, jt4, jt5, jt6, jt7, jt8] at no7
                  try dsimp only [Sum.elim_inl, Sum.elim_inr, jt2, jt3, jt4, jt5, jt6, jt7, jt8]
                  try dsimp only [Sum.elim_inl, Sum.elim_inr, jt2, jt3, jt4, jt5, jt6, jt7, jt8]
                  refine ⟨?_, ?_, ?_, ?_⟩
                  · (first | assumption | omega | ((try dsimp only [jt2, jt3, jt4]); first | omega | (simp (disch := omega) only [jst_eq, jst_ne, jst_ni, jst_o, jI_i, jcpy_out, w32_id, jdiv_nn, jshr_k, jand_255] <;> first | done | omega | assumption)) | (intros; simp (disch := omega) only [jst_eq, jst_ne, jst_ni, jst_o, jI_i, jcpy_out, w32_id, jdiv_nn, *] <;> first | done | omega) | (intros; simp (disch := omega) only [jst_eq, jst_ne, jst_ni, jst_o, jI_i, jcpy_out, w32_id, jdiv_nn] at * <;> first | done | omega | assumption) | (intros; first | rfl | (exfalso; omega) | ((repeat' apply And.intro) <;> first | assumption | rfl | omega | trivial))) -- o87 e9.1
                  · (first | assumption | omega | ((try dsimp only [jt2, jt3, jt4]); first | omega | (simp (disch := omega) only [jst_eq, jst_ne, jst_ni, jst_o, jI_i, jcpy_out, w32_id, jdiv_nn, jshr_k, jand_255] <;> first | done | omega | assumption)) | (intros; simp (disch := omega) only [jst_eq, jst_ne, jst_ni, jst_o, jI_i, jcpy_out, w32_id, jdiv_nn, *] <;> first | done | omega) | (intros; simp (disch := omega) only [jst_eq, jst_ne, jst_ni, jst_o, jI_i, jcpy_out, w32_id, jdiv_nn] at * <;> first | done | omega | assumption) | (intros; first | rfl | (exfalso; omega) | ((repeat' apply And.intro) <;> first | assumption | rfl | omega | trivial))) -- o88 e9.2
                  · (first | assumption | omega | ((try dsimp only [jt2, jt3, jt4]); first | omega | (simp (disch := omega) only [jst_eq, jst_ne, jst_ni, jst_o, jI_i, jcpy_out, w32_id, jdiv_nn, jshr_k, jand_255] <;> first | done | omega | assumption)) | (intros; simp (disch := omega) only [jst_eq, jst_ne, jst_ni, jst_o, jI_i, jcpy_out, w32_id, jdiv_nn, *] <;> first | done | omega) | (intros; simp (disch := omega) only [jst_eq, jst_ne, jst_ni, jst_o, jI_i, jcpy_out, w32_id, jdiv_nn] at * <;> first | done | omega | assumption) | (intros; first | rfl | (exfalso; omega) | ((repeat' apply And.intro) <;> first | assumption | rfl | omega | trivial))) -- o89 e9.3
                  · (first | assumption | omega | ((try dsimp only [jt2, jt3, jt4]); first | omega | (simp (disch := omega) only [jst_eq, jst_ne, jst_ni, jst_o, jI_i, jcpy_out, w32_id, jdiv_nn, jshr_k, jand_255] <;> first | done | omega | assumption)) | (intros; simp (disch := omega) only [jst_eq, jst_ne, jst_ni, jst_o, jI_i, jcpy_out, w32_id, jdiv_nn, *] <;> first | done | omega) | (intros; simp (disch := omega) only [jst_eq, jst_ne, jst_ni, jst_o, jI_i, jcpy_out, w32_id, jdiv_nn] at * <;> first | done | omega | assumption) | (intros; first | rfl | (exfalso; omega) | ((repeat' apply And.intro) <;> first | assumption | rfl | omega | trivial))) -- o90 e9.4
              · skip
                try simp (disch := omega) only [jst_eq, jst_ne, jst_ni, jI_i, jcmp_lt, jcmp_gt, w32_id, jcpy_out, Sum.elim_inl, Sum.elim_inr, jt2, jt3, jt4, jt5, jt6, jt7, jt8] at c9
                exfalso
                omega
  · try dsimp only [Sum.elim_inl, Sum.elim_inr, jt2, jt3, jt4, jt5, jt6, jt7, jt8]
    refine ⟨?_, ?_, ?_, ?_, ?_⟩
    · (have l := LV_0 (E := E) (W := W) (pts := kP K) (A := kA K) p; omega) -- o91 init.1
    · (rw [z.1, z.2]; rfl) -- o92 init.2
    · exact fun f f0 f1 => by omega -- o93 init.3
    · exact mr -- o94 init.4
    · exact fRw_r _ -- o95 init.5

