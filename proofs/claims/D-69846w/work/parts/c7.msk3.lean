/-! m: a sketch, whole -/
theorem MK_b {h : AH} (m : MI h) : MK h ≤ 1000000 := by have := MK_r m; omega
theorem kch_w {k l : Int} (a : -1 ≤ k ∧ k ≤ 2) (b : 0 ≤ l ∧ l ≤ 2) (e : kch k = kch l) : k = l := by
  by_cases y : k = -1
  · have c := kch_c a
    have d := kch_c (k := l) ⟨by omega, b.2⟩
    have := c.2.2.mpr y
    rw [e] at this
    have := d.2.2.mp this
    omega
  · exact kch_ij ⟨by omega, a.2⟩ b e
theorem key_w {E : EV} {T : TR} {w : Int} : keyE E w T = min (min (fkE E T 0 0) (wfE E T)) (if w ≠ -1 ∧ kdE E T ≠ -1 ∧ kdE E T ≠ w then (inf T).2.2.2 * 8 + 3 else 1000000) := by
  unfold keyE toE wfE
  omega
theorem fMr_qt {h h1 h2 : AH} (x : fMr h h1) (y : fMq h1 h2) : fMq h h2 := fun a s z1 z2 z3 z4 z5 z6 z7 z8 z9 z10 z11 => (y a s z1 z2 z3 z4 z5 z6 z7 z8 z9 z10 z11).trans (x a s (by omega) z2 z3 z4 z5 z6 (by omega) (by omega) z9 (by omega))
theorem kdE_p {E : EV} (ac : acE E) (pa : paE E) (l0 : E.2.2.1 = 0) {T : TR} (o : gT T) : -1 ≤ kdE E T ∧ kdE E T ≤ 2 := by
  have oi := gT_i o
  unfold kdE kdT kdI
  by_cases a : (inf T).1 = 0
  · rw [if_pos a]; have := oi.2.2.1 a; omega
  rw [if_neg a]
  by_cases b : (inf T).1 = 1
  · rw [if_pos b]
    by_cases c : mky E.2.1.1 E.2.1.2.1 (inf T).2.2.1 < 0
    · rw [if_pos c]; omega
    · rw [if_neg c]
      have m : mky E.2.1.1 E.2.1.2.1 (inf T).2.2.1 < E.2.1.1 := by
        have := fA_0 (c := E.2.1.2.1) (w := (inf T).2.2.1) (n := E.2.1.1)
        unfold mky at c ⊢
        omega
      have := pa.2 _ (by omega) m
      omega
  rw [if_neg b]
  by_cases c : (inf T).1 = 2
  · rw [if_pos c]
    by_cases d : eRs E (inf T).2.2.1 = -1
    · rw [if_pos d]; omega
    · rw [if_neg d]
      rcases eRs_r (E := E) (inf T).2.2.1 with r | r | r
      · exfalso
        unfold eRs at r; rw [if_neg (fun z => by have := z.1; omega)] at r
        have := fA_0 (c := E.1.2.1) (w := (inf T).2.2.1) (n := E.1.1); omega
      · exact absurd r d
      · have y := ac.2.2.1 _ r.1 r.2
        have := y.2.2.2 (eO E (eRs E (inf T).2.2.1)) (by omega) (Int.le_refl _)
        omega
  · rw [if_neg c]; omega
theorem vX14_sketch_j62 (a1 : Int) {h : AH} {B : Int → Int} {n q1 w : Int} {E EP : EV} {Rf : Int → TR} {W : Int → Int → Int → VW} {K : AK} {tp : Int} {T : TR} (hB : ∀ i, 0 ≤ i → i < n → 0 ≤ B i ∧ B i < 256) (n12 : 0 ≤ n ∧ n ≤ 2000) (ac : acE E ∧ E.2.2.1 = 0 ∧ ∀ a, 26 ≤ a → 0 ≤ E.1.2.2.2.1 a) (cA : ∀ a, 0 ≤ a → a < E.1.1 → 0 ≤ E.1.2.1 a ∧ E.1.2.1 a < 282429536481) (ms : MS B n q1 h) (mi : MI h) (mk : MK h = keyE EP w T) (eA : pA B n true (beg B n) = if tO B n q1 = 0 then .inr T else .inl (tS B n q1)) (ak : ¬ h 454 38 = 0 → asM h E Rf W K tp ∧ EP = EPn E (kA K).1 (kA K).2.1) (w0 : w = if h 454 38 = 0 then -1 else kR K) (t0 : a1 = 4400 ∧ rawS h T 4400 0 4401 (-1) ∧ sz T ≤ 1001 ∧ (fkE EP T 0 0 = 1000000 → resM h (rsE EP T 0) 4400 0) ∧ h 454 35 = hlT T ∧ BQ 4400 h ∧ h 454 17 = 4400 + sz T) (ln : h 754 (-2) = 101 ∧ h 754 (-1) = 256) (w71 : 0 ≤ h 454 71 ∧ h 454 71 ≤ 1000000000) : OK (gX14_sketch_j62 a1 h) (fun r => jt2 r fun v h' => (∃ y, outSk E EP W K (¬ h 454 38 = 0) w (pA B n true (beg B n)) (h 454 55) (h 454 71) v (h' 454 55) (h' 454 71) y (fdL h' E W K) ∧ (y < 0 → fMr h h')) ∧ (fMq h h') ∧ (¬ h 454 38 = 0 → asM h' E Rf W K tp)) := by
  obtain ⟨t1, t2, t3, t4, t5, t6, t7⟩ := t0
  unfold gX14_sketch_j62
  refine OK_jb2 (vX14_finish (B := B) (n := n) (q := q1) (by (first | assumption | omega | ((try dsimp only [jt2, jt3, jt4]); first | omega | (simp (disch := omega) only [jst_eq, jst_ne, jst_ni, jst_o, jI_i, jcpy_out, w32_id, jdiv_nn, jshr_k, jand_255] <;> first | done | omega | assumption)) | (intros; simp (disch := omega) only [jst_eq, jst_ne, jst_ni, jst_o, jI_i, jcpy_out, w32_id, jdiv_nn, *] <;> first | done | omega) | (intros; simp (disch := omega) only [jst_eq, jst_ne, jst_ni, jst_o, jI_i, jcpy_out, w32_id, jdiv_nn] at * <;> first | done | omega | assumption) | (intros; first | rfl | (exfalso; omega) | ((repeat' apply And.intro) <;> first | assumption | rfl | omega | trivial)))) (by (first | assumption | omega | ((try dsimp only [jt2, jt3, jt4]); first | omega | (simp (disch := omega) only [jst_eq, jst_ne, jst_ni, jst_o, jI_i, jcpy_out, w32_id, jdiv_nn, jshr_k, jand_255] <;> first | done | omega | assumption)) | (intros; simp (disch := omega) only [jst_eq, jst_ne, jst_ni, jst_o, jI_i, jcpy_out, w32_id, jdiv_nn, *] <;> first | done | omega) | (intros; simp (disch := omega) only [jst_eq, jst_ne, jst_ni, jst_o, jI_i, jcpy_out, w32_id, jdiv_nn] at * <;> first | done | omega | assumption) | (intros; first | rfl | (exfalso; omega) | ((repeat' apply And.intro) <;> first | assumption | rfl | omega | trivial))))) (fun t21 h23 r1 => ?_)
  try dsimp only [Sum.elim_inl, Sum.elim_inr, jt2, jt3, jt4, jt5, jt6, jt7, jt8] at r1
  obtain ⟨bad1, good1, flt1, fr1⟩ := r1
  try simp (disch := omega) only [jst_eq, jst_ne, jst_ni, jI_i, jcmp_lt, jcmp_gt, w32_id, jcpy_out, Sum.elim_inl, Sum.elim_inr, jt2, jt3, jt4, jt5, jt6, jt7, jt8] at bad1
  try simp (disch := omega) only [jst_eq, jst_ne, jst_ni, jI_i, jcmp_lt, jcmp_gt, w32_id, jcpy_out, Sum.elim_inl, Sum.elim_inr, jt2, jt3, jt4, jt5, jt6, jt7, jt8] at good1
  try simp (disch := omega) only [jst_eq, jst_ne, jst_ni, jI_i, jcmp_lt, jcmp_gt, w32_id, jcpy_out, Sum.elim_inl, Sum.elim_inr, jt2, jt3, jt4, jt5, jt6, jt7, jt8] at flt1
  try simp (disch := omega) only [jst_eq, jst_ne, jst_ni, jI_i, jcmp_lt, jcmp_gt, w32_id, jcpy_out, Sum.elim_inl, Sum.elim_inr, jt2, jt3, jt4, jt5, jt6, jt7, jt8] at fr1
  have AG23 : ∀ (hh : AH), (∀ a s, ¬ (a = 454 ∧ s = 55) → ¬ (a = 472 ∧ (s = 6 ∨ s = 7)) → hh a s = h a s) → fMr h hh ∧ (¬ h 454 38 = 0 → asM hh E Rf W K tp) := fun hh f => ⟨fun a s y1 y2 _ _ _ _ _ _ _ _ => f a s (by omega) y2, fun y => asM_g (ak y).1 (fun a s q => f a s (by unfold mA at q; omega) (by unfold mA at q; omega)) (fun a s q => f a s (by unfold tA at q; omega) (by unfold tA at q; omega)) (by have z := (ak y).1.1.2; unfold b20 at z ⊢; rw [f _ _ (by omega) (by omega), f _ _ (by omega) (by omega)]; exact z)⟩
  refine OK_jq (fun c1 => ?_) (fun c1 => ?_)
  · skip
    have ft : t21 = 472 ∧ 1 ≤ h23 472 6 ∧ h23 472 6 ≤ 6 ∧ ((tO B n q1 ≠ 0 ∧ h23 472 6 = 1 ∧ h23 472 7 = tS B n q1) ∨ (tO B n q1 = 0 ∧ MK h ≠ 1000000 ∧ h23 472 6 = MK h % 8 ∧ h23 472 7 = MK h / 8)) := by { by_cases o : tO B n q1 = 0; { have nb : MK h ≠ 1000000 := fun y => c1 (good1 o y); have f := flt1 o nb; exact ⟨f.1, by omega, by omega, Or.inr ⟨o, nb, f.2.1, f.2.2.1⟩⟩ }; { have f := bad1 o; have f1 := f.2.1; have f2 := f.2.2; exact ⟨f.1, by omega, by omega, Or.inl ⟨o, f1, f2⟩⟩ } }
    refine OK_jg (by (first | assumption | omega | ((try dsimp only [jt2, jt3, jt4]); first | omega | (simp (disch := omega) only [jst_eq, jst_ne, jst_ni, jst_o, jI_i, jcpy_out, w32_id, jdiv_nn, jshr_k, jand_255] <;> first | done | omega | assumption)) | (intros; simp (disch := omega) only [jst_eq, jst_ne, jst_ni, jst_o, jI_i, jcpy_out, w32_id, jdiv_nn, *] <;> first | done | omega) | (intros; simp (disch := omega) only [jst_eq, jst_ne, jst_ni, jst_o, jI_i, jcpy_out, w32_id, jdiv_nn] at * <;> first | done | omega | assumption) | (intros; first | rfl | (exfalso; omega) | ((repeat' apply And.intro) <;> first | assumption | rfl | omega | trivial)))) ?_ -- o3
    refine OK_jb2 (vX14_faulty _ (by (first | assumption | omega | ((try dsimp only [jt2, jt3, jt4]); first | omega | (simp (disch := omega) only [jst_eq, jst_ne, jst_ni, jst_o, jI_i, jcpy_out, w32_id, jdiv_nn, jshr_k, jand_255] <;> first | done | omega | assumption)) | (intros; simp (disch := omega) only [jst_eq, jst_ne, jst_ni, jst_o, jI_i, jcpy_out, w32_id, jdiv_nn, *] <;> first | done | omega) | (intros; simp (disch := omega) only [jst_eq, jst_ne, jst_ni, jst_o, jI_i, jcpy_out, w32_id, jdiv_nn] at * <;> first | done | omega | assumption) | (intros; first | rfl | (exfalso; omega) | ((repeat' apply And.intro) <;> first | assumption | rfl | omega | trivial))))) (fun v26 h27 r2 => ?_)
    try dsimp only [Sum.elim_inl, Sum.elim_inr, jt2, jt3, jt4, jt5, jt6, jt7, jt8] at r2
    obtain ⟨vv2, fr2⟩ := r2
    try simp (disch := omega) only [jst_eq, jst_ne, jst_ni, jI_i, jcmp_lt, jcmp_gt, w32_id, jcpy_out, Sum.elim_inl, Sum.elim_inr, jt2, jt3, jt4, jt5, jt6, jt7, jt8] at vv2
    try simp (disch := omega) only [jst_eq, jst_ne, jst_ni, jI_i, jcmp_lt, jcmp_gt, w32_id, jcpy_out, Sum.elim_inl, Sum.elim_inr, jt2, jt3, jt4, jt5, jt6, jt7, jt8] at fr2
    have F27 : ∀ a s, ¬ (a = 454 ∧ s = 55) → ¬ (a = 472 ∧ (s = 6 ∨ s = 7)) → h27 a s = h a s := fun a s y1 y2 => by { rw [fr2, jst_o y1]; exact fr1 a s y2 }
    refine OK_some ?_
    try dsimp only [Sum.elim_inl, Sum.elim_inr, jt2, jt3, jt4, jt5, jt6, jt7, jt8]
    try dsimp only [Sum.elim_inl, Sum.elim_inr, jt2, jt3, jt4, jt5, jt6, jt7, jt8]
    refine ⟨?_, ?_, ?_⟩
    · (refine ⟨-1, ?_, fun _ => (AG23 _ F27).1⟩; rw [eA, F27 454 71 (by omega) (by omega), fr2, jst_eq]; rcases ft.2.2.2 with ⟨o, x1, x2⟩ | ⟨o, nb, x1, x2⟩; { rw [if_neg o]; exact ⟨by omega, x2, rfl, rfl⟩ }; { rw [if_pos o]; exact ⟨fun y => absurd (mk.trans y) nb, fun _ => ⟨by rw [← mk]; omega, by rw [← mk]; exact x2, rfl, rfl⟩⟩ }) -- o5 e1.1
    · exact fMr_Q (AG23 _ F27).1 -- o6 e1.2
    · exact (AG23 _ F27).2 -- o7 e1.3
  · skip
    have o0 : tO B n q1 = 0 := Classical.byContradiction fun y => by { have := (bad1 y).1; omega }
    have kB : MK h = 1000000 := Classical.byContradiction fun y => by { have := (flt1 o0 y).1; omega }
    clear bad1 good1 flt1
    rw [if_pos o0] at eA
    have F23 : ∀ a s, ¬ (a = 472 ∧ (s = 6 ∨ s = 7)) → h23 a s = h a s := fr1
    have G23 := AG23 h23 (fun a s _ y => F23 a s y)
    have E38 : h23 454 38 = h 454 38 := F23 _ _ (by omega)
    have P55 : h23 454 55 = h 454 55 := F23 _ _ (by omega)
    have P71 : h23 454 71 = h 454 71 := F23 _ _ (by omega)
    refine OK_jlx (fun x28 ex28 => ?_)
    try simp (disch := omega) only [jst_eq, jst_ne, jst_ni, jI_i, jcmp_lt, jcmp_gt, w32_id, jcpy_out, Sum.elim_inl, Sum.elim_inr, jt2, jt3, jt4, jt5, jt6, jt7, jt8] at ex28
    have X28 : x28 = hlT T := by { rw [ex28, F23 _ _ (by omega)]; exact t5 }
    refine OK_if (fun c2 => ?_) (fun c2 => ?_)
    · skip
      try simp (disch := omega) only [jst_eq, jst_ne, jst_ni, jI_i, jcmp_lt, jcmp_gt, w32_id, jcpy_out, Sum.elim_inl, Sum.elim_inr, jt2, jt3, jt4, jt5, jt6, jt7, jt8] at c2
      have A0 : h 454 38 = 0 := by { rw [← E38]; exact c2 }
      refine OK_some ?_
      try dsimp only [Sum.elim_inl, Sum.elim_inr, jt2, jt3, jt4, jt5, jt6, jt7, jt8]
      try dsimp only [Sum.elim_inl, Sum.elim_inr, jt2, jt3, jt4, jt5, jt6, jt7, jt8]
      refine ⟨?_, ?_, ?_⟩
      · (refine ⟨-1, ?_, fun _ => G23.1⟩; rw [eA, P55, P71]; exact ⟨fun _ => ⟨rfl, fun _ => ⟨rfl, rfl, rfl⟩, fun y => absurd A0 y⟩, fun y => absurd (mk.symm.trans kB) y⟩) -- o8 e2.1
      · exact fMr_Q G23.1 -- o9 e2.2
      · exact G23.2 -- o10 e2.3
    · skip
      try simp (disch := omega) only [jst_eq, jst_ne, jst_ni, jI_i, jcmp_lt, jcmp_gt, w32_id, jcpy_out, Sum.elim_inl, Sum.elim_inr, jt2, jt3, jt4, jt5, jt6, jt7, jt8] at c2
      have A1 : ¬ h 454 38 = 0 := by { rw [← E38]; exact c2 }
      obtain ⟨AS, EPe⟩ := ak A1
      have C0 := akM_0 AS.1
      rw [if_neg A1] at w0
      have PK := C0.2.1.1
      have MR := mrd_ok (w := w) (sk := true) (h := h) hB n12 ac.1 ac.2.2 (m := (kA K).1) (kf := (kA K).2.1) (by have := PK.2.2.1; omega) (fun k k0 k1 => C0.2.2.2.2.2.2.1.1 k k0 k1) EPe eA (mk.symm.trans kB) t2 t3 t4
      obtain ⟨RQ, ⟨TY, DE, WT, S1, D12, NV⟩, SE, KDw, KD, -⟩ := MR
      have KRR : (inf (rsE EP T 0)).2.2.1 = kR K := by { rw [KD, ← w0]; exact KDw (by have := C0.2.2.2.2.2.2.2; omega) }
      have TM := rd_tm (sk := true) (E := E) (kf := (kA K).2.1) (m := (kA K).1) (w := w) ac.1 ac.2.2 hB n12.2 n12.1 (by have := PK.2.2.1; omega) (fun k k0 k1 => C0.2.2.2.2.2.2.1.1 k k0 k1) eA (by rw [← EPe]; exact mk.symm.trans kB)
      rw [← EPe] at TM
      have FK1 := TM.2.2.2.2.1
      have GT1 := TM.2.2.2.2.2.1
      have H3 : 0 + hlT T ≤ 3 := hl_E GT1 FK1
      have HC : hcT (hlT T) (rsE EP T 0) := hc_E GT1 FK1
      have HQ : hqT 0 (rsE EP T 0) ∧ hlT (rsE EP T 0) = hlT T := by { have y := rs_hq (P := EP.2.1.1) (nP := EP.2.1.2.1) (kP := EP.2.1.2.2) (rs := eRs EP) (oE := eO EP) (kE := eK EP) (Int.le_refl _) (by omega) GT1; exact ⟨y.1, y.2.1⟩ }
      have h00 := hlT_0 T
      have s0 := sz_pos (rsE EP T 0)
      refine OK_if (fun c3 => ?_) (fun c3 => ?_)
      · skip
        try simp (disch := omega) only [jst_eq, jst_ne, jst_ni, jI_i, jcmp_lt, jcmp_gt, w32_id, jcpy_out, Sum.elim_inl, Sum.elim_inr, jt2, jt3, jt4, jt5, jt6, jt7, jt8] at c3
        refine OK_some ?_
        try dsimp only [Sum.elim_inl, Sum.elim_inr, jt2, jt3, jt4, jt5, jt6, jt7, jt8]
        try dsimp only [Sum.elim_inl, Sum.elim_inr, jt2, jt3, jt4, jt5, jt6, jt7, jt8]
        refine ⟨?_, ?_, ?_⟩
        · (refine ⟨-1, ?_, fun _ => G23.1⟩; rw [eA, P55, P71]; exact ⟨fun _ => ⟨rfl, fun y => absurd A1 y, fun _ => ⟨.inl ⟨by omega, rfl, rfl, rfl⟩, fun y => by omega⟩⟩, fun y => absurd (mk.symm.trans kB) y⟩) -- o11 e3.1
        · exact fMr_Q G23.1 -- o12 e3.2
        · exact G23.2 -- o13 e3.3
      · skip
        try simp (disch := omega) only [jst_eq, jst_ne, jst_ni, jI_i, jcmp_lt, jcmp_gt, w32_id, jcpy_out, Sum.elim_inl, Sum.elim_inr, jt2, jt3, jt4, jt5, jt6, jt7, jt8] at c3
        have CG : cG lfM h23 (rsE EP T 0) 4400 0 4401 := cG_fr (lo := 4400) (hi := 5500) (fun dd j i d0 d1 l => by unfold lfM at *; rw [F23 465 dd (by omega), F23 466 dd (by omega), F23 461 dd (by omega), F23 460 dd (by omega), F23 462 dd (by omega), F23 463 dd (by omega)]; exact l) (fun s _ _ => F23 _ _ (by omega)) (by decide) (by decide) (by decide) (by omega) (rawS_cG (Int.le_refl _) t2 (t4 FK1))
        refine OK_jb (vX14_soften (R := rsE EP T 0) _ (by (rw [t1]; exact CG)) (by (rw [t1]; intro x x0 x1; rw [F23 _ _ (by omega)]; have q := (t6 x x0 (by omega)).1; omega)) (by omega) (by omega)) (fun h32 r3 => ?_)
        try dsimp only [Sum.elim_inl, Sum.elim_inr, jt2, jt3, jt4, jt5, jt6, jt7, jt8] at r3
        obtain ⟨cs3, fr3⟩ := r3
        try simp (disch := omega) only [jst_eq, jst_ne, jst_ni, jI_i, jcmp_lt, jcmp_gt, w32_id, jcpy_out, Sum.elim_inl, Sum.elim_inr, jt2, jt3, jt4, jt5, jt6, jt7, jt8] at cs3
        try simp (disch := omega) only [jst_eq, jst_ne, jst_ni, jI_i, jcmp_lt, jcmp_gt, w32_id, jcpy_out, Sum.elim_inl, Sum.elim_inr, jt2, jt3, jt4, jt5, jt6, jt7, jt8] at fr3
        rw [t1] at cs3 fr3
        have F32 : ∀ a s, ¬ (a = 472 ∧ (s = 6 ∨ s = 7)) → ¬ ((a = 460 ∨ a = 467) ∧ 4400 ≤ s ∧ s < 5500) → h32 a s = h a s := fun a s y1 y2 => by { rw [fr3 a s (by omega)]; exact F23 a s y1 }
        have MR32 : fMr h h32 := fun a s y1 y2 y3 y4 y5 y6 y7 y8 y9 y10 => F32 a s (by omega) (by omega)
        have AS32 : asM h32 E Rf W K tp := asM_g AS (fun a s q => F32 a s (by unfold mA at q; omega) (by unfold mA at q; omega)) (fun a s q => F32 a s (by unfold tA at q; omega) (by unfold tA at q; omega)) (by have z := AS.1.2; unfold b20 at z ⊢; rw [F32 _ _ (by omega) (by omega), F32 _ _ (by omega) (by omega)]; exact z)
        have L32 : h32 754 (-2) = 101 ∧ h32 754 (-1) = 256 := by { rw [F32 _ _ (by omega) (by omega), F32 _ _ (by omega) (by omega)]; exact ln }
        have W32 : h32 454 71 = h 454 71 := F32 _ _ (by omega) (by omega)
        have P32 : h32 454 55 = h 454 55 := F32 _ _ (by omega) (by omega)
        refine OK_if (fun c4 => ?_) (fun c4 => ?_)
        · skip
          try simp (disch := omega) only [jst_eq, jst_ne, jst_ni, jI_i, jcmp_lt, jcmp_gt, w32_id, jcpy_out, Sum.elim_inl, Sum.elim_inr, jt2, jt3, jt4, jt5, jt6, jt7, jt8] at c4
          refine OK_mono (vX14_sketch_j124 (E := E) (Rf := Rf) (W := W) (K := K) (tp := tp) (R := rsE EP T 0) _ _ _ (by exact AS32) (by exact cA) (by (rw [t1]; exact cs3)) (by omega) (by (rw [X28]; exact ⟨HQ.1, HC, HQ.2, by omega, by omega⟩)) (by exact TY) (by exact NV) (by exact KRR) (by omega) (by exact L32) (by (unfold aS; rw [if_pos c4])) (by (rw [W32]; exact w71))) (fun r r4 => ?_)
          obtain ⟨y1, y2⟩ := r
          try dsimp only [Sum.elim_inl, Sum.elim_inr, jt2, jt3, jt4, jt5, jt6, jt7, jt8] at r4
          obtain ⟨oo4, fr4, as4, p54⟩ := r4
          try simp (disch := omega) only [jst_eq, jst_ne, jst_ni, jI_i, jcmp_lt, jcmp_gt, w32_id, jcpy_out, Sum.elim_inl, Sum.elim_inr, jt2, jt3, jt4, jt5, jt6, jt7, jt8] at oo4
          try simp (disch := omega) only [jst_eq, jst_ne, jst_ni, jI_i, jcmp_lt, jcmp_gt, w32_id, jcpy_out, Sum.elim_inl, Sum.elim_inr, jt2, jt3, jt4, jt5, jt6, jt7, jt8] at fr4
          try simp (disch := omega) only [jst_eq, jst_ne, jst_ni, jI_i, jcmp_lt, jcmp_gt, w32_id, jcpy_out, Sum.elim_inl, Sum.elim_inr, jt2, jt3, jt4, jt5, jt6, jt7, jt8] at as4
          try simp (disch := omega) only [jst_eq, jst_ne, jst_ni, jI_i, jcmp_lt, jcmp_gt, w32_id, jcpy_out, Sum.elim_inl, Sum.elim_inr, jt2, jt3, jt4, jt5, jt6, jt7, jt8] at p54
          try dsimp only [Sum.elim_inl, Sum.elim_inr, jt2, jt3, jt4, jt5, jt6, jt7, jt8]
          try dsimp only [Sum.elim_inl, Sum.elim_inr, jt2, jt3, jt4, jt5, jt6, jt7, jt8]
          refine ⟨?_, ?_, ?_⟩
          · (obtain ⟨y, u1, u2, u3⟩ := oo4; refine ⟨y, ?_, fun z => fMr_t MR32 (u3 z)⟩; rw [eA]; rw [X28, W32] at u1; rw [X28] at u2; exact ⟨fun _ => ⟨by (rw [p54, P32]), fun z => absurd A1 z, fun _ => ⟨u1, u2⟩⟩, fun z => absurd (mk.symm.trans kB) z⟩) -- o30 e4.1
          · exact fMr_qt MR32 fr4 -- o31 e4.2
          · exact fun _ => as4 -- o32 e4.3
        · skip
          try simp (disch := omega) only [jst_eq, jst_ne, jst_ni, jI_i, jcmp_lt, jcmp_gt, w32_id, jcpy_out, Sum.elim_inl, Sum.elim_inr, jt2, jt3, jt4, jt5, jt6, jt7, jt8] at c4
          refine OK_if (fun c5 => ?_) (fun c5 => ?_)
          · skip
            try simp (disch := omega) only [jst_eq, jst_ne, jst_ni, jI_i, jcmp_lt, jcmp_gt, w32_id, jcpy_out, Sum.elim_inl, Sum.elim_inr, jt2, jt3, jt4, jt5, jt6, jt7, jt8] at c5
            refine OK_mono (vX14_sketch_j124 (E := E) (Rf := Rf) (W := W) (K := K) (tp := tp) (R := rsE EP T 0) _ _ _ (by exact AS32) (by exact cA) (by (rw [t1]; exact cs3)) (by omega) (by (rw [X28]; exact ⟨HQ.1, HC, HQ.2, by omega, by omega⟩)) (by exact TY) (by exact NV) (by exact KRR) (by omega) (by exact L32) (by (unfold aS; rw [if_neg c4, if_pos c5])) (by (rw [W32]; exact w71))) (fun r r5 => ?_)
            obtain ⟨y3, y4⟩ := r
            try dsimp only [Sum.elim_inl, Sum.elim_inr, jt2, jt3, jt4, jt5, jt6, jt7, jt8] at r5
            obtain ⟨oo5, fr5, as5, p55⟩ := r5
            try simp (disch := omega) only [jst_eq, jst_ne, jst_ni, jI_i, jcmp_lt, jcmp_gt, w32_id, jcpy_out, Sum.elim_inl, Sum.elim_inr, jt2, jt3, jt4, jt5, jt6, jt7, jt8] at oo5
            try simp (disch := omega) only [jst_eq, jst_ne, jst_ni, jI_i, jcmp_lt, jcmp_gt, w32_id, jcpy_out, Sum.elim_inl, Sum.elim_inr, jt2, jt3, jt4, jt5, jt6, jt7, jt8] at fr5
            try simp (disch := omega) only [jst_eq, jst_ne, jst_ni, jI_i, jcmp_lt, jcmp_gt, w32_id, jcpy_out, Sum.elim_inl, Sum.elim_inr, jt2, jt3, jt4, jt5, jt6, jt7, jt8] at as5
            try simp (disch := omega) only [jst_eq, jst_ne, jst_ni, jI_i, jcmp_lt, jcmp_gt, w32_id, jcpy_out, Sum.elim_inl, Sum.elim_inr, jt2, jt3, jt4, jt5, jt6, jt7, jt8] at p55
            try dsimp only [Sum.elim_inl, Sum.elim_inr, jt2, jt3, jt4, jt5, jt6, jt7, jt8]
            try dsimp only [Sum.elim_inl, Sum.elim_inr, jt2, jt3, jt4, jt5, jt6, jt7, jt8]
            refine ⟨?_, ?_, ?_⟩
            · (obtain ⟨y, u1, u2, u3⟩ := oo5; refine ⟨y, ?_, fun z => fMr_t MR32 (u3 z)⟩; rw [eA]; rw [X28, W32] at u1; rw [X28] at u2; exact ⟨fun _ => ⟨by (rw [p55, P32]), fun z => absurd A1 z, fun _ => ⟨u1, u2⟩⟩, fun z => absurd (mk.symm.trans kB) z⟩) -- o45 e5.1
            · exact fMr_qt MR32 fr5 -- o46 e5.2
            · exact fun _ => as5 -- o47 e5.3
          · skip
            try simp (disch := omega) only [jst_eq, jst_ne, jst_ni, jI_i, jcmp_lt, jcmp_gt, w32_id, jcpy_out, Sum.elim_inl, Sum.elim_inr, jt2, jt3, jt4, jt5, jt6, jt7, jt8] at c5
            refine OK_mono (vX14_sketch_j124 (E := E) (Rf := Rf) (W := W) (K := K) (tp := tp) (R := rsE EP T 0) _ _ _ (by exact AS32) (by exact cA) (by (rw [t1]; exact cs3)) (by omega) (by (rw [X28]; exact ⟨HQ.1, HC, HQ.2, by omega, by omega⟩)) (by exact TY) (by exact NV) (by exact KRR) (by omega) (by exact L32) (by (unfold aS; rw [if_neg c4, if_neg c5])) (by (rw [W32]; exact w71))) (fun r r6 => ?_)
            obtain ⟨y5, y6⟩ := r
            try dsimp only [Sum.elim_inl, Sum.elim_inr, jt2, jt3, jt4, jt5, jt6, jt7, jt8] at r6
            obtain ⟨oo6, fr6, as6, p56⟩ := r6
            try simp (disch := omega) only [jst_eq, jst_ne, jst_ni, jI_i, jcmp_lt, jcmp_gt, w32_id, jcpy_out, Sum.elim_inl, Sum.elim_inr, jt2, jt3, jt4, jt5, jt6, jt7, jt8] at oo6
            try simp (disch := omega) only [jst_eq, jst_ne, jst_ni, jI_i, jcmp_lt, jcmp_gt, w32_id, jcpy_out, Sum.elim_inl, Sum.elim_inr, jt2, jt3, jt4, jt5, jt6, jt7, jt8] at fr6
            try simp (disch := omega) only [jst_eq, jst_ne, jst_ni, jI_i, jcmp_lt, jcmp_gt, w32_id, jcpy_out, Sum.elim_inl, Sum.elim_inr, jt2, jt3, jt4, jt5, jt6, jt7, jt8] at as6
            try simp (disch := omega) only [jst_eq, jst_ne, jst_ni, jI_i, jcmp_lt, jcmp_gt, w32_id, jcpy_out, Sum.elim_inl, Sum.elim_inr, jt2, jt3, jt4, jt5, jt6, jt7, jt8] at p56
            try dsimp only [Sum.elim_inl, Sum.elim_inr, jt2, jt3, jt4, jt5, jt6, jt7, jt8]
            try dsimp only [Sum.elim_inl, Sum.elim_inr, jt2, jt3, jt4, jt5, jt6, jt7, jt8]
            refine ⟨?_, ?_, ?_⟩
            · (obtain ⟨y, u1, u2, u3⟩ := oo6; refine ⟨y, ?_, fun z => fMr_t MR32 (u3 z)⟩; rw [eA]; rw [X28, W32] at u1; rw [X28] at u2; exact ⟨fun _ => ⟨by (rw [p56, P32]), fun z => absurd A1 z, fun _ => ⟨u1, u2⟩⟩, fun z => absurd (mk.symm.trans kB) z⟩) -- o60 e6.1
            · exact fMr_qt MR32 fr6 -- o61 e6.2
            · exact fun _ => as6 -- o62 e6.3
theorem vX14_sketch {h : AH} {B : Int → Int} {n : Int} {E EP : EV} {Rf : Int → TR} {W : Int → Int → Int → VW} {K : AK} {tp : Int} (hB : ∀ i, 0 ≤ i → i < n → 0 ≤ B i ∧ B i < 256) (tb : n = h 454 53 ∧ 0 ≤ n ∧ n ≤ 2000 ∧ ∀ i, 0 ≤ i → i < n → h 790 i = B i) (om : ownsM h E Rf) (l0 : E.2.2.1 = 0) (ar : arN h) (dn : h 454 54 = 0 ∨ h 454 54 = 1) (cA : ∀ a, 0 ≤ a → a < E.1.1 → 0 ≤ E.1.2.1 a ∧ E.1.2.1 a < 282429536481) (ak : ¬ h 454 38 = 0 → asM h E Rf W K tp) (ep : epM h E Rf W K tp EP) (ln : h 754 (-2) = 101 ∧ h 754 (-1) = 256) (w71 : 0 ≤ h 454 71 ∧ h 454 71 ≤ 1000000000) : OK (gX14_sketch h) (fun r => jt2 r fun v h' => (¬ h 454 54 = 0 → v = -5 ∧ h' = jst h 454 51 0) ∧ (h 454 54 = 0 → ∃ y, outSk E EP W K (¬ h 454 38 = 0) (if h 454 38 = 0 then -1 else kR K) (pA B n true (beg B n)) (h 454 55) (h 454 71) v (h' 454 55) (h' 454 71) y (fdL h' E W K) ∧ (y < 0 → fMr h h')) ∧ (h 454 54 = 0 → fMq h h') ∧ (¬ h 454 38 = 0 → asM h' E Rf W K tp)) := by
  have ac := om.2.1
  have ew := om.2.2.2.2.2.1
  have T1 := tb.2.1
  have T2 := tb.2.2.1
  unfold gX14_sketch
  refine OK_jb2 (vX14_isDown (by (first | assumption | omega | ((try dsimp only [jt2, jt3, jt4]); first | omega | (simp (disch := omega) only [jst_eq, jst_ne, jst_ni, jst_o, jI_i, jcpy_out, w32_id, jdiv_nn, jshr_k, jand_255] <;> first | done | omega | assumption)) | (intros; simp (disch := omega) only [jst_eq, jst_ne, jst_ni, jst_o, jI_i, jcpy_out, w32_id, jdiv_nn, *] <;> first | done | omega) | (intros; simp (disch := omega) only [jst_eq, jst_ne, jst_ni, jst_o, jI_i, jcpy_out, w32_id, jdiv_nn] at * <;> first | done | omega | assumption) | (intros; first | rfl | (exfalso; omega) | ((repeat' apply And.intro) <;> first | assumption | rfl | omega | trivial))))) (fun v2 h3 r1 => ?_)
  try dsimp only [Sum.elim_inl, Sum.elim_inr, jt2, jt3, jt4, jt5, jt6, jt7, jt8] at r1
  obtain ⟨dv1, dh1⟩ := r1
  try simp (disch := omega) only [jst_eq, jst_ne, jst_ni, jI_i, jcmp_lt, jcmp_gt, w32_id, jcpy_out, Sum.elim_inl, Sum.elim_inr, jt2, jt3, jt4, jt5, jt6, jt7, jt8] at dv1
  try simp (disch := omega) only [jst_eq, jst_ne, jst_ni, jI_i, jcmp_lt, jcmp_gt, w32_id, jcpy_out, Sum.elim_inl, Sum.elim_inr, jt2, jt3, jt4, jt5, jt6, jt7, jt8] at dh1
  have F3 : ∀ a s, ¬ (a = 454 ∧ s = 51) → h3 a s = h a s := fun a s y => by { rw [dh1]; exact jst_o y }
  have n53 : h3 454 53 = n := by { rw [F3 _ _ (by omega)]; exact tb.1.symm }
  refine OK_if (fun c1 => ?_) (fun c1 => ?_)
  · skip
    try simp (disch := omega) only [jst_eq, jst_ne, jst_ni, jI_i, jcmp_lt, jcmp_gt, w32_id, jcpy_out, Sum.elim_inl, Sum.elim_inr, jt2, jt3, jt4, jt5, jt6, jt7, jt8] at c1
    refine OK_jb (vX14_takeTape (by (rw [n53]; exact ⟨T1, T2⟩))) (fun h6 r2 => ?_)
    try dsimp only [Sum.elim_inl, Sum.elim_inr, jt2, jt3, jt4, jt5, jt6, jt7, jt8] at r2
    obtain ⟨z2, b2, fr2⟩ := r2
    try simp (disch := omega) only [jst_eq, jst_ne, jst_ni, jI_i, jcmp_lt, jcmp_gt, w32_id, jcpy_out, Sum.elim_inl, Sum.elim_inr, jt2, jt3, jt4, jt5, jt6, jt7, jt8] at z2
    try simp (disch := omega) only [jst_eq, jst_ne, jst_ni, jI_i, jcmp_lt, jcmp_gt, w32_id, jcpy_out, Sum.elim_inl, Sum.elim_inr, jt2, jt3, jt4, jt5, jt6, jt7, jt8] at b2
    try simp (disch := omega) only [jst_eq, jst_ne, jst_ni, jI_i, jcmp_lt, jcmp_gt, w32_id, jcpy_out, Sum.elim_inl, Sum.elim_inr, jt2, jt3, jt4, jt5, jt6, jt7, jt8] at fr2
    have F6 : ∀ a s, ¬ (a = 454 ∧ (s = 25 ∨ s = 51 ∨ s = 53)) → ¬ (a = 473 ∧ 0 ≤ s ∧ s < 2000) → h6 a s = h a s := fun a s y1 y2 => by { rw [fr2 a s y1 (by omega), F3 a s (by omega)] }
    have TM6 : TM B n h6 := ⟨by { rw [z2.2.2]; exact n53 }, T1, T2, fun i i0 i1 => by { rw [b2 i i0 (by omega), F3 _ _ (by omega)]; exact tb.2.2.2 i i0 i1 }⟩
    have om6 := ownsM_fr om (F6 _ _ (by omega) (by omega)) (fun a s a0 a1 => F6 _ _ (by omega) (by omega)) ⟨fun a s a0 a1 a2 a3 a4 => F6 _ _ (by omega) (by omega), fun s s0 s1 => F6 _ _ (by omega) (by omega)⟩
    have ar6 : arN h6 := arN_f ar (fun a s _ _ => F6 a s (by omega) (by omega))
    have e38 : h6 454 38 = h 454 38 := F6 _ _ (by omega) (by omega)
    have AG6 : agN h h6 ∧ agT h h6 := ⟨fun a s y => by { unfold mA at y; exact F6 a s (by omega) (by omega) }, fun a s y => by { unfold tA at y; exact F6 a s (by omega) (by omega) }⟩
    have W6 : ¬ h 454 38 = 0 → h6 454 21 = -1 ∧ b20 h6 := fun y => by { have z := (ak y).1.2; unfold b20 at z ⊢; rw [F6 _ _ (by omega) (by omega), F6 _ _ (by omega) (by omega)]; exact z }
    have ep6 : epM h6 E Rf W K tp EP := by { rcases ep with y | y; { exact .inl ⟨by rw [e38]; exact y.1, y.2⟩ }; { exact .inr ⟨by rw [e38]; exact y.1, akM_n y.2.1 AG6.1 (W6 y.1), y.2.2⟩ } }
    refine OK_jb3 (vRMb 1 (sk := true) hB TM6 rfl om6 l0 ar6 ep6) (fun t8 v9 h10 r3 => ?_)
    obtain ⟨⟨rr3, F10⟩, BQ10⟩ := r3
    dsimp only at rr3 F10 BQ10
    have G10 : ∀ a s, ¬ (a = 454 ∧ (s = 17 ∨ (25 ≤ s ∧ s ≤ 31) ∨ s = 34 ∨ s = 35 ∨ s = 51 ∨ s = 53 ∨ s = 66)) → ¬ (a = 472 ∧ (s = 6 ∨ s = 7)) → ¬ (460 ≤ a ∧ a ≤ 470 ∧ a ≠ 464 ∧ 4400 ≤ s ∧ s < 5500) → ¬ (a = 464 ∧ 13200 ≤ s ∧ s < 16500) → ¬ ((a = 474 ∨ a = 475) ∧ 0 ≤ s ∧ s < 3) → ¬ (a = 473 ∧ 0 ≤ s ∧ s < 2000) → h10 a s = h a s := fun a s y1 y2 y3 y4 y5 y6 => by { rw [F10 a s (by omega) y2 y3 y4 y5]; exact F6 a s (by omega) y6 }
    have MR10 : fMr h h10 := fun a s y1 y2 y3 y4 y5 y6 _ _ _ _ => G10 a s (by omega) y2 y3 y4 y5 y6
    have AG10 : agN h h10 ∧ agT h h10 := ⟨fun a s y => by { unfold mA at y; exact G10 a s (by omega) (by omega) (by omega) (by omega) (by omega) (by omega) }, fun a s y => by { unfold tA at y; exact G10 a s (by omega) (by omega) (by omega) (by omega) (by omega) (by omega) }⟩
    have W10 : ∀ hh : AH, (∀ a s, ¬ (a = 454 ∧ (s = 30 ∨ s = 31 ∨ s = 55)) → ¬ (a = 472 ∧ (s = 6 ∨ s = 7)) → hh a s = h10 a s) → ¬ h 454 38 = 0 → asM hh E Rf W K tp := fun hh f y => by { have z := (ak y).1.2; refine asM_g (ak y) (fun a s q => ?_) (fun a s q => ?_) ?_; { rw [f a s (by unfold mA at q; omega) (by unfold mA at q; omega)]; exact AG10.1 a s q }; { rw [f a s (by unfold tA at q; omega) (by unfold tA at q; omega)]; exact AG10.2 a s q }; { unfold b20 at z ⊢; rw [f _ _ (by omega) (by omega), f _ _ (by omega) (by omega), G10 _ _ (by omega) (by omega) (by omega) (by omega) (by omega) (by omega), G10 _ _ (by omega) (by omega) (by omega) (by omega) (by omega) (by omega)]; exact z } }
    have W71 : h10 454 71 = h 454 71 := G10 _ _ (by omega) (by omega) (by omega) (by omega) (by omega) (by omega)
    have P10 : h10 454 55 = h 454 55 := G10 _ _ (by omega) (by omega) (by omega) (by omega) (by omega) (by omega)
    have E38 : h10 454 38 = h 454 38 := G10 _ _ (by omega) (by omega) (by omega) (by omega) (by omega) (by omega)
    have L10 : h10 754 (-2) = 101 ∧ h10 754 (-1) = 256 := by { rw [G10 _ _ (by omega) (by omega) (by omega) (by omega) (by omega) (by omega), G10 _ _ (by omega) (by omega) (by omega) (by omega) (by omega) (by omega)]; exact ln }
    refine OK_jq (fun c2 => ?_) (fun c2 => ?_)
    · skip
      obtain ⟨z, eR, t472, mf1, mf2⟩ := resR_l rr3 c2
      refine OK_jg (by (first | assumption | omega | ((try dsimp only [jt2, jt3, jt4]); first | omega | (simp (disch := omega) only [jst_eq, jst_ne, jst_ni, jst_o, jI_i, jcpy_out, w32_id, jdiv_nn, jshr_k, jand_255] <;> first | done | omega | assumption)) | (intros; simp (disch := omega) only [jst_eq, jst_ne, jst_ni, jst_o, jI_i, jcpy_out, w32_id, jdiv_nn, *] <;> first | done | omega) | (intros; simp (disch := omega) only [jst_eq, jst_ne, jst_ni, jst_o, jI_i, jcpy_out, w32_id, jdiv_nn] at * <;> first | done | omega | assumption) | (intros; first | rfl | (exfalso; omega) | ((repeat' apply And.intro) <;> first | assumption | rfl | omega | trivial)))) ?_ -- o3
      refine OK_jb2 (vX14_faulty _ (by (first | assumption | omega | ((try dsimp only [jt2, jt3, jt4]); first | omega | (simp (disch := omega) only [jst_eq, jst_ne, jst_ni, jst_o, jI_i, jcpy_out, w32_id, jdiv_nn, jshr_k, jand_255] <;> first | done | omega | assumption)) | (intros; simp (disch := omega) only [jst_eq, jst_ne, jst_ni, jst_o, jI_i, jcpy_out, w32_id, jdiv_nn, *] <;> first | done | omega) | (intros; simp (disch := omega) only [jst_eq, jst_ne, jst_ni, jst_o, jI_i, jcpy_out, w32_id, jdiv_nn] at * <;> first | done | omega | assumption) | (intros; first | rfl | (exfalso; omega) | ((repeat' apply And.intro) <;> first | assumption | rfl | omega | trivial))))) (fun v13 h14 r4 => ?_)
      try dsimp only [Sum.elim_inl, Sum.elim_inr, jt2, jt3, jt4, jt5, jt6, jt7, jt8] at r4
      obtain ⟨vv3, fr3⟩ := r4
      try simp (disch := omega) only [jst_eq, jst_ne, jst_ni, jI_i, jcmp_lt, jcmp_gt, w32_id, jcpy_out, Sum.elim_inl, Sum.elim_inr, jt2, jt3, jt4, jt5, jt6, jt7, jt8] at vv3
      try simp (disch := omega) only [jst_eq, jst_ne, jst_ni, jI_i, jcmp_lt, jcmp_gt, w32_id, jcpy_out, Sum.elim_inl, Sum.elim_inr, jt2, jt3, jt4, jt5, jt6, jt7, jt8] at fr3
      refine OK_some ?_
      try dsimp only [Sum.elim_inl, Sum.elim_inr, jt2, jt3, jt4, jt5, jt6, jt7, jt8]
      try dsimp only [Sum.elim_inl, Sum.elim_inr, jt2, jt3, jt4, jt5, jt6, jt7, jt8]
      refine ⟨?_, ?_, ?_, ?_⟩
      · (first | assumption | omega | ((try dsimp only [jt2, jt3, jt4]); first | omega | (simp (disch := omega) only [jst_eq, jst_ne, jst_ni, jst_o, jI_i, jcpy_out, w32_id, jdiv_nn, jshr_k, jand_255] <;> first | done | omega | assumption)) | (intros; simp (disch := omega) only [jst_eq, jst_ne, jst_ni, jst_o, jI_i, jcpy_out, w32_id, jdiv_nn, *] <;> first | done | omega) | (intros; simp (disch := omega) only [jst_eq, jst_ne, jst_ni, jst_o, jI_i, jcpy_out, w32_id, jdiv_nn] at * <;> first | done | omega | assumption) | (intros; first | rfl | (exfalso; omega) | ((repeat' apply And.intro) <;> first | assumption | rfl | omega | trivial))) -- o5 e1.1
      · (intro _; rw [fr3]; refine ⟨-1, ?_, fun _ => ?_⟩; { rw [pA_l eR, jst_o (show ¬ ((454 : Int) = 454 ∧ (71 : Int) = 55) by decide), W71]; exact ⟨by omega, by rw [jst_eq]; exact mf2, rfl, rfl⟩ }; { exact fun a s y1 y2 y3 y4 y5 y6 y7 y8 y9 y10 => (by rw [jst_o (by omega)]; exact MR10 a s y1 y2 y3 y4 y5 y6 y7 y8 y9 y10) }) -- o6 e1.2
      · (intro _; rw [fr3]; exact fMr_Q (fun a s y1 y2 y3 y4 y5 y6 y7 y8 y9 y10 => (by rw [jst_o (by omega)]; exact MR10 a s y1 y2 y3 y4 y5 y6 y7 y8 y9 y10))) -- o7 e1.3
      · (intro y; rw [fr3]; exact W10 _ (fun a s y1 _ => jst_o (by omega)) y) -- o8 e1.4
    · skip
      obtain ⟨T, q1, eR, v4, ms, mi, mk, k66, h35, szT, res, pl, gt, wpt, dpt, rs0⟩ := resR_r rr3 c2
      obtain ⟨BQa, T', q', eR', t17⟩ := BQ10 c2
      have eTT : T' = T := by { rw [eR] at eR'; cases eR'; rfl }
      rw [eTT] at t17
      obtain ⟨q, eb, eT⟩ := bdT_inr eR
      have eA := pA_r eR
      have mr := MK_r mi
      have PA : acE EP ∧ paE EP ∧ EP.2.2.1 = 0 := by { rcases ep with y | y; { rw [y.2]; exact ⟨ac, ⟨Int.le_refl _, fun k k0 k1 => absurd k1 (Int.not_lt.mpr k0)⟩, l0⟩ }; { rw [y.2.2]; have C := akM_0 y.2.1; exact ⟨ac, ⟨by (show 0 ≤ (kA K).1; have := C.2.1.1.2.2.1; omega), fun k k0 k1 => C.2.2.2.2.2.2.1.1 k k0 k1⟩, l0⟩ } }
      have KD2 := kdE_p PA.1 PA.2.1 PA.2.2 gt
      obtain ⟨wv, ewv⟩ : ∃ w : Int, w = (if h 454 38 = 0 then -1 else kR K) := ⟨_, rfl⟩
      have EWV : wv = if h10 454 38 = 0 then -1 else kR K := by { rw [E38]; exact ewv }
      have AK10 : ¬ h10 454 38 = 0 → asM h10 E Rf W K tp ∧ EP = EPn E (kA K).1 (kA K).2.1 := fun y => by { have y2 : ¬ h 454 38 = 0 := (by rw [← E38]; exact y); refine ⟨W10 _ (fun _ _ _ _ => rfl) y2, ?_⟩; rcases ep with z | z; { exact absurd z.1 y2 }; { exact z.2.2 } }
      have T10 : v9 = 4400 ∧ rawS h10 T 4400 0 4401 (-1) ∧ sz T ≤ 1001 ∧ (fkE EP T 0 0 = 1000000 → resM h10 (rsE EP T 0) 4400 0) ∧ h10 454 35 = hlT T ∧ BQ 4400 h10 ∧ h10 454 17 = 4400 + sz T := ⟨v4, rs0, szT, res, h35, BQa, t17⟩
      have KW := key_w (E := EP) (T := T) (w := wv)
      rw [← mk] at KW
      have CK := kch_c KD2
      have MX : MK h10 ≤ 1000000 := MK_b mi
      refine OK_if (fun c3 => ?_) (fun c3 => ?_)
      · skip
        try simp (disch := omega) only [jst_eq, jst_ne, jst_ni, jI_i, jcmp_lt, jcmp_gt, w32_id, jcpy_out, Sum.elim_inl, Sum.elim_inr, jt2, jt3, jt4, jt5, jt6, jt7, jt8] at c3
        have MKW : MK h10 = keyE EP wv T := by { rw [KW, if_neg (fun y => by (have := EWV; rw [if_pos c3] at this; exact y.1 this))]; omega }
        refine OK_mono (vX14_sketch_j62 (B := B) (n := n) (q1 := q1) (w := wv) (E := E) (EP := EP) (Rf := Rf) (W := W) (K := K) (tp := tp) (T := T) _ (by exact hB) (by exact ⟨T1, T2⟩) (by exact ⟨ac, l0, ew⟩) (by exact cA) (by exact ms) (by exact mi) (by exact MKW) (by exact eA) (by exact AK10) (by exact EWV) (by exact T10) (by exact L10) (by (rw [W71]; exact w71))) (fun r r5 => ?_)
        obtain ⟨y1, y2⟩ := r
        try dsimp only [Sum.elim_inl, Sum.elim_inr, jt2, jt3, jt4, jt5, jt6, jt7, jt8] at r5
        obtain ⟨oo4, fr4, as4⟩ := r5
        try simp (disch := omega) only [jst_eq, jst_ne, jst_ni, jI_i, jcmp_lt, jcmp_gt, w32_id, jcpy_out, Sum.elim_inl, Sum.elim_inr, jt2, jt3, jt4, jt5, jt6, jt7, jt8] at oo4
        try simp (disch := omega) only [jst_eq, jst_ne, jst_ni, jI_i, jcmp_lt, jcmp_gt, w32_id, jcpy_out, Sum.elim_inl, Sum.elim_inr, jt2, jt3, jt4, jt5, jt6, jt7, jt8] at fr4
        try simp (disch := omega) only [jst_eq, jst_ne, jst_ni, jI_i, jcmp_lt, jcmp_gt, w32_id, jcpy_out, Sum.elim_inl, Sum.elim_inr, jt2, jt3, jt4, jt5, jt6, jt7, jt8] at as4
        try dsimp only [Sum.elim_inl, Sum.elim_inr, jt2, jt3, jt4, jt5, jt6, jt7, jt8]
        try dsimp only [Sum.elim_inl, Sum.elim_inr, jt2, jt3, jt4, jt5, jt6, jt7, jt8]
        refine ⟨?_, ?_, ?_, ?_⟩
        · (first | assumption | omega | ((try dsimp only [jt2, jt3, jt4]); first | omega | (simp (disch := omega) only [jst_eq, jst_ne, jst_ni, jst_o, jI_i, jcpy_out, w32_id, jdiv_nn, jshr_k, jand_255] <;> first | done | omega | assumption)) | (intros; simp (disch := omega) only [jst_eq, jst_ne, jst_ni, jst_o, jI_i, jcpy_out, w32_id, jdiv_nn, *] <;> first | done | omega) | (intros; simp (disch := omega) only [jst_eq, jst_ne, jst_ni, jst_o, jI_i, jcpy_out, w32_id, jdiv_nn] at * <;> first | done | omega | assumption) | (intros; first | rfl | (exfalso; omega) | ((repeat' apply And.intro) <;> first | assumption | rfl | omega | trivial))) -- o22 e2.1
        · (intro _; rw [← ewv]; obtain ⟨y, u1, u2⟩ := oo4; refine ⟨y, ?_, fun z => fMr_t MR10 (u2 z)⟩; rw [P10, W71, E38] at u1; exact u1) -- o23 e2.2
        · (intro _; exact fMr_qt MR10 fr4) -- o24 e2.3
        · (intro y; exact as4 (by rw [E38]; exact y)) -- o25 e2.4
      · skip
        try simp (disch := omega) only [jst_eq, jst_ne, jst_ni, jI_i, jcmp_lt, jcmp_gt, w32_id, jcpy_out, Sum.elim_inl, Sum.elim_inr, jt2, jt3, jt4, jt5, jt6, jt7, jt8] at c3
        refine OK_if (fun c4 => ?_) (fun c4 => ?_)
        · skip
          try simp (disch := omega) only [jst_eq, jst_ne, jst_ni, jI_i, jcmp_lt, jcmp_gt, w32_id, jcpy_out, Sum.elim_inl, Sum.elim_inr, jt2, jt3, jt4, jt5, jt6, jt7, jt8] at c4
          have MKW : MK h10 = keyE EP wv T := by { rw [KW, if_neg (fun y => y.2.1 (CK.2.2.mp (by rw [← k66]; exact c4)))]; omega }
          refine OK_mono (vX14_sketch_j62 (B := B) (n := n) (q1 := q1) (w := wv) (E := E) (EP := EP) (Rf := Rf) (W := W) (K := K) (tp := tp) (T := T) _ (by exact hB) (by exact ⟨T1, T2⟩) (by exact ⟨ac, l0, ew⟩) (by exact cA) (by exact ms) (by exact mi) (by exact MKW) (by exact eA) (by exact AK10) (by exact EWV) (by exact T10) (by exact L10) (by (rw [W71]; exact w71))) (fun r r6 => ?_)
          obtain ⟨y3, y4⟩ := r
          try dsimp only [Sum.elim_inl, Sum.elim_inr, jt2, jt3, jt4, jt5, jt6, jt7, jt8] at r6
          obtain ⟨oo5, fr5, as5⟩ := r6
          try simp (disch := omega) only [jst_eq, jst_ne, jst_ni, jI_i, jcmp_lt, jcmp_gt, w32_id, jcpy_out, Sum.elim_inl, Sum.elim_inr, jt2, jt3, jt4, jt5, jt6, jt7, jt8] at oo5
          try simp (disch := omega) only [jst_eq, jst_ne, jst_ni, jI_i, jcmp_lt, jcmp_gt, w32_id, jcpy_out, Sum.elim_inl, Sum.elim_inr, jt2, jt3, jt4, jt5, jt6, jt7, jt8] at fr5
          try simp (disch := omega) only [jst_eq, jst_ne, jst_ni, jI_i, jcmp_lt, jcmp_gt, w32_id, jcpy_out, Sum.elim_inl, Sum.elim_inr, jt2, jt3, jt4, jt5, jt6, jt7, jt8] at as5
          try dsimp only [Sum.elim_inl, Sum.elim_inr, jt2, jt3, jt4, jt5, jt6, jt7, jt8]
          try dsimp only [Sum.elim_inl, Sum.elim_inr, jt2, jt3, jt4, jt5, jt6, jt7, jt8]
          refine ⟨?_, ?_, ?_, ?_⟩
          · (first | assumption | omega | ((try dsimp only [jt2, jt3, jt4]); first | omega | (simp (disch := omega) only [jst_eq, jst_ne, jst_ni, jst_o, jI_i, jcpy_out, w32_id, jdiv_nn, jshr_k, jand_255] <;> first | done | omega | assumption)) | (intros; simp (disch := omega) only [jst_eq, jst_ne, jst_ni, jst_o, jI_i, jcpy_out, w32_id, jdiv_nn, *] <;> first | done | omega) | (intros; simp (disch := omega) only [jst_eq, jst_ne, jst_ni, jst_o, jI_i, jcpy_out, w32_id, jdiv_nn] at * <;> first | done | omega | assumption) | (intros; first | rfl | (exfalso; omega) | ((repeat' apply And.intro) <;> first | assumption | rfl | omega | trivial))) -- o39 e3.1
          · (intro _; rw [← ewv]; obtain ⟨y, u1, u2⟩ := oo5; refine ⟨y, ?_, fun z => fMr_t MR10 (u2 z)⟩; rw [P10, W71, E38] at u1; exact u1) -- o40 e3.2
          · (intro _; exact fMr_qt MR10 fr5) -- o41 e3.3
          · (intro y; exact as5 (by rw [E38]; exact y)) -- o42 e3.4
        · skip
          try simp (disch := omega) only [jst_eq, jst_ne, jst_ni, jI_i, jcmp_lt, jcmp_gt, w32_id, jcpy_out, Sum.elim_inl, Sum.elim_inr, jt2, jt3, jt4, jt5, jt6, jt7, jt8] at c4
          have X10 : isX16 (h10 454 38) := (akM_0 (AK10 c3).1.1).1.1
          refine OK_jg (by (first | assumption | omega | ((try dsimp only [jt2, jt3, jt4]); first | omega | (simp (disch := omega) only [jst_eq, jst_ne, jst_ni, jst_o, jI_i, jcpy_out, w32_id, jdiv_nn, jshr_k, jand_255] <;> first | done | omega | assumption)) | (intros; simp (disch := omega) only [jst_eq, jst_ne, jst_ni, jst_o, jI_i, jcpy_out, w32_id, jdiv_nn, *] <;> first | done | omega) | (intros; simp (disch := omega) only [jst_eq, jst_ne, jst_ni, jst_o, jI_i, jcpy_out, w32_id, jdiv_nn] at * <;> first | done | omega | assumption) | (intros; first | rfl | (exfalso; omega) | ((repeat' apply And.intro) <;> first | assumption | rfl | omega | trivial)))) ?_ -- o43
          refine OK_if (fun c5 => ?_) (fun c5 => ?_)
          · skip
            try simp (disch := omega) only [jst_eq, jst_ne, jst_ni, jI_i, jcmp_lt, jcmp_gt, w32_id, jcpy_out, Sum.elim_inl, Sum.elim_inr, jt2, jt3, jt4, jt5, jt6, jt7, jt8] at c5
            have MKW : MK h10 = keyE EP wv T := by { rw [KW, if_neg (fun y => by (have e := EWV; rw [if_neg c3] at e; have C := akM_0 (AK10 c3).1.1; rw [C.2.2.2.2.1] at c5; rw [k66] at c5; exact y.2.2 (by rw [e]; exact kch_w KD2 C.2.2.2.2.2.2.2 c5)))]; omega }
            refine OK_mono (vX14_sketch_j62 (B := B) (n := n) (q1 := q1) (w := wv) (E := E) (EP := EP) (Rf := Rf) (W := W) (K := K) (tp := tp) (T := T) _ (by exact hB) (by exact ⟨T1, T2⟩) (by exact ⟨ac, l0, ew⟩) (by exact cA) (by exact ms) (by exact mi) (by exact MKW) (by exact eA) (by exact AK10) (by exact EWV) (by exact T10) (by exact L10) (by (rw [W71]; exact w71))) (fun r r7 => ?_)
            obtain ⟨y5, y6⟩ := r
            try dsimp only [Sum.elim_inl, Sum.elim_inr, jt2, jt3, jt4, jt5, jt6, jt7, jt8] at r7
            obtain ⟨oo6, fr6, as6⟩ := r7
            try simp (disch := omega) only [jst_eq, jst_ne, jst_ni, jI_i, jcmp_lt, jcmp_gt, w32_id, jcpy_out, Sum.elim_inl, Sum.elim_inr, jt2, jt3, jt4, jt5, jt6, jt7, jt8] at oo6
            try simp (disch := omega) only [jst_eq, jst_ne, jst_ni, jI_i, jcmp_lt, jcmp_gt, w32_id, jcpy_out, Sum.elim_inl, Sum.elim_inr, jt2, jt3, jt4, jt5, jt6, jt7, jt8] at fr6
            try simp (disch := omega) only [jst_eq, jst_ne, jst_ni, jI_i, jcmp_lt, jcmp_gt, w32_id, jcpy_out, Sum.elim_inl, Sum.elim_inr, jt2, jt3, jt4, jt5, jt6, jt7, jt8] at as6
            try dsimp only [Sum.elim_inl, Sum.elim_inr, jt2, jt3, jt4, jt5, jt6, jt7, jt8]
            try dsimp only [Sum.elim_inl, Sum.elim_inr, jt2, jt3, jt4, jt5, jt6, jt7, jt8]
            refine ⟨?_, ?_, ?_, ?_⟩
            · (first | assumption | omega | ((try dsimp only [jt2, jt3, jt4]); first | omega | (simp (disch := omega) only [jst_eq, jst_ne, jst_ni, jst_o, jI_i, jcpy_out, w32_id, jdiv_nn, jshr_k, jand_255] <;> first | done | omega | assumption)) | (intros; simp (disch := omega) only [jst_eq, jst_ne, jst_ni, jst_o, jI_i, jcpy_out, w32_id, jdiv_nn, *] <;> first | done | omega) | (intros; simp (disch := omega) only [jst_eq, jst_ne, jst_ni, jst_o, jI_i, jcpy_out, w32_id, jdiv_nn] at * <;> first | done | omega | assumption) | (intros; first | rfl | (exfalso; omega) | ((repeat' apply And.intro) <;> first | assumption | rfl | omega | trivial))) -- o57 e4.1
            · (intro _; rw [← ewv]; obtain ⟨y, u1, u2⟩ := oo6; refine ⟨y, ?_, fun z => fMr_t MR10 (u2 z)⟩; rw [P10, W71, E38] at u1; exact u1) -- o58 e4.2
            · (intro _; exact fMr_qt MR10 fr6) -- o59 e4.3
            · (intro y; exact as6 (by rw [E38]; exact y)) -- o60 e4.4
          · skip
            try simp (disch := omega) only [jst_eq, jst_ne, jst_ni, jI_i, jcmp_lt, jcmp_gt, w32_id, jcpy_out, Sum.elim_inl, Sum.elim_inr, jt2, jt3, jt4, jt5, jt6, jt7, jt8] at c5
            refine OK_jg (by (first | assumption | omega | ((try dsimp only [jt2, jt3, jt4]); first | omega | (simp (disch := omega) only [jst_eq, jst_ne, jst_ni, jst_o, jI_i, jcpy_out, w32_id, jdiv_nn, jshr_k, jand_255] <;> first | done | omega | assumption)) | (intros; simp (disch := omega) only [jst_eq, jst_ne, jst_ni, jst_o, jI_i, jcpy_out, w32_id, jdiv_nn, *] <;> first | done | omega) | (intros; simp (disch := omega) only [jst_eq, jst_ne, jst_ni, jst_o, jI_i, jcpy_out, w32_id, jdiv_nn] at * <;> first | done | omega | assumption) | (intros; first | rfl | (exfalso; omega) | ((repeat' apply And.intro) <;> first | assumption | rfl | omega | trivial)))) ?_ -- o61
            refine OK_jb (vX14_note _ _ (by exact mi) (by (rw [v4, pl]; have g := gT_i gt; exact ⟨by decide, by decide, g.1, g.2.1⟩))) (fun h19 r8 => ?_)
            try dsimp only [Sum.elim_inl, Sum.elim_inr, jt2, jt3, jt4, jt5, jt6, jt7, jt8] at r8
            obtain ⟨m7, k7, fr7⟩ := r8
            try simp (disch := omega) only [jst_eq, jst_ne, jst_ni, jI_i, jcmp_lt, jcmp_gt, w32_id, jcpy_out, Sum.elim_inl, Sum.elim_inr, jt2, jt3, jt4, jt5, jt6, jt7, jt8] at m7
            try simp (disch := omega) only [jst_eq, jst_ne, jst_ni, jI_i, jcmp_lt, jcmp_gt, w32_id, jcpy_out, Sum.elim_inl, Sum.elim_inr, jt2, jt3, jt4, jt5, jt6, jt7, jt8] at k7
            try simp (disch := omega) only [jst_eq, jst_ne, jst_ni, jI_i, jcmp_lt, jcmp_gt, w32_id, jcpy_out, Sum.elim_inl, Sum.elim_inr, jt2, jt3, jt4, jt5, jt6, jt7, jt8] at fr7
            have F19 : ∀ a s, ¬ (a = 454 ∧ (s = 30 ∨ s = 31)) → h19 a s = h10 a s := fr7
            have MKW : MK h19 = keyE EP wv T := by { rw [KW, k7, v4, pl, if_pos]; have e := EWV; rw [if_neg c3] at e; have C := akM_0 (AK10 c3).1.1; refine ⟨by have := C.2.2.2.2.2.2.2; omega, fun y => c4 (by rw [k66]; exact CK.2.2.mpr y), fun y => c5 (by rw [k66, C.2.2.2.2.1, y, e])⟩ }
            have AK19 : ¬ h19 454 38 = 0 → asM h19 E Rf W K tp ∧ EP = EPn E (kA K).1 (kA K).2.1 := fun y => by { have y2 : ¬ h10 454 38 = 0 := (by rw [← F19 454 38 (by omega)]; exact y); exact ⟨W10 _ (fun a s y1 _ => F19 a s (by omega)) (by rw [← E38]; exact y2), (AK10 y2).2⟩ }
            have T19 : v9 = 4400 ∧ rawS h19 T 4400 0 4401 (-1) ∧ sz T ≤ 1001 ∧ (fkE EP T 0 0 = 1000000 → resM h19 (rsE EP T 0) 4400 0) ∧ h19 454 35 = hlT T ∧ BQ 4400 h19 ∧ h19 454 17 = 4400 + sz T := ⟨v4, rawS_fr (fun s => F19 _ _ (by omega)) (fun s => F19 _ _ (by omega)) (fun s => F19 _ _ (by omega)) (fun s => F19 _ _ (by omega)) (fun s => F19 _ _ (by omega)) rs0, szT, fun y => resM_fr (fun a s a0 a1 => F19 _ _ (by omega)) (res y), by rw [F19 _ _ (by omega)]; exact h35, BQ_f BQa (F19 _ _ (by omega)) (fun a s y => F19 _ _ (by omega)), by rw [F19 _ _ (by omega)]; exact t17⟩
            refine OK_mono (vX14_sketch_j62 (B := B) (n := n) (q1 := q1) (w := wv) (E := E) (EP := EP) (Rf := Rf) (W := W) (K := K) (tp := tp) (T := T) _ (by exact hB) (by exact ⟨T1, T2⟩) (by exact ⟨ac, l0, ew⟩) (by exact cA) (by exact MS_fr ms (fun s s0 s1 => F19 _ _ (by omega))) (by exact m7) (by exact MKW) (by exact eA) (by exact AK19) (by (rw [F19 _ _ (by omega)]; exact EWV)) (by exact T19) (by (rw [F19 _ _ (by omega), F19 _ _ (by omega)]; exact L10)) (by (rw [F19 _ _ (by omega), W71]; exact w71))) (fun r r9 => ?_)
            obtain ⟨y7, y8⟩ := r
            try dsimp only [Sum.elim_inl, Sum.elim_inr, jt2, jt3, jt4, jt5, jt6, jt7, jt8] at r9
            obtain ⟨oo8, fr8, as8⟩ := r9
            try simp (disch := omega) only [jst_eq, jst_ne, jst_ni, jI_i, jcmp_lt, jcmp_gt, w32_id, jcpy_out, Sum.elim_inl, Sum.elim_inr, jt2, jt3, jt4, jt5, jt6, jt7, jt8] at oo8
            try simp (disch := omega) only [jst_eq, jst_ne, jst_ni, jI_i, jcmp_lt, jcmp_gt, w32_id, jcpy_out, Sum.elim_inl, Sum.elim_inr, jt2, jt3, jt4, jt5, jt6, jt7, jt8] at fr8
            try simp (disch := omega) only [jst_eq, jst_ne, jst_ni, jI_i, jcmp_lt, jcmp_gt, w32_id, jcpy_out, Sum.elim_inl, Sum.elim_inr, jt2, jt3, jt4, jt5, jt6, jt7, jt8] at as8
            try dsimp only [Sum.elim_inl, Sum.elim_inr, jt2, jt3, jt4, jt5, jt6, jt7, jt8]
            try dsimp only [Sum.elim_inl, Sum.elim_inr, jt2, jt3, jt4, jt5, jt6, jt7, jt8]
            refine ⟨?_, ?_, ?_, ?_⟩
            · (first | assumption | omega | ((try dsimp only [jt2, jt3, jt4]); first | omega | (simp (disch := omega) only [jst_eq, jst_ne, jst_ni, jst_o, jI_i, jcpy_out, w32_id, jdiv_nn, jshr_k, jand_255] <;> first | done | omega | assumption)) | (intros; simp (disch := omega) only [jst_eq, jst_ne, jst_ni, jst_o, jI_i, jcpy_out, w32_id, jdiv_nn, *] <;> first | done | omega) | (intros; simp (disch := omega) only [jst_eq, jst_ne, jst_ni, jst_o, jI_i, jcpy_out, w32_id, jdiv_nn] at * <;> first | done | omega | assumption) | (intros; first | rfl | (exfalso; omega) | ((repeat' apply And.intro) <;> first | assumption | rfl | omega | trivial))) -- o77 e5.1
            · (intro _; rw [← ewv]; obtain ⟨y, u1, u2⟩ := oo8; refine ⟨y, ?_, fun z => fMr_t MR10 (fMr_t (fun a s y1 y2 y3 y4 y5 y6 y7 y8 y9 y10 => F19 a s (by omega)) (u2 z))⟩; rw [F19 454 55 (by omega), F19 454 71 (by omega), F19 454 38 (by omega), P10, W71, E38] at u1; exact u1) -- o78 e5.2
            · (intro _; exact fMr_qt (fMr_t MR10 (fun a s y1 y2 y3 y4 y5 y6 y7 y8 y9 y10 => F19 a s (by omega))) fr8) -- o79 e5.3
            · (intro y; exact as8 (by rw [F19 454 38 (by omega), E38]; exact y)) -- o80 e5.4
  · skip
    try simp (disch := omega) only [jst_eq, jst_ne, jst_ni, jI_i, jcmp_lt, jcmp_gt, w32_id, jcpy_out, Sum.elim_inl, Sum.elim_inr, jt2, jt3, jt4, jt5, jt6, jt7, jt8] at c1
    refine OK_some ?_
    try dsimp only [Sum.elim_inl, Sum.elim_inr, jt2, jt3, jt4, jt5, jt6, jt7, jt8]
    try dsimp only [Sum.elim_inl, Sum.elim_inr, jt2, jt3, jt4, jt5, jt6, jt7, jt8]
    refine ⟨?_, ?_, ?_, ?_⟩
    · (intro _; exact ⟨by omega, dh1⟩) -- o81 e6.1
    · (intro y; exfalso; omega) -- o82 e6.2
    · (intro y; exfalso; omega) -- o83 e6.3
    · (intro y; refine asM_g (ak y) (fun a s q => F3 a s (by unfold mA at q; omega)) (fun a s q => F3 a s (by unfold tA at q; omega)) ?_; have z := (ak y).1.2; unfold b20 at z ⊢; rw [F3 _ _ (by omega), F3 _ _ (by omega)]; exact z) -- o84 e6.4

