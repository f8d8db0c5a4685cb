/-! m: a term is mended, from the tape -/
theorem rwM_q {h : AH} {Q : Int → Prop} {ins : Int} : ∀ {R : TR} {d j : Int}, rwM h Q (-1) ins R d j → resQ h Q R d j
  | .leaf _, _, _, r => r.elim (fun y => absurd y.1 (by have := y.2.1; omega)) (fun y => y.2)
  | .branch _ _ _, _, _, r => r.elim (fun y => absurd y.1 (by have := y.2.1; omega)) (fun y => ⟨y.2.1, y.2.2.1, rwM_q y.2.2.2.1, rwM_q y.2.2.2.2⟩)
/-- what is found stays found -/
theorem fdL_f {h h' : AH} {E : EV} {W : Int → Int → Int → VW} {K : AK} {R : TR} (d : fdL h E W K R) (f : ∀ a s, (a = 454 ∧ (s = 56 ∨ s = 58 ∨ s = 60 ∨ s = 62)) ∨ (460 ≤ a ∧ a ≤ 466) ∨ (791 ≤ a ∧ a ≤ 793) → h' a s = h a s) : fdL h' E W K R := by
  obtain ⟨d1, d2, ⟨d3, d4⟩, ⟨d5, d6⟩, d7, d8, d9⟩ := d
  exact ⟨by rw [f _ _ (by omega)]; exact d1, resQ_7 d2 (fun a s a0 a1 => f a s (by omega)), ⟨by rw [f _ _ (by omega)]; exact d3, fun i il => by rw [f _ _ (by omega)]; exact d4 i il⟩, ⟨by rw [f _ _ (by omega)]; exact d5, fun p p0 p1 => by rw [f _ _ (by omega)]; exact d6 p p0 p1⟩, d7, by rw [f _ _ (by omega)]; exact d8, fun k k0 k1 => by rw [f _ _ (by omega)]; exact d9 k k0 k1⟩
theorem fMr_v {h h1 h2 : AH} (x : fMr h h1) (y : fMv h1 h2) : fMr h h2 := fun a s y1 y2 y3 y4 y5 y6 y7 y8 y9 y10 => (y a s (by omega) (by omega)).trans (x a s y1 y2 y3 y4 y5 y6 y7 y8 y9 y10)
theorem wk_me {a b c d : Int} : a * d * b * c = a * b * c * d := by
  rw [Int.mul_assoc a d b, Int.mul_comm d b, ← Int.mul_assoc a b d, Int.mul_assoc (a * b) d c, Int.mul_comm d c, ← Int.mul_assoc (a * b) c d]
theorem vX14_mend_j76 (a1 : Int) (a2 : Int) {h : AH} {B : Int → Int} {n q1 w : Int} {E EP : EV} {Rf : Int → TR} {W : Int → Int → Int → VW} {K : AK} {tp : Int} {T : TR} (hB : ∀ i, 0 ≤ i → i < n → 0 ≤ B i ∧ B i < 256) (n12 : 0 ≤ n ∧ n ≤ 2000) (ac : acE E ∧ E.2.2.1 = 0 ∧ ∀ a, 26 ≤ a → 0 ≤ E.1.2.2.2.1 a) (cA : ∀ a, 0 ≤ a → a < E.1.1 → 0 ≤ E.1.2.1 a ∧ E.1.2.1 a < 282429536481) (ms : MS B n q1 h) (mi : MI h) (mk : MK h = keyE EP w T) (eA : pA B n false (beg B n) = if tO B n q1 = 0 then .inr T else .inl (tS B n q1)) (ak : ¬ h 454 38 = 0 → asM h E Rf W K tp ∧ EP = EPn E (kA K).1 (kA K).2.1) (w0 : w = if h 454 38 = 0 then -1 else kR K) (t0 : a2 = 4400 ∧ rawS h T 4400 0 4401 (-1) ∧ sz T ≤ 1001 ∧ (fkE EP T 0 0 = 1000000 → resM h (rsE EP T 0) 4400 0)) (ln : h 754 (-2) = 101 ∧ h 754 (-1) = 256) (w71 : 0 ≤ h 454 71 ∧ h 454 71 ≤ 1000000000) (pr : 1 ≤ a1 ∧ a1 ≤ 12) : OK (gX14_mend_j76 a1 a2 h) (fun r => jt2 r fun v h' => (∃ fo, outMe E EP W K a1 (¬ h 454 38 = 0) w (pA B n false (beg B n)) (h 454 55) (h 454 71) (h 454 63) v (h' 454 55) (h' 454 71) (h' 454 63) fo ∧ foP fo (fdL h' E W K) ∧ (fo = none → fMr h h')) ∧ (fMq h h') ∧ (¬ h 454 38 = 0 → asM h' E Rf W K tp)) := by
  obtain ⟨t1, t2, t3, t4⟩ := t0
  unfold gX14_mend_j76
  refine OK_jb2 (vX14_finish (B := B) (n := n) (q := q1) (by (first | assumption | omega | ((try dsimp only [jt2, jt3, jt4]); first | omega | (simp (disch := omega) only [jst_eq, jst_ne, jst_ni, jst_o, jI_i, jcpy_out, w32_id, jdiv_nn, jshr_k, jand_255] <;> first | done | omega | assumption)) | (intros; simp (disch := omega) only [jst_eq, jst_ne, jst_ni, jst_o, jI_i, jcpy_out, w32_id, jdiv_nn, *] <;> first | done | omega) | (intros; simp (disch := omega) only [jst_eq, jst_ne, jst_ni, jst_o, jI_i, jcpy_out, w32_id, jdiv_nn] at * <;> first | done | omega | assumption) | (intros; first | rfl | (exfalso; omega) | ((repeat' apply And.intro) <;> first | assumption | rfl | omega | trivial)))) (by (first | assumption | omega | ((try dsimp only [jt2, jt3, jt4]); first | omega | (simp (disch := omega) only [jst_eq, jst_ne, jst_ni, jst_o, jI_i, jcpy_out, w32_id, jdiv_nn, jshr_k, jand_255] <;> first | done | omega | assumption)) | (intros; simp (disch := omega) only [jst_eq, jst_ne, jst_ni, jst_o, jI_i, jcpy_out, w32_id, jdiv_nn, *] <;> first | done | omega) | (intros; simp (disch := omega) only [jst_eq, jst_ne, jst_ni, jst_o, jI_i, jcpy_out, w32_id, jdiv_nn] at * <;> first | done | omega | assumption) | (intros; first | rfl | (exfalso; omega) | ((repeat' apply And.intro) <;> first | assumption | rfl | omega | trivial))))) (fun t24 h26 r1 => ?_)
  try dsimp only [Sum.elim_inl, Sum.elim_inr, jt2, jt3, jt4, jt5, jt6, jt7, jt8] at r1
  obtain ⟨bad1, good1, flt1, fr1⟩ := r1
  try simp (disch := omega) only [jst_eq, jst_ne, jst_ni, jI_i, jcmp_lt, jcmp_gt, w32_id, jcpy_out, Sum.elim_inl, Sum.elim_inr, jt2, jt3, jt4, jt5, jt6, jt7, jt8] at bad1
  try simp (disch := omega) only [jst_eq, jst_ne, jst_ni, jI_i, jcmp_lt, jcmp_gt, w32_id, jcpy_out, Sum.elim_inl, Sum.elim_inr, jt2, jt3, jt4, jt5, jt6, jt7, jt8] at good1
  try simp (disch := omega) only [jst_eq, jst_ne, jst_ni, jI_i, jcmp_lt, jcmp_gt, w32_id, jcpy_out, Sum.elim_inl, Sum.elim_inr, jt2, jt3, jt4, jt5, jt6, jt7, jt8] at flt1
  try simp (disch := omega) only [jst_eq, jst_ne, jst_ni, jI_i, jcmp_lt, jcmp_gt, w32_id, jcpy_out, Sum.elim_inl, Sum.elim_inr, jt2, jt3, jt4, jt5, jt6, jt7, jt8] at fr1
  have AG26 : ∀ (hh : AH), (∀ a s, ¬ (a = 454 ∧ s = 55) → ¬ (a = 472 ∧ (s = 6 ∨ s = 7)) → hh a s = h a s) → fMr h hh ∧ (¬ h 454 38 = 0 → asM hh E Rf W K tp) := fun hh f => ⟨fun a s y1 y2 _ _ _ _ _ _ _ _ => f a s (by omega) y2, fun y => asM_g (ak y).1 (fun a s q => f a s (by unfold mA at q; omega) (by unfold mA at q; omega)) (fun a s q => f a s (by unfold tA at q; omega) (by unfold tA at q; omega)) (by have z := (ak y).1.1.2; unfold b20 at z ⊢; rw [f _ _ (by omega) (by omega), f _ _ (by omega) (by omega)]; exact z)⟩
  refine OK_jq (fun c1 => ?_) (fun c1 => ?_)
  · skip
    have ft : t24 = 472 ∧ 1 ≤ h26 472 6 ∧ h26 472 6 ≤ 6 ∧ ((tO B n q1 ≠ 0 ∧ h26 472 6 = 1 ∧ h26 472 7 = tS B n q1) ∨ (tO B n q1 = 0 ∧ MK h ≠ 1000000 ∧ h26 472 6 = MK h % 8 ∧ h26 472 7 = MK h / 8)) := by { by_cases o : tO B n q1 = 0; { have nb : MK h ≠ 1000000 := fun y => c1 (good1 o y); have f := flt1 o nb; exact ⟨f.1, by omega, by omega, Or.inr ⟨o, nb, f.2.1, f.2.2.1⟩⟩ }; { have f := bad1 o; have f1 := f.2.1; have f2 := f.2.2; exact ⟨f.1, by omega, by omega, Or.inl ⟨o, f1, f2⟩⟩ } }
    refine OK_jg (by (first | assumption | omega | ((try dsimp only [jt2, jt3, jt4]); first | omega | (simp (disch := omega) only [jst_eq, jst_ne, jst_ni, jst_o, jI_i, jcpy_out, w32_id, jdiv_nn, jshr_k, jand_255] <;> first | done | omega | assumption)) | (intros; simp (disch := omega) only [jst_eq, jst_ne, jst_ni, jst_o, jI_i, jcpy_out, w32_id, jdiv_nn, *] <;> first | done | omega) | (intros; simp (disch := omega) only [jst_eq, jst_ne, jst_ni, jst_o, jI_i, jcpy_out, w32_id, jdiv_nn] at * <;> first | done | omega | assumption) | (intros; first | rfl | (exfalso; omega) | ((repeat' apply And.intro) <;> first | assumption | rfl | omega | trivial)))) ?_ -- o3
    refine OK_jb2 (vX14_faulty _ (by (first | assumption | omega | ((try dsimp only [jt2, jt3, jt4]); first | omega | (simp (disch := omega) only [jst_eq, jst_ne, jst_ni, jst_o, jI_i, jcpy_out, w32_id, jdiv_nn, jshr_k, jand_255] <;> first | done | omega | assumption)) | (intros; simp (disch := omega) only [jst_eq, jst_ne, jst_ni, jst_o, jI_i, jcpy_out, w32_id, jdiv_nn, *] <;> first | done | omega) | (intros; simp (disch := omega) only [jst_eq, jst_ne, jst_ni, jst_o, jI_i, jcpy_out, w32_id, jdiv_nn] at * <;> first | done | omega | assumption) | (intros; first | rfl | (exfalso; omega) | ((repeat' apply And.intro) <;> first | assumption | rfl | omega | trivial))))) (fun v29 h30 r2 => ?_)
    try dsimp only [Sum.elim_inl, Sum.elim_inr, jt2, jt3, jt4, jt5, jt6, jt7, jt8] at r2
    obtain ⟨vv2, fr2⟩ := r2
    try simp (disch := omega) only [jst_eq, jst_ne, jst_ni, jI_i, jcmp_lt, jcmp_gt, w32_id, jcpy_out, Sum.elim_inl, Sum.elim_inr, jt2, jt3, jt4, jt5, jt6, jt7, jt8] at vv2
    try simp (disch := omega) only [jst_eq, jst_ne, jst_ni, jI_i, jcmp_lt, jcmp_gt, w32_id, jcpy_out, Sum.elim_inl, Sum.elim_inr, jt2, jt3, jt4, jt5, jt6, jt7, jt8] at fr2
    have F30 : ∀ a s, ¬ (a = 454 ∧ s = 55) → ¬ (a = 472 ∧ (s = 6 ∨ s = 7)) → h30 a s = h a s := fun a s y1 y2 => by { rw [fr2, jst_o y1]; exact fr1 a s y2 }
    refine OK_some ?_
    try dsimp only [Sum.elim_inl, Sum.elim_inr, jt2, jt3, jt4, jt5, jt6, jt7, jt8]
    try dsimp only [Sum.elim_inl, Sum.elim_inr, jt2, jt3, jt4, jt5, jt6, jt7, jt8]
    refine ⟨?_, ?_, ?_⟩
    · (refine ⟨none, .inr ⟨pr, ?_⟩, (fun _ y => by cases y), fun _ => (AG26 _ F30).1⟩; rw [eA, F30 454 71 (by omega) (by omega), F30 454 63 (by omega) (by omega), fr2, jst_eq]; rcases ft.2.2.2 with ⟨o, x1, x2⟩ | ⟨o, nb, x1, x2⟩; { rw [if_neg o]; exact ⟨by omega, x2, rfl, rfl, rfl⟩ }; { rw [if_pos o]; exact ⟨fun y => absurd (mk.trans y) nb, fun _ => ⟨by rw [← mk]; omega, by rw [← mk]; exact x2, rfl, rfl, rfl⟩⟩ }) -- o5 e1.1
    · exact fMr_Q (AG26 _ F30).1 -- o6 e1.2
    · exact (AG26 _ F30).2 -- o7 e1.3
  · skip
    have o0 : tO B n q1 = 0 := Classical.byContradiction fun y => by { have := (bad1 y).1; omega }
    have kB : MK h = 1000000 := Classical.byContradiction fun y => by { have := (flt1 o0 y).1; omega }
    clear bad1 good1 flt1
    rw [if_pos o0] at eA
    have F26 : ∀ a s, ¬ (a = 472 ∧ (s = 6 ∨ s = 7)) → h26 a s = h a s := fr1
    have G26 := AG26 h26 (fun a s _ y => F26 a s y)
    have E38 : h26 454 38 = h 454 38 := F26 _ _ (by omega)
    have P55 : h26 454 55 = h 454 55 := F26 _ _ (by omega)
    have P71 : h26 454 71 = h 454 71 := F26 _ _ (by omega)
    have P63 : h26 454 63 = h 454 63 := F26 _ _ (by omega)
    refine OK_if (fun c2 => ?_) (fun c2 => ?_)
    · skip
      try simp (disch := omega) only [jst_eq, jst_ne, jst_ni, jI_i, jcmp_lt, jcmp_gt, w32_id, jcpy_out, Sum.elim_inl, Sum.elim_inr, jt2, jt3, jt4, jt5, jt6, jt7, jt8] at c2
      have A0 : h 454 38 = 0 := by { rw [← E38]; exact c2 }
      refine OK_some ?_
      try dsimp only [Sum.elim_inl, Sum.elim_inr, jt2, jt3, jt4, jt5, jt6, jt7, jt8]
      try dsimp only [Sum.elim_inl, Sum.elim_inr, jt2, jt3, jt4, jt5, jt6, jt7, jt8]
      refine ⟨?_, ?_, ?_⟩
      · (refine ⟨none, .inr ⟨pr, ?_⟩, (fun _ y => by cases y), fun _ => G26.1⟩; rw [eA, P55, P71, P63]; exact ⟨fun _ => ⟨rfl, fun _ => ⟨rfl, rfl, rfl, rfl⟩, fun y => absurd A0 y⟩, fun y => absurd (mk.symm.trans kB) y⟩) -- o8 e2.1
      · exact fMr_Q G26.1 -- o9 e2.2
      · exact G26.2 -- o10 e2.3
    · skip
      try simp (disch := omega) only [jst_eq, jst_ne, jst_ni, jI_i, jcmp_lt, jcmp_gt, w32_id, jcpy_out, Sum.elim_inl, Sum.elim_inr, jt2, jt3, jt4, jt5, jt6, jt7, jt8] at c2
      have A1 : ¬ h 454 38 = 0 := by { rw [← E38]; exact c2 }
      obtain ⟨AS, EPe⟩ := ak A1
      have C0 := akM_0 AS.1
      rw [if_neg A1] at w0
      have PK := C0.2.1.1
      have MR := mrd_ok (w := w) (sk := false) (h := h) hB n12 ac.1 ac.2.2 (m := (kA K).1) (kf := (kA K).2.1) (by have := PK.2.2.1; omega) (fun k k0 k1 => C0.2.2.2.2.2.2.1.1 k k0 k1) EPe eA (mk.symm.trans kB) t2 t3 t4
      obtain ⟨RQ, ⟨TY, DE, WT, S1, D12, NV⟩, SE, KDw, KD, NHH⟩ := MR
      have NH1 := (NHH rfl).1
      have KRR : (inf (rsE EP T 0)).2.2.1 = kR K := by { rw [KD, ← w0]; exact KDw (by have := C0.2.2.2.2.2.2.2; omega) }
      have TM := rd_tm (sk := false) (E := E) (kf := (kA K).2.1) (m := (kA K).1) (w := w) ac.1 ac.2.2 hB n12.2 n12.1 (by have := PK.2.2.1; omega) (fun k k0 k1 => C0.2.2.2.2.2.2.1.1 k k0 k1) eA (by rw [← EPe]; exact mk.symm.trans kB)
      rw [← EPe] at TM
      have FK1 := TM.2.2.2.2.1
      have s0 := sz_pos (rsE EP T 0)
      have CG0 : cG lfM h (rsE EP T 0) 4400 0 4401 := rawS_cG (Int.le_refl _) t2 (t4 FK1)
      obtain ⟨AK26, d, f0, gs⟩ := G26.2 A1
      have C26 := akM_0 AK26
      have X26 : h26 454 38 = 476 ∨ h26 454 38 = 615 := C26.1.1
      have VK := C26.2.2.2.2.2.2.1
      have l0 : E.2.2.1 ≠ 1 := by { rw [ac.2.1]; decide }
      refine OK_jb2 (vX14_reaches (E := E) (Rf := Rf) (W := W) (A := kA K) (pts := kP K) (tp := tp) (d := d) (fl := f0) _ (by exact akM_s AK26) (by exact VK) (by omega) (by exact gs)) (fun v33 h34 r3 => ?_)
      try dsimp only [Sum.elim_inl, Sum.elim_inr, jt2, jt3, jt4, jt5, jt6, jt7, jt8] at r3
      obtain ⟨gr3, fr3, sm3⟩ := r3
      try simp (disch := omega) only [jst_eq, jst_ne, jst_ni, jI_i, jcmp_lt, jcmp_gt, w32_id, jcpy_out, Sum.elim_inl, Sum.elim_inr, jt2, jt3, jt4, jt5, jt6, jt7, jt8] at gr3
      try simp (disch := omega) only [jst_eq, jst_ne, jst_ni, jI_i, jcmp_lt, jcmp_gt, w32_id, jcpy_out, Sum.elim_inl, Sum.elim_inr, jt2, jt3, jt4, jt5, jt6, jt7, jt8] at fr3
      try simp (disch := omega) only [jst_eq, jst_ne, jst_ni, jI_i, jcmp_lt, jcmp_gt, w32_id, jcpy_out, Sum.elim_inl, Sum.elim_inr, jt2, jt3, jt4, jt5, jt6, jt7, jt8] at sm3
      obtain ⟨e, f1, g1, g2, g3⟩ := gr3
      have AK34 := akM_n AK26 (fN_A X26 fr3) sm3.2.1
      have ep : ((a1.toNat : Nat) : Int) = a1 := by omega
      rw [← ep] at g1
      have LV8 := rch_lv g2.1 g1
      have F34 : ∀ a s, ¬ (a = 454 ∧ (s = 17 ∨ s = 20 ∨ s = 21 ∨ s = 22 ∨ s = 40)) → ¬ (a = 472 ∧ (s = 6 ∨ s = 7)) → ¬ (460 ≤ a ∧ a ≤ 469 ∧ a ≠ 464 ∧ 8500 ≤ s ∧ s < 8800) → ¬ (a = 464 ∧ 25500 ≤ s ∧ s < 26400) → ¬ (476 ≤ a ∧ a ≤ 754 ∧ 0 ≤ s) → h34 a s = h a s := fun a s y1 y2 y3 y4 y5 => by { rw [fr3 a s (by omega) y3 y4 (by omega) (by omega) (by omega)]; exact F26 a s y2 }
      have MR34 : fMr h h34 := fun a s y1 y2 y3 y4 y5 y6 y7 y8 y9 y10 => F34 a s (by omega) y2 (by omega) (by omega) y9
      have Q55 : h34 454 55 = h 454 55 := F34 _ _ (by omega) (by omega) (by omega) (by omega) (by omega)
      have Q71 : h34 454 71 = h 454 71 := F34 _ _ (by omega) (by omega) (by omega) (by omega) (by omega)
      have Q63 : h34 454 63 = h 454 63 := F34 _ _ (by omega) (by omega) (by omega) (by omega) (by omega)
      have key : ∀ v p1 w1 m1 fo, p1 = h 454 55 → meR E W K a1.toNat (rsE EP T 0) (h 454 71) (h 454 63) v w1 m1 fo → outMe E EP W K a1 (¬ h 454 38 = 0) w (pA B n false (beg B n)) (h 454 55) (h 454 71) (h 454 63) v p1 w1 m1 fo := fun v p1 w1 m1 fo e m => .inr ⟨pr, by { rw [eA]; exact ⟨fun _ => ⟨e, fun z => absurd A1 z, fun _ => m⟩, fun z => absurd (mk.symm.trans kB) z⟩ }⟩
      refine OK_if (fun c3 => ?_) (fun c3 => ?_)
      · skip
        try simp (disch := omega) only [jst_eq, jst_ne, jst_ni, jI_i, jcmp_lt, jcmp_gt, w32_id, jcpy_out, Sum.elim_inl, Sum.elim_inr, jt2, jt3, jt4, jt5, jt6, jt7, jt8] at c3
        refine OK_some ?_
        try dsimp only [Sum.elim_inl, Sum.elim_inr, jt2, jt3, jt4, jt5, jt6, jt7, jt8]
        try dsimp only [Sum.elim_inl, Sum.elim_inr, jt2, jt3, jt4, jt5, jt6, jt7, jt8]
        refine ⟨?_, ?_, ?_⟩
        · exact ⟨none, key _ _ _ _ _ Q55 (.inl ⟨(fun y => by have := LV8.2 y; omega), rfl, Q71, Q63, rfl⟩), (fun _ y => by cases y), fun _ => MR34⟩ -- o15 e3.1
        · exact fMr_Q MR34 -- o16 e3.2
        · exact fun _ => ⟨AK34, e, f1, g2⟩ -- o17 e3.3
      · skip
        try simp (disch := omega) only [jst_eq, jst_ne, jst_ni, jI_i, jcmp_lt, jcmp_gt, w32_id, jcpy_out, Sum.elim_inl, Sum.elim_inr, jt2, jt3, jt4, jt5, jt6, jt7, jt8] at c3
        have LVp : lvK E W (kP K) (kA K) a1.toNat := LV8.1 (by omega)
        obtain ⟨T8, mt⟩ := GSm_T (p := a1.toNat) (akM_0 AK34) g2 (by omega)
        have C34 := akM_0 AK34
        have X34 : isX16 (h34 454 38) := C34.1.1
        have X34b : h34 454 38 = 476 ∨ h34 454 38 = 615 := C34.1.1
        have n120 := mt.2.2.2.2.1
        have n00 := LV_0 (E := E) (W := W) (pts := kP K) (A := kA K) a1.toNat
        have PT := C34.2.1.1.2.2.2.2
        have CG34 : cG lfM h34 (rsE EP T 0) 4400 0 4401 := cG_fr (lo := 4400) (hi := 5500) (fun dd j i d0 d1 l => by unfold lfM at *; rw [F34 465 dd (by omega) (by omega) (by omega) (by omega) (by omega), F34 466 dd (by omega) (by omega) (by omega) (by omega) (by omega), F34 461 dd (by omega) (by omega) (by omega) (by omega) (by omega), F34 460 dd (by omega) (by omega) (by omega) (by omega) (by omega), F34 462 dd (by omega) (by omega) (by omega) (by omega) (by omega), F34 463 dd (by omega) (by omega) (by omega) (by omega) (by omega)]; exact l) (fun s _ _ => F34 _ _ (by omega) (by omega) (by omega) (by omega) (by omega)) (by decide) (by decide) (by decide) (by omega) CG0
        have RM34 : resM h34 (rsE EP T 0) 4400 0 := resQ_M (cG_Q (lo := 4400) (n := 1100) (by decide) (by decide) (by decide) (by omega) CG34)
        refine OK_jb (vUp (E := E) (W := W) (K := K) (tp := tp) (p := a1.toNat) (T := T8) _ (by exact mt) (by exact ep.symm)) (fun v37 r4 => ?_)
        try dsimp only [Sum.elim_inl, Sum.elim_inr, jt2, jt3, jt4, jt5, jt6, jt7, jt8] at r4
        have ut4 := r4
        clear r4
        try simp (disch := omega) only [jst_eq, jst_ne, jst_ni, jI_i, jcmp_lt, jcmp_gt, w32_id, jcpy_out, Sum.elim_inl, Sum.elim_inr, jt2, jt3, jt4, jt5, jt6, jt7, jt8] at ut4
        refine OK_jg (by (first | assumption | omega | ((try dsimp only [jt2, jt3, jt4]); first | omega | (simp (disch := omega) only [jst_eq, jst_ne, jst_ni, jst_o, jI_i, jcpy_out, w32_id, jdiv_nn, jshr_k, jand_255] <;> first | done | omega | assumption)) | (intros; simp (disch := omega) only [jst_eq, jst_ne, jst_ni, jst_o, jI_i, jcpy_out, w32_id, jdiv_nn, *] <;> first | done | omega) | (intros; simp (disch := omega) only [jst_eq, jst_ne, jst_ni, jst_o, jI_i, jcpy_out, w32_id, jdiv_nn] at * <;> first | done | omega | assumption) | (intros; first | rfl | (exfalso; omega) | ((repeat' apply And.intro) <;> first | assumption | rfl | omega | trivial)))) ?_ -- o20
        refine OK_jb (vX14_size (R := rsE EP T 0) _ (by (rw [t1]; exact RM34)) (by omega) (by omega)) (fun v39 r5 => ?_)
        try dsimp only [Sum.elim_inl, Sum.elim_inr, jt2, jt3, jt4, jt5, jt6, jt7, jt8] at r5
        have sv5 := r5
        clear r5
        try simp (disch := omega) only [jst_eq, jst_ne, jst_ni, jI_i, jcmp_lt, jcmp_gt, w32_id, jcpy_out, Sum.elim_inl, Sum.elim_inr, jt2, jt3, jt4, jt5, jt6, jt7, jt8] at sv5
        refine OK_jb (vX14_size (R := rsE EP T 0) _ (by (rw [t1]; exact RM34)) (by omega) (by omega)) (fun v41 r6 => ?_)
        try dsimp only [Sum.elim_inl, Sum.elim_inr, jt2, jt3, jt4, jt5, jt6, jt7, jt8] at r6
        have sv6 := r6
        clear r6
        try simp (disch := omega) only [jst_eq, jst_ne, jst_ni, jI_i, jcmp_lt, jcmp_gt, w32_id, jcpy_out, Sum.elim_inl, Sum.elim_inr, jt2, jt3, jt4, jt5, jt6, jt7, jt8] at sv6
        have M1 := mul_b4 (a := (LV E W (kP K) (kA K) a1.toNat).1) (b := sz (rsE EP T 0)) (c := sz (rsE EP T 0)) (d := kP K) ⟨n00, n120⟩ ⟨by omega, S1⟩ ⟨by omega, S1⟩ ⟨PT.2.1, PT.2.2.1⟩
        have M2 := mul_b2 (a := (LV E W (kP K) (kA K) a1.toNat).1) (b := kP K) (A := 120) (B := 256) ⟨n00, n120⟩ ⟨PT.2.1, PT.2.2.1⟩
        have M3 := mul_b2 (a := (LV E W (kP K) (kA K) a1.toNat).1 * kP K) (b := sz (rsE EP T 0)) (A := 120 * 256) (B := 121) M2 ⟨by omega, S1⟩
        have WK : w64 (w64 (w64 (v37 * h34 (h34 454 38) 18) * v39) * v41) = wkMe E W K a1.toNat (rsE EP T 0) := by { rw [PT.1, ut4, sv5, sv6, w64_id (x := (LV E W (kP K) (kA K) a1.toNat).1 * kP K) (by omega) (by omega), w64_id (x := (LV E W (kP K) (kA K) a1.toNat).1 * kP K * sz (rsE EP T 0)) (by omega) (by omega), wk_me, w64_id (by omega) (by omega)]; rfl }
        have WKr : 0 ≤ wkMe E W K a1.toNat (rsE EP T 0) ∧ wkMe E W K a1.toNat (rsE EP T 0) ≤ 120 * 121 * 121 * 256 := M1.2.2
        rw [WK]
        refine OK_jb2 (vX14_isMuch _ (by (rw [Q71]; omega))) (fun v43 h44 r7 => ?_)
        try dsimp only [Sum.elim_inl, Sum.elim_inr, jt2, jt3, jt4, jt5, jt6, jt7, jt8] at r7
        have tm7 := r7
        clear r7
        try simp (disch := omega) only [jst_eq, jst_ne, jst_ni, jI_i, jcmp_lt, jcmp_gt, w32_id, jcpy_out, Sum.elim_inl, Sum.elim_inr, jt2, jt3, jt4, jt5, jt6, jt7, jt8] at tm7
        have F44 : ∀ a s, ¬ (a = 454 ∧ s = 71) → h44 a s = h34 a s := fun a s y => by { rcases tm7 with w | w; { rw [w.2.2] }; { rw [w.2.2, jst_o y] } }
        have AK44 : akM h44 E Rf W K tp := akM_n AK34 (fun a s y => by unfold mA at y; exact F44 a s (by omega)) (by have z := AK34.2; unfold b20 at z ⊢; rw [F44 _ _ (by omega), F44 _ _ (by omega)]; exact z)
        have MT44 := MT_g mt C34.2.2.1.2 (fun a s y => by unfold tA at y; exact F44 a s (by omega))
        have GS44 := GSm_g g2 C34.2.2.1.2 (fun a s y => by unfold tA at y; exact F44 a s (by omega))
        have MR44 : fMr h h44 := fMr_t MR34 (fun a s y1 y2 y3 y4 y5 y6 y7 y8 y9 y10 => F44 a s (by omega))
        have CG44 : cG lfM h44 (rsE EP T 0) 4400 0 4401 := cG_fr (lo := 4400) (hi := 5500) (fun dd j i d0 d1 l => by unfold lfM at *; rw [F44 465 dd (by omega), F44 466 dd (by omega), F44 461 dd (by omega), F44 460 dd (by omega), F44 462 dd (by omega), F44 463 dd (by omega)]; exact l) (fun s _ _ => F44 _ _ (by omega)) (by decide) (by decide) (by decide) (by omega) CG34
        have RM44 : resM h44 (rsE EP T 0) a2 0 := by { rw [t1]; exact resQ_M (cG_Q (lo := 4400) (n := 1100) (by decide) (by decide) (by decide) (by omega) CG44) }
        refine OK_if (fun c4 => ?_) (fun c4 => ?_)
        · skip
          try simp (disch := omega) only [jst_eq, jst_ne, jst_ni, jI_i, jcmp_lt, jcmp_gt, w32_id, jcpy_out, Sum.elim_inl, Sum.elim_inr, jt2, jt3, jt4, jt5, jt6, jt7, jt8] at c4
          have TM5 : h 454 71 + wkMe E W K a1.toNat (rsE EP T 0) ≤ 1000000000 ∧ h44 454 71 = h 454 71 + wkMe E W K a1.toNat (rsE EP T 0) := by { rcases tm7 with w | w; { omega }; { rw [Q71] at w; exact ⟨w.2.1, by rw [w.2.2, jst_eq]⟩ } }
          refine OK_jb (vFN a2 AK44 RM44 TY NH1 (by omega)) (fun h47 r8 => ?_)
          obtain ⟨ev47, fr47, ak47⟩ := r8
          have C47 := akM_0 ak47
          have X47 : isX16 (h47 454 38) := C47.1.1
          have L47 : h47 754 (-2) = 101 ∧ h47 754 (-1) = 256 := by { have N : ∀ s, s < 0 → h47 754 s = h 754 s := fun s sn => by { rw [fr47 _ _ (by omega) (by omega), F44 _ _ (by omega)]; exact F34 _ _ (by omega) (by omega) (by omega) (by omega) (by omega) }; rw [N _ (by decide), N _ (by decide)]; exact ln }
          have OV47 : ∀ q, 0 ≤ q → q < kP K → okV (kR K) (evQ W K (fun _ => 0) (rsE EP T 0) q) := fun q q0 q1 => by { have z := evT_ty (f := fun _ _ _ => 0) (hl := fun _ => 0) (p := (kA K).2.2.1 q) ac.1 (wOK_ty C47.1.2.2.1) (fun z => absurd z l0) (fun c c0 c1 => VK.2.1 q c q0 q1 c0 c1) (fun c _ _ => by decide) TY; rw [KRR] at z; exact z }
          refine OK_jg (by (first | assumption | omega | ((try dsimp only [jt2, jt3, jt4]); first | omega | (simp (disch := omega) only [jst_eq, jst_ne, jst_ni, jst_o, jI_i, jcpy_out, w32_id, jdiv_nn, jshr_k, jand_255] <;> first | done | omega | assumption)) | (intros; simp (disch := omega) only [jst_eq, jst_ne, jst_ni, jst_o, jI_i, jcpy_out, w32_id, jdiv_nn, *] <;> first | done | omega) | (intros; simp (disch := omega) only [jst_eq, jst_ne, jst_ni, jst_o, jI_i, jcpy_out, w32_id, jdiv_nn] at * <;> first | done | omega | assumption) | (intros; first | rfl | (exfalso; omega) | ((repeat' apply And.intro) <;> first | assumption | rfl | omega | trivial)))) ?_ -- o28
          refine OK_jb2 (vMT2 ak47 L47 ev47 OV47) (fun v49 h50 r9 => ?_)
          obtain ⟨im50, fr50, ak50⟩ := r9
          try dsimp only at im50 fr50 ak50
          have F50 : fMv h44 h50 := fun a s y1 y2 => by { rw [fr50 a s (by omega), fr47 a s (by omega) (by omega)] }
          have MR50 := fMr_v MR44 F50
          have W50 : h50 454 71 = h44 454 71 := F50 _ _ (by omega) (by omega)
          have S50 : h50 454 55 = h 454 55 ∧ h50 454 63 = h 454 63 := by { rw [F50 _ _ (by omega) (by omega), F50 _ _ (by omega) (by omega), F44 _ _ (by omega), F44 _ _ (by omega)]; exact ⟨Q55, Q63⟩ }
          have GS50 := GSm_g GS44 C34.2.2.1.2 (fun a s y => by unfold tA at y; exact F50 a s (by omega) (by omega))
          have MT50 := MT_g MT44 C34.2.2.1.2 (fun a s y => by unfold tA at y; exact F50 a s (by omega) (by omega))
          have CG50 : cG lfM h50 (rsE EP T 0) 4400 0 4401 := cG_fr (lo := 4400) (hi := 5500) (fun dd j i d0 d1 l => by unfold lfM at *; rw [F50 465 dd (by omega) (by omega), F50 466 dd (by omega) (by omega), F50 461 dd (by omega) (by omega), F50 460 dd (by omega) (by omega), F50 462 dd (by omega) (by omega), F50 463 dd (by omega) (by omega)]; exact l) (fun s _ _ => F50 _ _ (by omega) (by omega)) (by decide) (by decide) (by decide) (by omega) CG44
          have GK := LV_gk VK mt.2.2.2.2.2.2.1 (by omega) n120
          have A3 : (kA K).1 ≤ 3 := C34.2.1.1.2.2.2.1
          have KL : kdL E W K a1.toNat := fun f f0 f1 => by { have o := tm_okR ac.1 VK GK A3 f f0 f1; rw [← o.1.2]; exact ⟨(tyT_nd o.1.1).1, (tyT_nd o.1.1).2.1⟩ }
          refine OK_if (fun c5 => ?_) (fun c5 => ?_)
          · skip
            try simp (disch := omega) only [jst_eq, jst_ne, jst_ni, jI_i, jcmp_lt, jcmp_gt, w32_id, jcpy_out, Sum.elim_inl, Sum.elim_inr, jt2, jt3, jt4, jt5, jt6, jt7, jt8] at c5
            have MN : ¬ MKa E W K (kR K) (evQ W K (fun _ => 0) (rsE EP T 0)) := fun y => by { rcases im50 with w | w; { omega }; { exact w.2 y } }
            refine OK_jl ?_
            have F52 : ∀ a s, ¬ (a = 454 ∧ s = 73) → jst h50 454 73 0 a s = h50 a s := fun a s y => jst_o y
            have K52 : jst h50 454 73 0 454 73 = 0 := jst_eq
            generalize e52 : jst h50 454 73 0 = g52 at *
            refine OK_jb (vX14_places (R := rsE EP T 0) _ (by (rw [t1]; exact lfM_5 (cG_fr (lo := 4400) (hi := 5500) (P' := lfM) (fun dd j i d0 d1 l => by unfold lfM at *; rw [F52 465 dd (by omega), F52 466 dd (by omega), F52 461 dd (by omega), F52 460 dd (by omega), F52 462 dd (by omega), F52 463 dd (by omega)]; exact l) (fun s _ _ => F52 _ _ (by omega)) (by decide) (by decide) (by decide) (by omega) CG50))) (by omega) (by omega) (by omega)) (fun h54 r10 => ?_)
            try dsimp only [Sum.elim_inl, Sum.elim_inr, jt2, jt3, jt4, jt5, jt6, jt7, jt8] at r10
            have pl8 := r10
            clear r10
            try simp (disch := omega) only [jst_eq, jst_ne, jst_ni, jI_i, jcmp_lt, jcmp_gt, w32_id, jcpy_out, Sum.elim_inl, Sum.elim_inr, jt2, jt3, jt4, jt5, jt6, jt7, jt8] at pl8
            rw [K52, t1] at pl8
            have F54 : ∀ a s, ¬ (a = 454 ∧ s = 73) → ¬ (a = 796 ∧ 0 ≤ s) → h54 a s = h50 a s := fun a s y1 y2 => by { rw [pl8.2.2 a s y1 (by omega)]; exact F52 a s y1 }
            have AK54 : akM h54 E Rf W K tp := akM_n ak50 (fun a s y => by unfold mA at y; exact F54 a s (by omega) (by omega)) (by have z := ak50.2; unfold b20 at z ⊢; rw [F54 _ _ (by omega) (by omega), F54 _ _ (by omega) (by omega)]; exact z)
            have MT54 := MT_g MT50 C34.2.2.1.2 (fun a s y => by unfold tA at y; exact F54 a s (by omega) (by omega))
            have GS54 := GSm_g GS50 C34.2.2.1.2 (fun a s y => by unfold tA at y; exact F54 a s (by omega) (by omega))
            have MR54 : fMr h h54 := fMr_t MR50 (fun a s y1 y2 y3 y4 y5 y6 y7 y8 y9 y10 => F54 a s (by omega) (by omega))
            have CG54 : cG lfM h54 (rsE EP T 0) 4400 0 4401 := cG_fr (lo := 4400) (hi := 5500) (fun dd j i d0 d1 l => by unfold lfM at *; rw [F54 465 dd (by omega) (by omega), F54 466 dd (by omega) (by omega), F54 461 dd (by omega) (by omega), F54 460 dd (by omega) (by omega), F54 462 dd (by omega) (by omega), F54 463 dd (by omega) (by omega)]; exact l) (fun s _ _ => F54 _ _ (by omega) (by omega)) (by decide) (by decide) (by decide) (by omega) CG50
            have L54 : h54 754 (-2) = 101 ∧ h54 754 (-1) = 256 := by { have N : ∀ s, s < 0 → h54 754 s = h47 754 s := fun s sn => by { rw [F54 _ _ (by omega) (by omega)]; exact fr50 _ _ (by omega) }; rw [N _ (by decide), N _ (by decide)]; exact L47 }
            refine OK_jb (vX14_mend_l191 (E := E) (Rf := Rf) (W := W) (K := K) (tp := tp) (p := a1.toNat) (T := T8) (R := rsE EP T 0) _ _ _ (by exact ⟨AK54, MT54, ⟨CG54, S1⟩, TY, NH1, DE, KRR, KL, fun k k0 k1 => by (have q := pl8.2.1 k k0 k1; rw [Int.zero_add] at q; exact q), by (rw [pl8.1]; omega), L54⟩) (by exact ⟨ep.symm, t1, by omega⟩) (by (first | assumption | omega | ((try dsimp only [jt2, jt3, jt4]); first | omega | (simp (disch := omega) only [jst_eq, jst_ne, jst_ni, jst_o, jI_i, jcpy_out, w32_id, jdiv_nn, jshr_k, jand_255] <;> first | done | omega | assumption)) | (intros; simp (disch := omega) only [jst_eq, jst_ne, jst_ni, jst_o, jI_i, jcpy_out, w32_id, jdiv_nn, *] <;> first | done | omega) | (intros; simp (disch := omega) only [jst_eq, jst_ne, jst_ni, jst_o, jI_i, jcpy_out, w32_id, jdiv_nn] at * <;> first | done | omega | assumption) | (intros; first | rfl | (exfalso; omega) | ((repeat' apply And.intro) <;> first | assumption | rfl | omega | trivial))))) (fun o55 r11 => ?_)
            rcases o55 with o57 | o58
            · skip
              have r12 := r11; clear r11
              dsimp only [Sum.elim_inl, Sum.elim_inr] at r12
              refine OK_jml ?_
              obtain ⟨y59, y60, y61, h62⟩ := o57
              refine OK_jt4 ?_
              try dsimp only [Sum.elim_inl, Sum.elim_inr, jt2, jt3, jt4, jt5, jt6, jt7, jt8] at r12
              obtain ⟨fo9, md9⟩ := r12
              try simp (disch := omega) only [jst_eq, jst_ne, jst_ni, jI_i, jcmp_lt, jcmp_gt, w32_id, jcpy_out, Sum.elim_inl, Sum.elim_inr, jt2, jt3, jt4, jt5, jt6, jt7, jt8] at fo9
              try simp (disch := omega) only [jst_eq, jst_ne, jst_ni, jI_i, jcmp_lt, jcmp_gt, w32_id, jcpy_out, Sum.elim_inl, Sum.elim_inr, jt2, jt3, jt4, jt5, jt6, jt7, jt8] at md9
              refine OK_jl ?_
              obtain ⟨q11, ⟨x0, x1⟩, ⟨y0, y1⟩, hit, lst⟩ := fo9
              obtain ⟨MD62, MF62⟩ := md9
              have F63 : ∀ a s, ¬ (a = 454 ∧ s = 17) → jst h62 454 17 7900 a s = h62 a s := fun a s y => jst_o y
              have K63 : jst h62 454 17 7900 454 17 = 7900 := jst_eq
              generalize e63 : jst h62 454 17 7900 = g63 at *
              have s121 := MD62.2.2.1.2
              have C62 := akM_0 MD62.1
              have X62 : h62 454 38 = 476 ∨ h62 454 38 = 615 := C62.1.1
              have e38 : g63 454 38 = h62 454 38 := F63 _ _ (by omega)
              have X63 : isX16 (g63 454 38) := by { rw [e38]; exact X62 }
              have P796 : g63 796 y60 = 4400 + y60 := by { rw [F63 _ _ (by omega)]; exact MD62.2.2.2.2.2.2.2.2.1 y60 x0 x1 }
              have AT := MT_at MD62.2.1 (a := y61) y0 y1
              have P13 : g63 (g63 454 38 + 13) y61 = tp + y61 := by { rw [e38, F63 _ _ (by omega)]; exact (MD62.2.1.1.2.1.2.2.2.2.2.2 y61 y0 AT.1).2.2.1 }
              have RS63 : resQ g63 (rgN 8500 300) (tm (kA K) (LV E W (kP K) (kA K) a1.toNat) y61) (tp + y61) 0 := resQ_fr (fun a s a0 a1 a2 _ => F63 _ _ (by omega)) (fun s j _ _ _ => F63 _ _ (by omega)) (rwM_q (MT_rw MD62.2.1 C34.2.2.1.2 GK y61 y0 y1))
              have CG63 : cG lfM g63 (rsE EP T 0) 4400 0 4401 := cG_fr (lo := 4400) (hi := 5500) (fun dd j i d0 d1 l => by unfold lfM at *; rw [F63 465 dd (by omega), F63 466 dd (by omega), F63 461 dd (by omega), F63 460 dd (by omega), F63 462 dd (by omega), F63 463 dd (by omega)]; exact l) (fun s _ _ => F63 _ _ (by omega)) (by decide) (by decide) (by decide) (by omega) MD62.2.2.1.1
              have OK1 := tm_okR ac.1 VK GK A3 y61 y0 y1
              have SZ := tm_sz GK y61 y0 y1
              have W12 := (GK y61 y0 y1).1.2
              have DS := dpT_sz (tm (kA K) (LV E W (kP K) (kA K) a1.toNat) y61)
              have DEt := dpE_sz (wA40m C34.1.2.1) OK1.2.1
              have szR := rpT_sz (R := rsE EP T 0) (S := tm (kA K) (LV E W (kP K) (kA K) a1.toNat) y61) (m := y60)
              have dpR := rpT_dp (R := rsE EP T 0) (S := tm (kA K) (LV E W (kP K) (kA K) a1.toNat) y61) (m := y60)
              have dER := rpT_dE ac.2.2 (R := rsE EP T 0) (S := tm (kA K) (LV E W (kP K) (kA K) a1.toNat) y61) (m := y60)
              have TYR := rpT_ty OK1.1.1 x0 x1 TY (by rw [OK1.1.2]; exact hit.1)
              have NHR : nhT (rpT (rsE EP T 0) y60 (tm (kA K) (LV E W (kP K) (kA K) a1.toNat) y61)) := rpT_nh OK1.2.2.1 NH1
              have NVR : nvT (rpT (rsE EP T 0) y60 (tm (kA K) (LV E W (kP K) (kA K) a1.toNat) y61)) := rpT_nv (tl_nv OK1.2.1) NV
              have spR := sz_pos (rpT (rsE EP T 0) y60 (tm (kA K) (LV E W (kP K) (kA K) a1.toNat) y61))
              refine OK_jg (by (first | assumption | omega | ((try dsimp only [jt2, jt3, jt4]); first | omega | (simp (disch := omega) only [jst_eq, jst_ne, jst_ni, jst_o, jI_i, jcpy_out, w32_id, jdiv_nn, jshr_k, jand_255] <;> first | done | omega | assumption)) | (intros; simp (disch := omega) only [jst_eq, jst_ne, jst_ni, jst_o, jI_i, jcpy_out, w32_id, jdiv_nn, *] <;> first | done | omega) | (intros; simp (disch := omega) only [jst_eq, jst_ne, jst_ni, jst_o, jI_i, jcpy_out, w32_id, jdiv_nn] at * <;> first | done | omega | assumption) | (intros; first | rfl | (exfalso; omega) | ((repeat' apply And.intro) <;> first | assumption | rfl | omega | trivial)))) ?_ -- o36
              refine OK_jg (by (first | assumption | omega | ((try dsimp only [jt2, jt3, jt4]); first | omega | (simp (disch := omega) only [jst_eq, jst_ne, jst_ni, jst_o, jI_i, jcpy_out, w32_id, jdiv_nn, jshr_k, jand_255] <;> first | done | omega | assumption)) | (intros; simp (disch := omega) only [jst_eq, jst_ne, jst_ni, jst_o, jI_i, jcpy_out, w32_id, jdiv_nn, *] <;> first | done | omega) | (intros; simp (disch := omega) only [jst_eq, jst_ne, jst_ni, jst_o, jI_i, jcpy_out, w32_id, jdiv_nn] at * <;> first | done | omega | assumption) | (intros; first | rfl | (exfalso; omega) | ((repeat' apply And.intro) <;> first | assumption | rfl | omega | trivial)))) ?_ -- o37
              refine OK_jg (by (first | assumption | omega | ((try dsimp only [jt2, jt3, jt4]); first | omega | (simp (disch := omega) only [jst_eq, jst_ne, jst_ni, jst_o, jI_i, jcpy_out, w32_id, jdiv_nn, jshr_k, jand_255] <;> first | done | omega | assumption)) | (intros; simp (disch := omega) only [jst_eq, jst_ne, jst_ni, jst_o, jI_i, jcpy_out, w32_id, jdiv_nn, *] <;> first | done | omega) | (intros; simp (disch := omega) only [jst_eq, jst_ne, jst_ni, jst_o, jI_i, jcpy_out, w32_id, jdiv_nn] at * <;> first | done | omega | assumption) | (intros; first | rfl | (exfalso; omega) | ((repeat' apply And.intro) <;> first | assumption | rfl | omega | trivial)))) ?_ -- o38
              refine OK_jb2 (vX14_copy (Q := fun z => rgN 4400 1100 z ∨ rgN 8500 300 z) (R := rpT (rsE EP T 0) y60 (tm (kA K) (LV E W (kP K) (kA K) a1.toNat) y61)) _ _ _ (by (rw [P796, P13, t1]; exact cG_rw (resQ_le (fun x q => .inr q) RS63) CG63 (fun x x0 x1 => .inl (by unfold rgN; omega)) x0 x1 (by decide))) (by (rw [K63]; intro x q; unfold rgN at q; omega)) (by (rw [K63]; omega)) (by omega)) (fun v65 h66 r13 => ?_)
              try dsimp only [Sum.elim_inl, Sum.elim_inr, jt2, jt3, jt4, jt5, jt6, jt7, jt8] at r13
              have po10 := r13
              clear r13
              try simp (disch := omega) only [jst_eq, jst_ne, jst_ni, jI_i, jcmp_lt, jcmp_gt, w32_id, jcpy_out, Sum.elim_inl, Sum.elim_inr, jt2, jt3, jt4, jt5, jt6, jt7, jt8] at po10
              obtain ⟨q1', q2, q3, q4⟩ := po10
              rw [K63] at q1' q2 q3 q4
              have F66 : ∀ a s, ¬ (a = 454 ∧ s = 17) → ¬ (460 ≤ a ∧ a ≤ 469 ∧ a ≠ 464 ∧ 7600 ≤ s ∧ s < 8800) → ¬ (a = 464 ∧ 22800 ≤ s ∧ s < 26400) → h66 a s = h62 a s := fun a s y1 y2 y3 => by { rw [q4 a s (by omega) (by omega) (by omega)]; exact F63 a s y1 }
              have F66T : ∀ a s, ¬ (a = 454 ∧ s = 17) → ¬ (460 ≤ a ∧ a ≤ 469 ∧ a ≠ 464 ∧ 7600 ≤ s ∧ s < 8500) → ¬ (a = 464 ∧ 22800 ≤ s ∧ s < 25500) → h66 a s = h62 a s := fun a s y1 y2 y3 => by { rw [q4 a s (by omega) (by omega) (by omega)]; exact F63 a s y1 }
              have AK66 : akM h66 E Rf W K tp := akM_n MD62.1 (fun a s y => by unfold mA at y; exact F66 a s (by omega) (by omega) (by omega)) (by have z := MD62.1.2; unfold b20 at z ⊢; rw [F66 _ _ (by omega) (by omega) (by omega), F66 _ _ (by omega) (by omega) (by omega)]; exact z)
              have GS66 := GSm_g (GSm_g GS54 C34.2.2.1.2 (fun a s y => by unfold tA at y; exact MF62 a s (by omega) (by omega))) C34.2.2.1.2 (fun a s y => by unfold tA at y; exact F66T a s (by omega) (by omega) (by omega))
              have dpF := fl_dp (hl := fun _ => (0 : Int)) (rpT (rsE EP T 0) y60 (tm (kA K) (LV E W (kP K) (kA K) a1.toNat) y61))
              have szF := fl_sz (hl := fun _ => (0 : Int)) (rpT (rsE EP T 0) y60 (tm (kA K) (LV E W (kP K) (kA K) a1.toNat) y61))
              refine OK_jb (vX14_tell v65 (k := (inf (flT (fun _ => 0) (rpT (rsE EP T 0) y60 (tm (kA K) (LV E W (kP K) (kA K) a1.toNat) y61)))).2.2.1) (R := flT (fun _ => 0) (rpT (rsE EP T 0) y60 (tm (kA K) (LV E W (kP K) (kA K) a1.toNat) y61))) AK66 cA (resQ_rw (resQ_fl NHR q3)) (fun x q => by unfold rgN at q; omega) (fl_okR ac.1 l0 A3 (fun c _ _ => by decide) (nh_hc NHR) NVR (by decide) TYR.1) ⟨by omega, by omega, by rw [fl_dE]; omega⟩) (fun h68 r14 => ?_)
              obtain ⟨fd68, fr68, ak68⟩ := r14
              refine OK_jl ?_
              have F69 : ∀ a s, ¬ (a = 454 ∧ s = 63) → jst h68 454 63 y60 a s = h68 a s := fun a s y => jst_o y
              have K69 : jst h68 454 63 y60 454 63 = y60 := jst_eq
              generalize e69 : jst h68 454 63 y60 = g69 at *
              have C69 : ∀ s, s = 55 ∨ s = 71 → g69 454 s = h50 454 s := fun s y => by { rw [F69 _ _ (by omega), fr68 _ _ (by omega) (by omega) (by omega) (by omega) (by omega) (by omega), F66 _ _ (by omega) (by omega) (by omega), MF62 _ _ (by omega) (by omega), F54 _ _ (by omega) (by omega)] }
              have MQ69 : fMq h g69 := fun a s y1 y2 y3 y4 y5 y6 y7 y8 y9 y10 y11 => by { rw [F69 a s (by omega), fr68 a s (by omega) (by omega) (by omega) y10 (by omega) (by omega), F66 a s (by omega) y7 y8, MF62 a s (by omega) (by omega)]; exact MR54 a s (by omega) y2 y3 y4 y5 y6 (by omega) (by omega) y9 (by omega) }
              have AK69 : akM g69 E Rf W K tp := akM_n ak68 (fun a s y => by unfold mA at y; exact F69 a s (by omega)) (by have z := ak68.2; unfold b20 at z ⊢; rw [F69 _ _ (by omega), F69 _ _ (by omega)]; exact z)
              have GS69 := GSm_g (GSm_g GS66 C34.2.2.1.2 (fV_A fr68).2) C34.2.2.1.2 (fun a s y => by unfold tA at y; exact F69 a s (by omega))
              refine OK_some ?_
              try dsimp only [Sum.elim_inl, Sum.elim_inr, jt2, jt3, jt4, jt5, jt6, jt7, jt8]
              try dsimp only [Sum.elim_inl, Sum.elim_inr, jt2, jt3, jt4, jt5, jt6, jt7, jt8]
              refine ⟨?_, ?_, ?_⟩
              · exact ⟨_, key _ _ _ _ _ ((C69 55 (by omega)).trans S50.1) (.inr (.inr ⟨LVp, TM5.1, ((C69 71 (by omega)).trans W50).trans TM5.2, .inr ⟨MN, .inl ⟨y60, y61, ⟨⟨x0, x1⟩, ⟨y0, y1⟩, hit, lst⟩, q11, K69, rfl⟩⟩⟩)), (fun R e => by cases e; exact fdL_f fd68 (fun a s y => F69 a s (by omega))), (fun y => by cases y)⟩ -- o43 e4.1
              · exact MQ69 -- o44 e4.2
              · exact fun _ => ⟨AK69, e, f1, GS69⟩ -- o45 e4.3
            · skip
              have r15 := r11; clear r11
              dsimp only [Sum.elim_inl, Sum.elim_inr] at r15
              try dsimp only [Sum.elim_inl, Sum.elim_inr, jt2, jt3, jt4, jt5, jt6, jt7, jt8] at r15
              obtain ⟨no11, md11⟩ := r15
              try simp (disch := omega) only [jst_eq, jst_ne, jst_ni, jI_i, jcmp_lt, jcmp_gt, w32_id, jcpy_out, Sum.elim_inl, Sum.elim_inr, jt2, jt3, jt4, jt5, jt6, jt7, jt8] at no11
              try simp (disch := omega) only [jst_eq, jst_ne, jst_ni, jI_i, jcmp_lt, jcmp_gt, w32_id, jcpy_out, Sum.elim_inl, Sum.elim_inr, jt2, jt3, jt4, jt5, jt6, jt7, jt8] at md11
              refine OK_jmr ?_
              obtain ⟨MD58, MF58⟩ := md11
              have MR58 := fMr_v MR54 MF58
              have C58 : ∀ s, s = 55 ∨ s = 63 ∨ s = 71 → o58 454 s = h50 454 s := fun s y => by { rw [MF58 _ _ (by omega) (by omega), F54 _ _ (by omega) (by omega)] }
              refine OK_some ?_
              try dsimp only [Sum.elim_inl, Sum.elim_inr, jt2, jt3, jt4, jt5, jt6, jt7, jt8]
              try dsimp only [Sum.elim_inl, Sum.elim_inr, jt2, jt3, jt4, jt5, jt6, jt7, jt8]
              refine ⟨?_, ?_, ?_⟩
              · exact ⟨none, key _ _ _ _ _ ((C58 55 (by omega)).trans S50.1) (.inr (.inr ⟨LVp, TM5.1, ((C58 71 (by omega)).trans W50).trans TM5.2, .inr ⟨MN, .inr ⟨no11, rfl, (C58 63 (by omega)).trans S50.2, rfl⟩⟩⟩)), (fun _ y => by cases y), fun _ => MR58⟩ -- o46 e5.1
              · exact fMr_Q MR58 -- o47 e5.2
              · exact fun _ => ⟨MD58.1, e, f1, GSm_g GS54 C34.2.2.1.2 (fun a s y => by unfold tA at y; exact MF58 a s (by omega) (by omega))⟩ -- o48 e5.3
          · skip
            try simp (disch := omega) only [jst_eq, jst_ne, jst_ni, jI_i, jcmp_lt, jcmp_gt, w32_id, jcpy_out, Sum.elim_inl, Sum.elim_inr, jt2, jt3, jt4, jt5, jt6, jt7, jt8] at c5
            have MY : MKa E W K (kR K) (evQ W K (fun _ => 0) (rsE EP T 0)) := by { rcases im50 with w | w; { exact w.2 }; { exact absurd w.1 c5 } }
            have RQ50 : resQ h50 (rgN 4400 1100) (rsE EP T 0) a2 0 := by { rw [t1]; exact cG_Q (by decide) (by decide) (by decide) (by omega) CG50 }
            have dpF := fl_dp (hl := fun _ => (0 : Int)) (rsE EP T 0)
            have szF := fl_sz (hl := fun _ => (0 : Int)) (rsE EP T 0)
            refine OK_jb (vX14_tell a2 (k := (inf (flT (fun _ => 0) (rsE EP T 0))).2.2.1) (R := flT (fun _ => 0) (rsE EP T 0)) ak50 cA (resQ_rw (resQ_fl NH1 RQ50)) (fun x q => by unfold rgN at q; omega) (fl_okR ac.1 l0 A3 (fun c _ _ => by decide) (nh_hc NH1) NV (by decide) TY) ⟨by omega, by omega, by rw [fl_dE]; omega⟩) (fun h71 r16 => ?_)
            obtain ⟨fd71, fr71, ak71⟩ := r16
            have C71 : ∀ s, s = 55 ∨ s = 63 ∨ s = 71 → h71 454 s = h50 454 s := fun s y => fr71 _ _ (by omega) (by omega) (by omega) (by omega) (by omega) (by omega)
            refine OK_some ?_
            try dsimp only [Sum.elim_inl, Sum.elim_inr, jt2, jt3, jt4, jt5, jt6, jt7, jt8]
            try dsimp only [Sum.elim_inl, Sum.elim_inr, jt2, jt3, jt4, jt5, jt6, jt7, jt8]
            refine ⟨?_, ?_, ?_⟩
            · exact ⟨_, key _ _ _ _ _ ((C71 55 (by omega)).trans S50.1) (.inr (.inr ⟨LVp, TM5.1, ((C71 71 (by omega)).trans W50).trans TM5.2, .inl ⟨MY, rfl, (C71 63 (by omega)).trans S50.2, rfl⟩⟩)), (fun R e => by cases e; exact fd71), (fun y => by cases y)⟩ -- o49 e6.1
            · exact fMr_q MR50 fr71 -- o50 e6.2
            · exact fun _ => ⟨ak71, e, f1, GSm_g GS50 C34.2.2.1.2 (fV_A fr71).2⟩ -- o51 e6.3
        · skip
          try simp (disch := omega) only [jst_eq, jst_ne, jst_ni, jI_i, jcmp_lt, jcmp_gt, w32_id, jcpy_out, Sum.elim_inl, Sum.elim_inr, jt2, jt3, jt4, jt5, jt6, jt7, jt8] at c4
          have TM5 : 1000000000 < h 454 71 + wkMe E W K a1.toNat (rsE EP T 0) ∧ h44 = h34 := by { rcases tm7 with w | w; { rw [Q71] at w; exact ⟨w.2.1, w.2.2⟩ }; { omega } }
          refine OK_some ?_
          try dsimp only [Sum.elim_inl, Sum.elim_inr, jt2, jt3, jt4, jt5, jt6, jt7, jt8]
          try dsimp only [Sum.elim_inl, Sum.elim_inr, jt2, jt3, jt4, jt5, jt6, jt7, jt8]
          refine ⟨?_, ?_, ?_⟩
          · exact ⟨none, key _ _ _ _ _ (by rw [TM5.2]; exact Q55) (.inr (.inl ⟨LVp, TM5.1, rfl, by rw [TM5.2]; exact Q71, by rw [TM5.2]; exact Q63, rfl⟩)), (fun _ y => by cases y), fun _ => MR44⟩ -- o52 e7.1
          · exact fMr_Q MR44 -- o53 e7.2
          · exact fun _ => ⟨AK44, e, f1, GS44⟩ -- o54 e7.3
theorem vX14_mend (a1 : Int) {h : AH} {B : Int → Int} {n : Int} {E EP : EV} {Rf : Int → TR} {W : Int → Int → Int → VW} {K : AK} {tp : Int} (hB : ∀ i, 0 ≤ i → i < n → 0 ≤ B i ∧ B i < 256) (tb : n = h 454 53 ∧ 0 ≤ n ∧ n ≤ 2000 ∧ ∀ i, 0 ≤ i → i < n → h 790 i = B i) (om : ownsM h E Rf) (l0 : E.2.2.1 = 0) (ar : arN h) (dn : h 454 54 = 0 ∨ h 454 54 = 1) (cA : ∀ a, 0 ≤ a → a < E.1.1 → 0 ≤ E.1.2.1 a ∧ E.1.2.1 a < 282429536481) (ak : ¬ h 454 38 = 0 → asM h E Rf W K tp) (ep : epM h E Rf W K tp EP) (ln : h 754 (-2) = 101 ∧ h 754 (-1) = 256) (w71 : 0 ≤ h 454 71 ∧ h 454 71 ≤ 1000000000) : OK (gX14_mend a1 h) (fun r => jt2 r fun v h' => (¬ h 454 54 = 0 → v = -5 ∧ h' = jst h 454 51 0) ∧ (h 454 54 = 0 → ∃ fo, outMe E EP W K a1 (¬ h 454 38 = 0) (if h 454 38 = 0 then -1 else kR K) (pA B n false (beg B n)) (h 454 55) (h 454 71) (h 454 63) v (h' 454 55) (h' 454 71) (h' 454 63) fo ∧ foP fo (fdL h' E W K) ∧ (fo = none → fMr h h')) ∧ (h 454 54 = 0 → fMq h h') ∧ (¬ h 454 38 = 0 → asM h' E Rf W K tp)) := by
  have ac := om.2.1
  have ew := om.2.2.2.2.2.1
  have T1 := tb.2.1
  have T2 := tb.2.2.1
  unfold gX14_mend
  refine OK_jb2 (vX14_isDown (by (first | assumption | omega | ((try dsimp only [jt2, jt3, jt4]); first | omega | (simp (disch := omega) only [jst_eq, jst_ne, jst_ni, jst_o, jI_i, jcpy_out, w32_id, jdiv_nn, jshr_k, jand_255] <;> first | done | omega | assumption)) | (intros; simp (disch := omega) only [jst_eq, jst_ne, jst_ni, jst_o, jI_i, jcpy_out, w32_id, jdiv_nn, *] <;> first | done | omega) | (intros; simp (disch := omega) only [jst_eq, jst_ne, jst_ni, jst_o, jI_i, jcpy_out, w32_id, jdiv_nn] at * <;> first | done | omega | assumption) | (intros; first | rfl | (exfalso; omega) | ((repeat' apply And.intro) <;> first | assumption | rfl | omega | trivial))))) (fun v2 h3 r1 => ?_)
  try dsimp only [Sum.elim_inl, Sum.elim_inr, jt2, jt3, jt4, jt5, jt6, jt7, jt8] at r1
  obtain ⟨dv1, dh1⟩ := r1
  try simp (disch := omega) only [jst_eq, jst_ne, jst_ni, jI_i, jcmp_lt, jcmp_gt, w32_id, jcpy_out, Sum.elim_inl, Sum.elim_inr, jt2, jt3, jt4, jt5, jt6, jt7, jt8] at dv1
  try simp (disch := omega) only [jst_eq, jst_ne, jst_ni, jI_i, jcmp_lt, jcmp_gt, w32_id, jcpy_out, Sum.elim_inl, Sum.elim_inr, jt2, jt3, jt4, jt5, jt6, jt7, jt8] at dh1
  have F3 : ∀ a s, ¬ (a = 454 ∧ s = 51) → h3 a s = h a s := fun a s y => by { rw [dh1]; exact jst_o y }
  have n53 : h3 454 53 = n := by { rw [F3 _ _ (by omega)]; exact tb.1.symm }
  refine OK_if (fun c1 => ?_) (fun c1 => ?_)
  · skip
    try simp (disch := omega) only [jst_eq, jst_ne, jst_ni, jI_i, jcmp_lt, jcmp_gt, w32_id, jcpy_out, Sum.elim_inl, Sum.elim_inr, jt2, jt3, jt4, jt5, jt6, jt7, jt8] at c1
    refine OK_jb (vX14_takeTape (by (rw [n53]; exact ⟨T1, T2⟩))) (fun h6 r2 => ?_)
    try dsimp only [Sum.elim_inl, Sum.elim_inr, jt2, jt3, jt4, jt5, jt6, jt7, jt8] at r2
    obtain ⟨z2, b2, fr2⟩ := r2
    try simp (disch := omega) only [jst_eq, jst_ne, jst_ni, jI_i, jcmp_lt, jcmp_gt, w32_id, jcpy_out, Sum.elim_inl, Sum.elim_inr, jt2, jt3, jt4, jt5, jt6, jt7, jt8] at z2
    try simp (disch := omega) only [jst_eq, jst_ne, jst_ni, jI_i, jcmp_lt, jcmp_gt, w32_id, jcpy_out, Sum.elim_inl, Sum.elim_inr, jt2, jt3, jt4, jt5, jt6, jt7, jt8] at b2
    try simp (disch := omega) only [jst_eq, jst_ne, jst_ni, jI_i, jcmp_lt, jcmp_gt, w32_id, jcpy_out, Sum.elim_inl, Sum.elim_inr, jt2, jt3, jt4, jt5, jt6, jt7, jt8] at fr2
    have F6 : ∀ a s, ¬ (a = 454 ∧ (s = 25 ∨ s = 51 ∨ s = 53)) → ¬ (a = 473 ∧ 0 ≤ s ∧ s < 2000) → h6 a s = h a s := fun a s y1 y2 => by { rw [fr2 a s y1 (by omega), F3 a s (by omega)] }
    have TM6 : TM B n h6 := ⟨by { rw [z2.2.2]; exact n53 }, T1, T2, fun i i0 i1 => by { rw [b2 i i0 (by omega), F3 _ _ (by omega)]; exact tb.2.2.2 i i0 i1 }⟩
    have om6 := ownsM_fr om (F6 _ _ (by omega) (by omega)) (fun a s a0 a1 => F6 _ _ (by omega) (by omega)) ⟨fun a s a0 a1 a2 a3 a4 => F6 _ _ (by omega) (by omega), fun s s0 s1 => F6 _ _ (by omega) (by omega)⟩
    have ar6 : arN h6 := arN_f ar (fun a s _ _ => F6 a s (by omega) (by omega))
    have e38 : h6 454 38 = h 454 38 := F6 _ _ (by omega) (by omega)
    have AG6 : agN h h6 ∧ agT h h6 := ⟨fun a s y => by { unfold mA at y; exact F6 a s (by omega) (by omega) }, fun a s y => by { unfold tA at y; exact F6 a s (by omega) (by omega) }⟩
    have W6 : ¬ h 454 38 = 0 → h6 454 21 = -1 ∧ b20 h6 := fun y => by { have z := (ak y).1.2; unfold b20 at z ⊢; rw [F6 _ _ (by omega) (by omega), F6 _ _ (by omega) (by omega)]; exact z }
    have ep6 : epM h6 E Rf W K tp EP := by { rcases ep with y | y; { exact .inl ⟨by rw [e38]; exact y.1, y.2⟩ }; { exact .inr ⟨by rw [e38]; exact y.1, akM_n y.2.1 AG6.1 (W6 y.1), y.2.2⟩ } }
    refine OK_jb (vX14_in _ _ _) (fun v8 r3 => ?_)
    try dsimp only [Sum.elim_inl, Sum.elim_inr, jt2, jt3, jt4, jt5, jt6, jt7, jt8] at r3
    have v3 := r3
    clear r3
    try simp (disch := omega) only [jst_eq, jst_ne, jst_ni, jI_i, jcmp_lt, jcmp_gt, w32_id, jcpy_out, Sum.elim_inl, Sum.elim_inr, jt2, jt3, jt4, jt5, jt6, jt7, jt8] at v3
    refine OK_if (fun c2 => ?_) (fun c2 => ?_)
    · skip
      try simp (disch := omega) only [jst_eq, jst_ne, jst_ni, jI_i, jcmp_lt, jcmp_gt, w32_id, jcpy_out, Sum.elim_inl, Sum.elim_inr, jt2, jt3, jt4, jt5, jt6, jt7, jt8] at c2
      refine OK_some ?_
      try dsimp only [Sum.elim_inl, Sum.elim_inr, jt2, jt3, jt4, jt5, jt6, jt7, jt8]
      try dsimp only [Sum.elim_inl, Sum.elim_inr, jt2, jt3, jt4, jt5, jt6, jt7, jt8]
      refine ⟨?_, ?_, ?_, ?_⟩
      · (first | assumption | omega | ((try dsimp only [jt2, jt3, jt4]); first | omega | (simp (disch := omega) only [jst_eq, jst_ne, jst_ni, jst_o, jI_i, jcpy_out, w32_id, jdiv_nn, jshr_k, jand_255] <;> first | done | omega | assumption)) | (intros; simp (disch := omega) only [jst_eq, jst_ne, jst_ni, jst_o, jI_i, jcpy_out, w32_id, jdiv_nn, *] <;> first | done | omega) | (intros; simp (disch := omega) only [jst_eq, jst_ne, jst_ni, jst_o, jI_i, jcpy_out, w32_id, jdiv_nn] at * <;> first | done | omega | assumption) | (intros; first | rfl | (exfalso; omega) | ((repeat' apply And.intro) <;> first | assumption | rfl | omega | trivial))) -- o3 e1.1
      · (intro _; exact ⟨none, .inl ⟨by omega, rfl, F6 _ _ (by omega) (by omega), F6 _ _ (by omega) (by omega), F6 _ _ (by omega) (by omega), rfl⟩, (fun _ y => by cases y), fun _ => (fun a s y1 y2 y3 y4 y5 y6 y7 y8 y9 y10 => F6 a s (by omega) y6)⟩) -- o4 e1.2
      · (intro _; exact fMr_Q (fun a s y1 y2 y3 y4 y5 y6 y7 y8 y9 y10 => F6 a s (by omega) y6)) -- o5 e1.3
      · exact fun y => asM_g (ak y) AG6.1 AG6.2 (W6 y) -- o6 e1.4
    · skip
      try simp (disch := omega) only [jst_eq, jst_ne, jst_ni, jI_i, jcmp_lt, jcmp_gt, w32_id, jcpy_out, Sum.elim_inl, Sum.elim_inr, jt2, jt3, jt4, jt5, jt6, jt7, jt8] at c2
      have PR : 1 ≤ a1 ∧ a1 ≤ 12 := by omega
      refine OK_jb3 (vRM 0 (sk := false) hB TM6 rfl om6 l0 ar6 ep6) (fun t11 v12 h13 r4 => ?_)
      obtain ⟨rr3, F10⟩ := r4
      dsimp only at rr3 F10
      have G10 : ∀ a s, ¬ (a = 454 ∧ (s = 17 ∨ (25 ≤ s ∧ s ≤ 31) ∨ s = 34 ∨ s = 35 ∨ s = 51 ∨ s = 53 ∨ s = 66)) → ¬ (a = 472 ∧ (s = 6 ∨ s = 7)) → ¬ (460 ≤ a ∧ a ≤ 470 ∧ a ≠ 464 ∧ 4400 ≤ s ∧ s < 5500) → ¬ (a = 464 ∧ 13200 ≤ s ∧ s < 16500) → ¬ ((a = 474 ∨ a = 475) ∧ 0 ≤ s ∧ s < 3) → ¬ (a = 473 ∧ 0 ≤ s ∧ s < 2000) → h13 a s = h a s := fun a s y1 y2 y3 y4 y5 y6 => by { rw [F10 a s (by omega) y2 y3 y4 y5]; exact F6 a s (by omega) y6 }
      have MR10 : fMr h h13 := fun a s y1 y2 y3 y4 y5 y6 _ _ _ _ => G10 a s (by omega) y2 y3 y4 y5 y6
      have AG10 : agN h h13 ∧ agT h h13 := ⟨fun a s y => by { unfold mA at y; exact G10 a s (by omega) (by omega) (by omega) (by omega) (by omega) (by omega) }, fun a s y => by { unfold tA at y; exact G10 a s (by omega) (by omega) (by omega) (by omega) (by omega) (by omega) }⟩
      have W10 : ∀ hh : AH, (∀ a s, ¬ (a = 454 ∧ (s = 30 ∨ s = 31 ∨ s = 55)) → ¬ (a = 472 ∧ (s = 6 ∨ s = 7)) → hh a s = h13 a s) → ¬ h 454 38 = 0 → asM hh E Rf W K tp := fun hh f y => by { have z := (ak y).1.2; refine asM_g (ak y) (fun a s q => ?_) (fun a s q => ?_) ?_; { rw [f a s (by unfold mA at q; omega) (by unfold mA at q; omega)]; exact AG10.1 a s q }; { rw [f a s (by unfold tA at q; omega) (by unfold tA at q; omega)]; exact AG10.2 a s q }; { unfold b20 at z ⊢; rw [f _ _ (by omega) (by omega), f _ _ (by omega) (by omega), G10 _ _ (by omega) (by omega) (by omega) (by omega) (by omega) (by omega), G10 _ _ (by omega) (by omega) (by omega) (by omega) (by omega) (by omega)]; exact z } }
      have W71 : h13 454 71 = h 454 71 := G10 _ _ (by omega) (by omega) (by omega) (by omega) (by omega) (by omega)
      have W63 : h13 454 63 = h 454 63 := G10 _ _ (by omega) (by omega) (by omega) (by omega) (by omega) (by omega)
      have P10 : h13 454 55 = h 454 55 := G10 _ _ (by omega) (by omega) (by omega) (by omega) (by omega) (by omega)
      have E38 : h13 454 38 = h 454 38 := G10 _ _ (by omega) (by omega) (by omega) (by omega) (by omega) (by omega)
      have L10 : h13 754 (-2) = 101 ∧ h13 754 (-1) = 256 := by { rw [G10 _ _ (by omega) (by omega) (by omega) (by omega) (by omega) (by omega), G10 _ _ (by omega) (by omega) (by omega) (by omega) (by omega) (by omega)]; exact ln }
      refine OK_jq (fun c3 => ?_) (fun c3 => ?_)
      · skip
        obtain ⟨z, eR, t472, mf1, mf2⟩ := resR_l rr3 c3
        refine OK_jg (by (first | assumption | omega | ((try dsimp only [jt2, jt3, jt4]); first | omega | (simp (disch := omega) only [jst_eq, jst_ne, jst_ni, jst_o, jI_i, jcpy_out, w32_id, jdiv_nn, jshr_k, jand_255] <;> first | done | omega | assumption)) | (intros; simp (disch := omega) only [jst_eq, jst_ne, jst_ni, jst_o, jI_i, jcpy_out, w32_id, jdiv_nn, *] <;> first | done | omega) | (intros; simp (disch := omega) only [jst_eq, jst_ne, jst_ni, jst_o, jI_i, jcpy_out, w32_id, jdiv_nn] at * <;> first | done | omega | assumption) | (intros; first | rfl | (exfalso; omega) | ((repeat' apply And.intro) <;> first | assumption | rfl | omega | trivial)))) ?_ -- o7
        refine OK_jb2 (vX14_faulty _ (by (first | assumption | omega | ((try dsimp only [jt2, jt3, jt4]); first | omega | (simp (disch := omega) only [jst_eq, jst_ne, jst_ni, jst_o, jI_i, jcpy_out, w32_id, jdiv_nn, jshr_k, jand_255] <;> first | done | omega | assumption)) | (intros; simp (disch := omega) only [jst_eq, jst_ne, jst_ni, jst_o, jI_i, jcpy_out, w32_id, jdiv_nn, *] <;> first | done | omega) | (intros; simp (disch := omega) only [jst_eq, jst_ne, jst_ni, jst_o, jI_i, jcpy_out, w32_id, jdiv_nn] at * <;> first | done | omega | assumption) | (intros; first | rfl | (exfalso; omega) | ((repeat' apply And.intro) <;> first | assumption | rfl | omega | trivial))))) (fun v16 h17 r5 => ?_)
        try dsimp only [Sum.elim_inl, Sum.elim_inr, jt2, jt3, jt4, jt5, jt6, jt7, jt8] at r5
        obtain ⟨vv4, fr4⟩ := r5
        try simp (disch := omega) only [jst_eq, jst_ne, jst_ni, jI_i, jcmp_lt, jcmp_gt, w32_id, jcpy_out, Sum.elim_inl, Sum.elim_inr, jt2, jt3, jt4, jt5, jt6, jt7, jt8] at vv4
        try simp (disch := omega) only [jst_eq, jst_ne, jst_ni, jI_i, jcmp_lt, jcmp_gt, w32_id, jcpy_out, Sum.elim_inl, Sum.elim_inr, jt2, jt3, jt4, jt5, jt6, jt7, jt8] at fr4
        refine OK_some ?_
        try dsimp only [Sum.elim_inl, Sum.elim_inr, jt2, jt3, jt4, jt5, jt6, jt7, jt8]
        try dsimp only [Sum.elim_inl, Sum.elim_inr, jt2, jt3, jt4, jt5, jt6, jt7, jt8]
        refine ⟨?_, ?_, ?_, ?_⟩
        · (first | assumption | omega | ((try dsimp only [jt2, jt3, jt4]); first | omega | (simp (disch := omega) only [jst_eq, jst_ne, jst_ni, jst_o, jI_i, jcpy_out, w32_id, jdiv_nn, jshr_k, jand_255] <;> first | done | omega | assumption)) | (intros; simp (disch := omega) only [jst_eq, jst_ne, jst_ni, jst_o, jI_i, jcpy_out, w32_id, jdiv_nn, *] <;> first | done | omega) | (intros; simp (disch := omega) only [jst_eq, jst_ne, jst_ni, jst_o, jI_i, jcpy_out, w32_id, jdiv_nn] at * <;> first | done | omega | assumption) | (intros; first | rfl | (exfalso; omega) | ((repeat' apply And.intro) <;> first | assumption | rfl | omega | trivial))) -- o9 e2.1
        · (intro _; rw [fr4]; refine ⟨none, .inr ⟨PR, ?_⟩, (fun _ y => by cases y), fun _ => ?_⟩; { rw [pA_l eR, jst_o (show ¬ ((454 : Int) = 454 ∧ (71 : Int) = 55) by decide), jst_o (show ¬ ((454 : Int) = 454 ∧ (63 : Int) = 55) by decide), W71, W63]; exact ⟨by omega, by rw [jst_eq]; exact mf2, rfl, rfl, rfl⟩ }; { exact fun a s y1 y2 y3 y4 y5 y6 y7 y8 y9 y10 => (by rw [jst_o (by omega)]; exact MR10 a s y1 y2 y3 y4 y5 y6 y7 y8 y9 y10) }) -- o10 e2.2
        · (intro _; rw [fr4]; exact fMr_Q (fun a s y1 y2 y3 y4 y5 y6 y7 y8 y9 y10 => (by rw [jst_o (by omega)]; exact MR10 a s y1 y2 y3 y4 y5 y6 y7 y8 y9 y10))) -- o11 e2.3
        · (intro y; rw [fr4]; exact W10 _ (fun a s y1 _ => jst_o (by omega)) y) -- o12 e2.4
      · skip
        obtain ⟨T, q1, eR, v4, ms, mi, mk, k66, h35, szT, res, pl, gt, wpt, dpt, rs0⟩ := resR_r rr3 c3
        obtain ⟨q, eb, eT⟩ := bdT_inr eR
        have eA := pA_r eR
        have mr := MK_r mi
        have PA : acE EP ∧ paE EP ∧ EP.2.2.1 = 0 := by { rcases ep with y | y; { rw [y.2]; exact ⟨ac, ⟨Int.le_refl _, fun k k0 k1 => absurd k1 (Int.not_lt.mpr k0)⟩, l0⟩ }; { rw [y.2.2]; have C := akM_0 y.2.1; exact ⟨ac, ⟨by (show 0 ≤ (kA K).1; have := C.2.1.1.2.2.1; omega), fun k k0 k1 => C.2.2.2.2.2.2.1.1 k k0 k1⟩, l0⟩ } }
        have KD2 := kdE_p PA.1 PA.2.1 PA.2.2 gt
        obtain ⟨wv, ewv⟩ : ∃ w : Int, w = (if h 454 38 = 0 then -1 else kR K) := ⟨_, rfl⟩
        have EWV : wv = if h13 454 38 = 0 then -1 else kR K := by { rw [E38]; exact ewv }
        have AK10 : ¬ h13 454 38 = 0 → asM h13 E Rf W K tp ∧ EP = EPn E (kA K).1 (kA K).2.1 := fun y => by { have y2 : ¬ h 454 38 = 0 := (by rw [← E38]; exact y); refine ⟨W10 _ (fun _ _ _ _ => rfl) y2, ?_⟩; rcases ep with z | z; { exact absurd z.1 y2 }; { exact z.2.2 } }
        have T10 : v12 = 4400 ∧ rawS h13 T 4400 0 4401 (-1) ∧ sz T ≤ 1001 ∧ (fkE EP T 0 0 = 1000000 → resM h13 (rsE EP T 0) 4400 0) := ⟨v4, rs0, szT, res⟩
        have KW := key_w (E := EP) (T := T) (w := wv)
        rw [← mk] at KW
        have CK := kch_c KD2
        have MX : MK h13 ≤ 1000000 := MK_b mi
        refine OK_if (fun c4 => ?_) (fun c4 => ?_)
        · skip
          try simp (disch := omega) only [jst_eq, jst_ne, jst_ni, jI_i, jcmp_lt, jcmp_gt, w32_id, jcpy_out, Sum.elim_inl, Sum.elim_inr, jt2, jt3, jt4, jt5, jt6, jt7, jt8] at c4
          have MKW : MK h13 = keyE EP wv T := by { rw [KW, if_neg (fun y => by (have := EWV; rw [if_pos c4] at this; exact y.1 this))]; omega }
          refine OK_mono (vX14_mend_j76 (B := B) (n := n) (q1 := q1) (w := wv) (E := E) (EP := EP) (Rf := Rf) (W := W) (K := K) (tp := tp) (T := T) _ _ (by exact hB) (by exact ⟨T1, T2⟩) (by exact ⟨ac, l0, ew⟩) (by exact cA) (by exact ms) (by exact mi) (by exact MKW) (by exact eA) (by exact AK10) (by exact EWV) (by exact T10) (by exact L10) (by (rw [W71]; exact w71)) (by exact PR)) (fun r r6 => ?_)
          obtain ⟨y1, y2⟩ := r
          try dsimp only [Sum.elim_inl, Sum.elim_inr, jt2, jt3, jt4, jt5, jt6, jt7, jt8] at r6
          obtain ⟨oo5, fr5, as5⟩ := r6
          try simp (disch := omega) only [jst_eq, jst_ne, jst_ni, jI_i, jcmp_lt, jcmp_gt, w32_id, jcpy_out, Sum.elim_inl, Sum.elim_inr, jt2, jt3, jt4, jt5, jt6, jt7, jt8] at oo5
          try simp (disch := omega) only [jst_eq, jst_ne, jst_ni, jI_i, jcmp_lt, jcmp_gt, w32_id, jcpy_out, Sum.elim_inl, Sum.elim_inr, jt2, jt3, jt4, jt5, jt6, jt7, jt8] at fr5
          try simp (disch := omega) only [jst_eq, jst_ne, jst_ni, jI_i, jcmp_lt, jcmp_gt, w32_id, jcpy_out, Sum.elim_inl, Sum.elim_inr, jt2, jt3, jt4, jt5, jt6, jt7, jt8] at as5
          try dsimp only [Sum.elim_inl, Sum.elim_inr, jt2, jt3, jt4, jt5, jt6, jt7, jt8]
          try dsimp only [Sum.elim_inl, Sum.elim_inr, jt2, jt3, jt4, jt5, jt6, jt7, jt8]
          refine ⟨?_, ?_, ?_, ?_⟩
          · (first | assumption | omega | ((try dsimp only [jt2, jt3, jt4]); first | omega | (simp (disch := omega) only [jst_eq, jst_ne, jst_ni, jst_o, jI_i, jcpy_out, w32_id, jdiv_nn, jshr_k, jand_255] <;> first | done | omega | assumption)) | (intros; simp (disch := omega) only [jst_eq, jst_ne, jst_ni, jst_o, jI_i, jcpy_out, w32_id, jdiv_nn, *] <;> first | done | omega) | (intros; simp (disch := omega) only [jst_eq, jst_ne, jst_ni, jst_o, jI_i, jcpy_out, w32_id, jdiv_nn] at * <;> first | done | omega | assumption) | (intros; first | rfl | (exfalso; omega) | ((repeat' apply And.intro) <;> first | assumption | rfl | omega | trivial))) -- o27 e3.1
          · (intro _; rw [← ewv]; obtain ⟨fo, u1, u2, u3⟩ := oo5; refine ⟨fo, ?_, u2, fun z => fMr_t MR10 (u3 z)⟩; rw [P10, W71, W63, E38] at u1; exact u1) -- o28 e3.2
          · (intro _; exact fMr_qt MR10 fr5) -- o29 e3.3
          · (intro y; exact as5 (by rw [E38]; exact y)) -- o30 e3.4
        · skip
          try simp (disch := omega) only [jst_eq, jst_ne, jst_ni, jI_i, jcmp_lt, jcmp_gt, w32_id, jcpy_out, Sum.elim_inl, Sum.elim_inr, jt2, jt3, jt4, jt5, jt6, jt7, jt8] at c4
          refine OK_if (fun c5 => ?_) (fun c5 => ?_)
          · skip
            try simp (disch := omega) only [jst_eq, jst_ne, jst_ni, jI_i, jcmp_lt, jcmp_gt, w32_id, jcpy_out, Sum.elim_inl, Sum.elim_inr, jt2, jt3, jt4, jt5, jt6, jt7, jt8] at c5
            have MKW : MK h13 = keyE EP wv T := by { rw [KW, if_neg (fun y => y.2.1 (CK.2.2.mp (by rw [← k66]; exact c5)))]; omega }
            refine OK_mono (vX14_mend_j76 (B := B) (n := n) (q1 := q1) (w := wv) (E := E) (EP := EP) (Rf := Rf) (W := W) (K := K) (tp := tp) (T := T) _ _ (by exact hB) (by exact ⟨T1, T2⟩) (by exact ⟨ac, l0, ew⟩) (by exact cA) (by exact ms) (by exact mi) (by exact MKW) (by exact eA) (by exact AK10) (by exact EWV) (by exact T10) (by exact L10) (by (rw [W71]; exact w71)) (by exact PR)) (fun r r7 => ?_)
            obtain ⟨y3, y4⟩ := r
            try dsimp only [Sum.elim_inl, Sum.elim_inr, jt2, jt3, jt4, jt5, jt6, jt7, jt8] at r7
            obtain ⟨oo6, fr6, as6⟩ := r7
            try simp (disch := omega) only [jst_eq, jst_ne, jst_ni, jI_i, jcmp_lt, jcmp_gt, w32_id, jcpy_out, Sum.elim_inl, Sum.elim_inr, jt2, jt3, jt4, jt5, jt6, jt7, jt8] at oo6
            try simp (disch := omega) only [jst_eq, jst_ne, jst_ni, jI_i, jcmp_lt, jcmp_gt, w32_id, jcpy_out, Sum.elim_inl, Sum.elim_inr, jt2, jt3, jt4, jt5, jt6, jt7, jt8] at fr6
            try simp (disch := omega) only [jst_eq, jst_ne, jst_ni, jI_i, jcmp_lt, jcmp_gt, w32_id, jcpy_out, Sum.elim_inl, Sum.elim_inr, jt2, jt3, jt4, jt5, jt6, jt7, jt8] at as6
            try dsimp only [Sum.elim_inl, Sum.elim_inr, jt2, jt3, jt4, jt5, jt6, jt7, jt8]
            try dsimp only [Sum.elim_inl, Sum.elim_inr, jt2, jt3, jt4, jt5, jt6, jt7, jt8]
            refine ⟨?_, ?_, ?_, ?_⟩
            · (first | assumption | omega | ((try dsimp only [jt2, jt3, jt4]); first | omega | (simp (disch := omega) only [jst_eq, jst_ne, jst_ni, jst_o, jI_i, jcpy_out, w32_id, jdiv_nn, jshr_k, jand_255] <;> first | done | omega | assumption)) | (intros; simp (disch := omega) only [jst_eq, jst_ne, jst_ni, jst_o, jI_i, jcpy_out, w32_id, jdiv_nn, *] <;> first | done | omega) | (intros; simp (disch := omega) only [jst_eq, jst_ne, jst_ni, jst_o, jI_i, jcpy_out, w32_id, jdiv_nn] at * <;> first | done | omega | assumption) | (intros; first | rfl | (exfalso; omega) | ((repeat' apply And.intro) <;> first | assumption | rfl | omega | trivial))) -- o45 e4.1
            · (intro _; rw [← ewv]; obtain ⟨fo, u1, u2, u3⟩ := oo6; refine ⟨fo, ?_, u2, fun z => fMr_t MR10 (u3 z)⟩; rw [P10, W71, W63, E38] at u1; exact u1) -- o46 e4.2
            · (intro _; exact fMr_qt MR10 fr6) -- o47 e4.3
            · (intro y; exact as6 (by rw [E38]; exact y)) -- o48 e4.4
          · skip
            try simp (disch := omega) only [jst_eq, jst_ne, jst_ni, jI_i, jcmp_lt, jcmp_gt, w32_id, jcpy_out, Sum.elim_inl, Sum.elim_inr, jt2, jt3, jt4, jt5, jt6, jt7, jt8] at c5
            have X10 : isX16 (h13 454 38) := (akM_0 (AK10 c4).1.1).1.1
            refine OK_jg (by (first | assumption | omega | ((try dsimp only [jt2, jt3, jt4]); first | omega | (simp (disch := omega) only [jst_eq, jst_ne, jst_ni, jst_o, jI_i, jcpy_out, w32_id, jdiv_nn, jshr_k, jand_255] <;> first | done | omega | assumption)) | (intros; simp (disch := omega) only [jst_eq, jst_ne, jst_ni, jst_o, jI_i, jcpy_out, w32_id, jdiv_nn, *] <;> first | done | omega) | (intros; simp (disch := omega) only [jst_eq, jst_ne, jst_ni, jst_o, jI_i, jcpy_out, w32_id, jdiv_nn] at * <;> first | done | omega | assumption) | (intros; first | rfl | (exfalso; omega) | ((repeat' apply And.intro) <;> first | assumption | rfl | omega | trivial)))) ?_ -- o49
            refine OK_if (fun c6 => ?_) (fun c6 => ?_)
            · skip
              try simp (disch := omega) only [jst_eq, jst_ne, jst_ni, jI_i, jcmp_lt, jcmp_gt, w32_id, jcpy_out, Sum.elim_inl, Sum.elim_inr, jt2, jt3, jt4, jt5, jt6, jt7, jt8] at c6
              have MKW : MK h13 = keyE EP wv T := by { rw [KW, if_neg (fun y => by (have e := EWV; rw [if_neg c4] at e; have C := akM_0 (AK10 c4).1.1; rw [C.2.2.2.2.1] at c6; rw [k66] at c6; exact y.2.2 (by rw [e]; exact kch_w KD2 C.2.2.2.2.2.2.2 c6)))]; omega }
              refine OK_mono (vX14_mend_j76 (B := B) (n := n) (q1 := q1) (w := wv) (E := E) (EP := EP) (Rf := Rf) (W := W) (K := K) (tp := tp) (T := T) _ _ (by exact hB) (by exact ⟨T1, T2⟩) (by exact ⟨ac, l0, ew⟩) (by exact cA) (by exact ms) (by exact mi) (by exact MKW) (by exact eA) (by exact AK10) (by exact EWV) (by exact T10) (by exact L10) (by (rw [W71]; exact w71)) (by exact PR)) (fun r r8 => ?_)
              obtain ⟨y5, y6⟩ := r
              try dsimp only [Sum.elim_inl, Sum.elim_inr, jt2, jt3, jt4, jt5, jt6, jt7, jt8] at r8
              obtain ⟨oo7, fr7, as7⟩ := r8
              try simp (disch := omega) only [jst_eq, jst_ne, jst_ni, jI_i, jcmp_lt, jcmp_gt, w32_id, jcpy_out, Sum.elim_inl, Sum.elim_inr, jt2, jt3, jt4, jt5, jt6, jt7, jt8] at oo7
              try simp (disch := omega) only [jst_eq, jst_ne, jst_ni, jI_i, jcmp_lt, jcmp_gt, w32_id, jcpy_out, Sum.elim_inl, Sum.elim_inr, jt2, jt3, jt4, jt5, jt6, jt7, jt8] at fr7
              try simp (disch := omega) only [jst_eq, jst_ne, jst_ni, jI_i, jcmp_lt, jcmp_gt, w32_id, jcpy_out, Sum.elim_inl, Sum.elim_inr, jt2, jt3, jt4, jt5, jt6, jt7, jt8] at as7
              try dsimp only [Sum.elim_inl, Sum.elim_inr, jt2, jt3, jt4, jt5, jt6, jt7, jt8]
              try dsimp only [Sum.elim_inl, Sum.elim_inr, jt2, jt3, jt4, jt5, jt6, jt7, jt8]
              refine ⟨?_, ?_, ?_, ?_⟩
              · (first | assumption | omega | ((try dsimp only [jt2, jt3, jt4]); first | omega | (simp (disch := omega) only [jst_eq, jst_ne, jst_ni, jst_o, jI_i, jcpy_out, w32_id, jdiv_nn, jshr_k, jand_255] <;> first | done | omega | assumption)) | (intros; simp (disch := omega) only [jst_eq, jst_ne, jst_ni, jst_o, jI_i, jcpy_out, w32_id, jdiv_nn, *] <;> first | done | omega) | (intros; simp (disch := omega) only [jst_eq, jst_ne, jst_ni, jst_o, jI_i, jcpy_out, w32_id, jdiv_nn] at * <;> first | done | omega | assumption) | (intros; first | rfl | (exfalso; omega) | ((repeat' apply And.intro) <;> first | assumption | rfl | omega | trivial))) -- o64 e5.1
              · (intro _; rw [← ewv]; obtain ⟨fo, u1, u2, u3⟩ := oo7; refine ⟨fo, ?_, u2, fun z => fMr_t MR10 (u3 z)⟩; rw [P10, W71, W63, E38] at u1; exact u1) -- o65 e5.2
              · (intro _; exact fMr_qt MR10 fr7) -- o66 e5.3
              · (intro y; exact as7 (by rw [E38]; exact y)) -- o67 e5.4
            · skip
              try simp (disch := omega) only [jst_eq, jst_ne, jst_ni, jI_i, jcmp_lt, jcmp_gt, w32_id, jcpy_out, Sum.elim_inl, Sum.elim_inr, jt2, jt3, jt4, jt5, jt6, jt7, jt8] at c6
              refine OK_jg (by (first | assumption | omega | ((try dsimp only [jt2, jt3, jt4]); first | omega | (simp (disch := omega) only [jst_eq, jst_ne, jst_ni, jst_o, jI_i, jcpy_out, w32_id, jdiv_nn, jshr_k, jand_255] <;> first | done | omega | assumption)) | (intros; simp (disch := omega) only [jst_eq, jst_ne, jst_ni, jst_o, jI_i, jcpy_out, w32_id, jdiv_nn, *] <;> first | done | omega) | (intros; simp (disch := omega) only [jst_eq, jst_ne, jst_ni, jst_o, jI_i, jcpy_out, w32_id, jdiv_nn] at * <;> first | done | omega | assumption) | (intros; first | rfl | (exfalso; omega) | ((repeat' apply And.intro) <;> first | assumption | rfl | omega | trivial)))) ?_ -- o68
              refine OK_jb (vX14_note _ _ (by exact mi) (by (rw [v4, pl]; have g := gT_i gt; exact ⟨by decide, by decide, g.1, g.2.1⟩))) (fun h22 r9 => ?_)
              try dsimp only [Sum.elim_inl, Sum.elim_inr, jt2, jt3, jt4, jt5, jt6, jt7, jt8] at r9
              obtain ⟨m8, k8, fr8⟩ := r9
              try simp (disch := omega) only [jst_eq, jst_ne, jst_ni, jI_i, jcmp_lt, jcmp_gt, w32_id, jcpy_out, Sum.elim_inl, Sum.elim_inr, jt2, jt3, jt4, jt5, jt6, jt7, jt8] at m8
              try simp (disch := omega) only [jst_eq, jst_ne, jst_ni, jI_i, jcmp_lt, jcmp_gt, w32_id, jcpy_out, Sum.elim_inl, Sum.elim_inr, jt2, jt3, jt4, jt5, jt6, jt7, jt8] at k8
              try simp (disch := omega) only [jst_eq, jst_ne, jst_ni, jI_i, jcmp_lt, jcmp_gt, w32_id, jcpy_out, Sum.elim_inl, Sum.elim_inr, jt2, jt3, jt4, jt5, jt6, jt7, jt8] at fr8
              have F19 : ∀ a s, ¬ (a = 454 ∧ (s = 30 ∨ s = 31)) → h22 a s = h13 a s := fr8
              have MKW : MK h22 = keyE EP wv T := by { rw [KW, k8, v4, pl, if_pos]; have e := EWV; rw [if_neg c4] at e; have C := akM_0 (AK10 c4).1.1; refine ⟨by have := C.2.2.2.2.2.2.2; omega, fun y => c5 (by rw [k66]; exact CK.2.2.mpr y), fun y => c6 (by rw [k66, C.2.2.2.2.1, y, e])⟩ }
              have AK19 : ¬ h22 454 38 = 0 → asM h22 E Rf W K tp ∧ EP = EPn E (kA K).1 (kA K).2.1 := fun y => by { have y2 : ¬ h13 454 38 = 0 := (by rw [← F19 454 38 (by omega)]; exact y); exact ⟨W10 _ (fun a s y1 _ => F19 a s (by omega)) (by rw [← E38]; exact y2), (AK10 y2).2⟩ }
              have T19 : v12 = 4400 ∧ rawS h22 T 4400 0 4401 (-1) ∧ sz T ≤ 1001 ∧ (fkE EP T 0 0 = 1000000 → resM h22 (rsE EP T 0) 4400 0) := ⟨v4, rawS_fr (fun s => F19 _ _ (by omega)) (fun s => F19 _ _ (by omega)) (fun s => F19 _ _ (by omega)) (fun s => F19 _ _ (by omega)) (fun s => F19 _ _ (by omega)) rs0, szT, fun y => resM_fr (fun a s a0 a1 => F19 _ _ (by omega)) (res y)⟩
              refine OK_mono (vX14_mend_j76 (B := B) (n := n) (q1 := q1) (w := wv) (E := E) (EP := EP) (Rf := Rf) (W := W) (K := K) (tp := tp) (T := T) _ _ (by exact hB) (by exact ⟨T1, T2⟩) (by exact ⟨ac, l0, ew⟩) (by exact cA) (by exact MS_fr ms (fun s s0 s1 => F19 _ _ (by omega))) (by exact m8) (by exact MKW) (by exact eA) (by exact AK19) (by (rw [F19 _ _ (by omega)]; exact EWV)) (by exact T19) (by (rw [F19 _ _ (by omega), F19 _ _ (by omega)]; exact L10)) (by (rw [F19 _ _ (by omega), W71]; exact w71)) (by exact PR)) (fun r r10 => ?_)
              obtain ⟨y7, y8⟩ := r
              try dsimp only [Sum.elim_inl, Sum.elim_inr, jt2, jt3, jt4, jt5, jt6, jt7, jt8] at r10
              obtain ⟨oo9, fr9, as9⟩ := r10
              try simp (disch := omega) only [jst_eq, jst_ne, jst_ni, jI_i, jcmp_lt, jcmp_gt, w32_id, jcpy_out, Sum.elim_inl, Sum.elim_inr, jt2, jt3, jt4, jt5, jt6, jt7, jt8] at oo9
              try simp (disch := omega) only [jst_eq, jst_ne, jst_ni, jI_i, jcmp_lt, jcmp_gt, w32_id, jcpy_out, Sum.elim_inl, Sum.elim_inr, jt2, jt3, jt4, jt5, jt6, jt7, jt8] at fr9
              try simp (disch := omega) only [jst_eq, jst_ne, jst_ni, jI_i, jcmp_lt, jcmp_gt, w32_id, jcpy_out, Sum.elim_inl, Sum.elim_inr, jt2, jt3, jt4, jt5, jt6, jt7, jt8] at as9
              try dsimp only [Sum.elim_inl, Sum.elim_inr, jt2, jt3, jt4, jt5, jt6, jt7, jt8]
              try dsimp only [Sum.elim_inl, Sum.elim_inr, jt2, jt3, jt4, jt5, jt6, jt7, jt8]
              refine ⟨?_, ?_, ?_, ?_⟩
              · (first | assumption | omega | ((try dsimp only [jt2, jt3, jt4]); first | omega | (simp (disch := omega) only [jst_eq, jst_ne, jst_ni, jst_o, jI_i, jcpy_out, w32_id, jdiv_nn, jshr_k, jand_255] <;> first | done | omega | assumption)) | (intros; simp (disch := omega) only [jst_eq, jst_ne, jst_ni, jst_o, jI_i, jcpy_out, w32_id, jdiv_nn, *] <;> first | done | omega) | (intros; simp (disch := omega) only [jst_eq, jst_ne, jst_ni, jst_o, jI_i, jcpy_out, w32_id, jdiv_nn] at * <;> first | done | omega | assumption) | (intros; first | rfl | (exfalso; omega) | ((repeat' apply And.intro) <;> first | assumption | rfl | omega | trivial))) -- o85 e6.1
              · (intro _; rw [← ewv]; obtain ⟨fo, u1, u2, u3⟩ := oo9; refine ⟨fo, ?_, u2, fun z => fMr_t MR10 (fMr_t (fun a s y1 y2 y3 y4 y5 y6 y7 y8 y9 y10 => F19 a s (by omega)) (u3 z))⟩; rw [F19 454 55 (by omega), F19 454 71 (by omega), F19 454 63 (by omega), F19 454 38 (by omega), P10, W71, W63, E38] at u1; exact u1) -- o86 e6.2
              · (intro _; exact fMr_qt (fMr_t MR10 (fun a s y1 y2 y3 y4 y5 y6 y7 y8 y9 y10 => F19 a s (by omega))) fr9) -- o87 e6.3
              · (intro y; exact as9 (by rw [F19 454 38 (by omega), E38]; exact y)) -- o88 e6.4
  · skip
    try simp (disch := omega) only [jst_eq, jst_ne, jst_ni, jI_i, jcmp_lt, jcmp_gt, w32_id, jcpy_out, Sum.elim_inl, Sum.elim_inr, jt2, jt3, jt4, jt5, jt6, jt7, jt8] at c1
    refine OK_some ?_
    try dsimp only [Sum.elim_inl, Sum.elim_inr, jt2, jt3, jt4, jt5, jt6, jt7, jt8]
    try dsimp only [Sum.elim_inl, Sum.elim_inr, jt2, jt3, jt4, jt5, jt6, jt7, jt8]
    refine ⟨?_, ?_, ?_, ?_⟩
    · (intro _; exact ⟨by omega, dh1⟩) -- o89 e7.1
    · (intro y; exfalso; omega) -- o90 e7.2
    · (intro y; exfalso; omega) -- o91 e7.3
    · (intro y; refine asM_g (ak y) (fun a s q => F3 a s (by unfold mA at q; omega)) (fun a s q => F3 a s (by unfold tA at q; omega)) ?_; have z := (ak y).1.2; unfold b20 at z ⊢; rw [F3 _ _ (by omega), F3 _ _ (by omega)]; exact z) -- o92 e7.4

