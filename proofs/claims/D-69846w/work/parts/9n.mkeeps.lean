/-! m: a term is kept by a loop -/
theorem wgP {h : AH} {E : EV} {Rf : Int → TR} {EP : EV} {T : TR} {a1 : Int} (mi : MI h) (hc : 0 ≤ h 454 35 ∧ h 454 35 ≤ 2000) (ev : evM h 0 EP) (e1 : EP.1 = E.1) (e2 : EP.2.2 = E.2.2) (ew : ewO E) (ow : ownM h E.1.1 E.1.2.2.2.1 Rf) (t : toW h T a1) (rg : a1 + sz T ≤ 5500) : OK (gX14_weighed a1 0 h) (fun r => jt2 r fun v h' => (v = kch (kdE EP T) ∧ -1 ≤ kdE EP T ∧ kdE EP T ≤ 2) ∧ MI h' ∧ MK h' = min (MK h) (keyE EP (-1) T) ∧ dnM h' EP T a1 ∧ h' 468 a1 = plT T ∧ (∀ a s, ¬ (a = 454 ∧ (s = 30 ∨ s = 31)) → ¬ (461 ≤ a ∧ a ≤ 463 ∧ a1 ≤ s ∧ s < a1 + sz T) → h' a s = h a s)) := by
  obtain ⟨p1, p2, p3⟩ := EP
  obtain ⟨f1, f2, f3⟩ := E
  have g1 : p1 = f1 := e1
  have g2 : p3 = f3 := e2
  subst g1 g2
  have KD := kdE_r ev t.1.2.1
  have pl := toW_p t
  have hl := t.2.1
  have st := sz_pos T
  refine OK_mono (vX14_weighed a1 0 (E := (p1, p2, p3)) (T := T) (Rf := Rf) ev t.1 mi (by rw [hl]; omega) ew ow ⟨t.2.2, rg⟩) (fun r p => ?_)
  obtain ⟨v, h'⟩ := r
  have p : posW (p1, p2, p3) T a1 h v h' := p
  obtain ⟨q1, q2, q3, q4, q5, q6, q7⟩ := p
  have c := (okN_C (E := (p1, p2, p3)) (by decide : (30 : Int) ≤ 50) t.2.2 t.1 q7 q5).1
  rw [fkE_h0 hl] at q3 q6
  have e35 : h' 454 35 = h 454 35 := by omega
  have F : ∀ a s, ¬ (a = 454 ∧ (s = 30 ∨ s = 31)) → ¬ (461 ≤ a ∧ a ≤ 463 ∧ a1 ≤ s ∧ s < a1 + sz T) → h' a s = h a s := fun a s y1 y2 => by
    by_cases q : a = 454 ∧ s = 35
    · rw [q.1, q.2]; exact e35
    · exact q7 a s (by omega) (by omega)
  have mr := MK_r mi
  refine ⟨⟨q1, KD⟩, q2, ?_, fun z hh g => ?_, (F 468 a1 (by omega) (by omega)).trans pl.1, F⟩
  · rw [q3]
    unfold keyE toE
    rw [if_neg (show ¬ ((-1 : Int) ≠ -1 ∧ kdE (p1, p2, p3) T ≠ -1 ∧ kdE (p1, p2, p3) T ≠ -1) from fun z => z.1 rfl)]
    omega
  · have m := q6 z
    rw [rsE_h0 hl t.1.2.1] at m
    exact resM_ag (h := h') g (Int.le_refl _) (Int.le_refl _) (by omega) (by omega) (by omega) c m
def frKm (h h' : AH) : Prop := ∀ b s, ¬ (b = 454 ∧ (s = 17 ∨ s = 20 ∨ (25 ≤ s ∧ s ≤ 31) ∨ s = 34 ∨ s = 51 ∨ s = 53 ∨ s = 55 ∨ (93 ≤ s ∧ s ≤ 95) ∨ s = 97 ∨ (99 ≤ s ∧ s ≤ 108))) → ¬ (b = 472 ∧ (s = 6 ∨ s = 7)) → ¬ (460 ≤ b ∧ b ≤ 470 ∧ b ≠ 464 ∧ 4400 ≤ s ∧ s < 5500) → ¬ (b = 464 ∧ 13200 ≤ s ∧ s < 16500) → ¬ ((b = 474 ∨ b = 475) ∧ 0 ≤ s ∧ s < 3) → ¬ ((b = 815 ∨ b = 816) ∧ 0 ≤ s) → ¬ (b = 473 ∧ 0 ≤ s ∧ s < 2000) → h' b s = h b s
theorem frKm_t {h h1 h2 : AH} (x : frKm h h1) (y : frKm h1 h2) : frKm h h2 := fun b s y1 y2 y3 y4 y5 y6 y7 => (y b s y1 y2 y3 y4 y5 y6 y7).trans (x b s y1 y2 y3 y4 y5 y6 y7)
theorem mkB_f {h h' : AH} {N : Int} (m : mkB h N) (f : ∀ b s, ((b = 454 ∧ (s = 97 ∨ s = 99)) ∨ b = 815 ∨ b = 816) → h' b s = h b s) : mkB h' N := by
  obtain ⟨m1, m2, m3, m4⟩ := m
  refine ⟨by rw [f _ _ (by omega)]; exact m1, fun p p0 p1 => ?_, by rw [f _ _ (by omega)]; exact m3, fun p p0 p1 => ?_⟩
  · rw [f 815 p (by omega), f 454 97 (by omega)]; exact m2 p p0 p1
  · rw [f 816 p (by omega), f 454 99 (by omega)]; exact m4 p p0 p1
theorem rnM_of {h : AH} {E : EV} {Rf : Int → TR} {W : Int → Int → Int → VW} {L : LE} (om : ownsM h E Rf) (wo : wOK E Rf W) (l0 : E.2.2.1 = 0) (c : h 454 21 = -1) (b : bd20 h) (lo : loP h L) (v : vLE E L) : rnM h E Rf W L := ⟨⟨enuM_of om.1 om.2.1 wo (fun z => by rw [l0] at z; exact absurd z (by decide)) om.2.2.1 om.2.2.2.1 om.2.2.2.2.2.1 (Or.inl (by decide)), c, b⟩, loP_M lo, v⟩
theorem vX14_keeps_j96 (a1 : Int) {h : AH} {B : Int → Int} {n q N : Int} {E : EV} {Rf : Int → TR} {W : Int → Int → Int → VW} {L : LE} {T : TR} (m : MS B n q h) (mi : MI h) (a0 : 0 ≤ a1) (mb : mkB h N ∧ N ≤ 800000000) (om : ownsM h E Rf ∧ wOK E Rf W ∧ E.2.2.1 = 0 ∧ h 454 21 = -1 ∧ bd20 h) (lo : h 454 92 = 0 ∨ ((h 454 92 = 805 ∨ h 454 92 = 810) ∧ loP h L ∧ vLE E L ∧ (MK h = 1000000 → atM h T a1 ∧ tmW E L.2.1.1 L.2.1.2 T 1))) : OK (gX14_keeps_j96 a1 h) (fun r => jt2 r fun v h' => (tO B n q ≠ 0 → v = -11 ∧ h' 454 55 = tS B n q) ∧ (tO B n q = 0 → MK h ≠ 1000000 → v = -10 - MK h % 8 ∧ h' 454 55 = MK h / 8) ∧ (tO B n q = 0 → MK h = 1000000 → h' 454 55 = h 454 55 ∧ (h 454 92 = 0 → v = -2) ∧ (h 454 92 ≠ 0 → KPr W L T v)) ∧ (frKm h h') ∧ (mkB h' (N + 257)) ∧ (bd20 h')) := by
  unfold gX14_keeps_j96
  refine OK_jb2 (vX14_finish (B := B) (n := n) (q := q) (by (first | assumption | omega | ((try dsimp only [jt2, jt3, jt4]); first | omega | (simp (disch := omega) only [jst_eq, jst_ne, jst_ni, jst_o, jI_i, jcpy_out, w32_id, jdiv_nn, jshr_k, jand_255] <;> first | done | omega | assumption)) | (intros; simp (disch := omega) only [jst_eq, jst_ne, jst_ni, jst_o, jI_i, jcpy_out, w32_id, jdiv_nn, *] <;> first | done | omega) | (intros; simp (disch := omega) only [jst_eq, jst_ne, jst_ni, jst_o, jI_i, jcpy_out, w32_id, jdiv_nn] at * <;> first | done | omega | assumption) | (intros; first | rfl | (exfalso; omega) | ((repeat' apply And.intro) <;> first | assumption | rfl | omega | trivial)))) (by (first | assumption | omega | ((try dsimp only [jt2, jt3, jt4]); first | omega | (simp (disch := omega) only [jst_eq, jst_ne, jst_ni, jst_o, jI_i, jcpy_out, w32_id, jdiv_nn, jshr_k, jand_255] <;> first | done | omega | assumption)) | (intros; simp (disch := omega) only [jst_eq, jst_ne, jst_ni, jst_o, jI_i, jcpy_out, w32_id, jdiv_nn, *] <;> first | done | omega) | (intros; simp (disch := omega) only [jst_eq, jst_ne, jst_ni, jst_o, jI_i, jcpy_out, w32_id, jdiv_nn] at * <;> first | done | omega | assumption) | (intros; first | rfl | (exfalso; omega) | ((repeat' apply And.intro) <;> first | assumption | rfl | omega | trivial))))) (fun t36 h38 r1 => ?_)
  try dsimp only [Sum.elim_inl, Sum.elim_inr, jt2, jt3, jt4, jt5, jt6, jt7, jt8] at r1
  obtain ⟨bad1, good1, flt1, fr1⟩ := r1
  try simp (disch := omega) only [jst_eq, jst_ne, jst_ni, jI_i, jcmp_lt, jcmp_gt, w32_id, jcpy_out, Sum.elim_inl, Sum.elim_inr, jt2, jt3, jt4, jt5, jt6, jt7, jt8] at bad1
  try simp (disch := omega) only [jst_eq, jst_ne, jst_ni, jI_i, jcmp_lt, jcmp_gt, w32_id, jcpy_out, Sum.elim_inl, Sum.elim_inr, jt2, jt3, jt4, jt5, jt6, jt7, jt8] at good1
  try simp (disch := omega) only [jst_eq, jst_ne, jst_ni, jI_i, jcmp_lt, jcmp_gt, w32_id, jcpy_out, Sum.elim_inl, Sum.elim_inr, jt2, jt3, jt4, jt5, jt6, jt7, jt8] at flt1
  try simp (disch := omega) only [jst_eq, jst_ne, jst_ni, jI_i, jcmp_lt, jcmp_gt, w32_id, jcpy_out, Sum.elim_inl, Sum.elim_inr, jt2, jt3, jt4, jt5, jt6, jt7, jt8] at fr1
  have F38 : frKm h h38 := fun b s _ y2 _ _ _ _ _ => fr1 b s y2
  have MB38 : mkB h38 N := mkB_f mb.1 (fun b s y => fr1 b s (by omega))
  have C38 : h38 454 21 = -1 ∧ bd20 h38 := ⟨by { rw [fr1 _ _ (by omega)]; exact om.2.2.2.1 }, by { unfold bd20; rw [fr1 _ _ (by omega)]; exact om.2.2.2.2 }⟩
  have OM38 : ownsM h38 E Rf := ownsM_fr om.1 (fr1 _ _ (by omega)) (fun a s a0 a1 => fr1 _ _ (by omega)) ⟨fun a s a0 a1 a2 s0 s1 => fr1 _ _ (by omega), fun s s0 s1 => fr1 _ _ (by omega)⟩
  have E92 : h38 454 92 = h 454 92 := fr1 _ _ (by omega)
  refine OK_jq (fun c1 => ?_) (fun c1 => ?_)
  · skip
    have FT : t36 = 472 ∧ ((tO B n q ≠ 0 ∧ h38 472 6 = 1 ∧ h38 472 7 = tS B n q) ∨ (tO B n q = 0 ∧ MK h ≠ 1000000 ∧ h38 472 6 = MK h % 8 ∧ h38 472 7 = MK h / 8 ∧ 1 ≤ MK h % 8 ∧ MK h % 8 ≤ 6)) := by { by_cases o : tO B n q = 0; { have nb : MK h ≠ 1000000 := fun y => c1 (good1 o y); have f := flt1 o nb; exact ⟨f.1, Or.inr ⟨o, nb, f.2.1, f.2.2.1, f.2.2.2.1, f.2.2.2.2.1⟩⟩ }; { have f := bad1 o; have f1 := f.2.1; have f2 := f.2.2; exact ⟨f.1, Or.inl ⟨o, f1, f2⟩⟩ } }
    refine OK_jg (by (first | assumption | omega | ((try dsimp only [jt2, jt3, jt4]); first | omega | (simp (disch := omega) only [jst_eq, jst_ne, jst_ni, jst_o, jI_i, jcpy_out, w32_id, jdiv_nn, jshr_k, jand_255] <;> first | done | omega | assumption)) | (intros; simp (disch := omega) only [jst_eq, jst_ne, jst_ni, jst_o, jI_i, jcpy_out, w32_id, jdiv_nn, *] <;> first | done | omega) | (intros; simp (disch := omega) only [jst_eq, jst_ne, jst_ni, jst_o, jI_i, jcpy_out, w32_id, jdiv_nn] at * <;> first | done | omega | assumption) | (intros; first | rfl | (exfalso; omega) | ((repeat' apply And.intro) <;> first | assumption | rfl | omega | trivial)))) ?_ -- o3
    refine OK_jb2 (vX14_faulty _ (by (first | assumption | omega | ((try dsimp only [jt2, jt3, jt4]); first | omega | (simp (disch := omega) only [jst_eq, jst_ne, jst_ni, jst_o, jI_i, jcpy_out, w32_id, jdiv_nn, jshr_k, jand_255] <;> first | done | omega | assumption)) | (intros; simp (disch := omega) only [jst_eq, jst_ne, jst_ni, jst_o, jI_i, jcpy_out, w32_id, jdiv_nn, *] <;> first | done | omega) | (intros; simp (disch := omega) only [jst_eq, jst_ne, jst_ni, jst_o, jI_i, jcpy_out, w32_id, jdiv_nn] at * <;> first | done | omega | assumption) | (intros; first | rfl | (exfalso; omega) | ((repeat' apply And.intro) <;> first | assumption | rfl | omega | trivial))))) (fun v41 h42 r2 => ?_)
    try dsimp only [Sum.elim_inl, Sum.elim_inr, jt2, jt3, jt4, jt5, jt6, jt7, jt8] at r2
    obtain ⟨vv2, fr2⟩ := r2
    try simp (disch := omega) only [jst_eq, jst_ne, jst_ni, jI_i, jcmp_lt, jcmp_gt, w32_id, jcpy_out, Sum.elim_inl, Sum.elim_inr, jt2, jt3, jt4, jt5, jt6, jt7, jt8] at vv2
    try simp (disch := omega) only [jst_eq, jst_ne, jst_ni, jI_i, jcmp_lt, jcmp_gt, w32_id, jcpy_out, Sum.elim_inl, Sum.elim_inr, jt2, jt3, jt4, jt5, jt6, jt7, jt8] at fr2
    refine OK_some ?_
    try dsimp only [Sum.elim_inl, Sum.elim_inr, jt2, jt3, jt4, jt5, jt6, jt7, jt8]
    try dsimp only [Sum.elim_inl, Sum.elim_inr, jt2, jt3, jt4, jt5, jt6, jt7, jt8]
    refine ⟨?_, ?_, ?_, ?_, ?_, ?_⟩
    · (intro o; rcases FT.2 with ⟨_, x1, x2⟩ | ⟨o', _⟩; { rw [fr2]; exact ⟨by omega, by rw [jst_eq]; exact x2⟩ }; { exact absurd o' o }) -- o5 e1.1
    · (intro o nb; rcases FT.2 with ⟨o', _⟩ | ⟨_, _, x1, x2, _⟩; { exact absurd o o' }; { rw [fr2]; exact ⟨by omega, by rw [jst_eq]; exact x2⟩ }) -- o6 e1.2
    · (intro o nb; exfalso; exact c1 (good1 o nb)) -- o7 e1.3
    · (rw [fr2]; exact fun b s y1 y2 y3 y4 y5 y6 y7 => (by rw [jst_o (by omega)]; exact F38 b s y1 y2 y3 y4 y5 y6 y7)) -- o8 e1.4
    · (rw [fr2]; have x := mkB_f (h' := jst h38 454 55 (h38 472 7)) MB38 (fun b s y => jst_o (by omega)); exact ⟨⟨x.1.1, by have := x.1.2; omega⟩, x.2.1, ⟨x.2.2.1.1, by have := x.2.2.1.2; omega⟩, x.2.2.2⟩) -- o9 e1.5
    · (rw [fr2]; unfold bd20; rw [jst_o (by omega)]; exact C38.2) -- o10 e1.6
  · skip
    have O0 : tO B n q = 0 := Classical.byContradiction fun y => by { have := (bad1 y).1; omega }
    have KB : MK h = 1000000 := Classical.byContradiction fun y => by { have := (flt1 O0 y).1; omega }
    refine OK_if (fun c2 => ?_) (fun c2 => ?_)
    · skip
      try simp (disch := omega) only [jst_eq, jst_ne, jst_ni, jI_i, jcmp_lt, jcmp_gt, w32_id, jcpy_out, Sum.elim_inl, Sum.elim_inr, jt2, jt3, jt4, jt5, jt6, jt7, jt8] at c2
      refine OK_some ?_
      try dsimp only [Sum.elim_inl, Sum.elim_inr, jt2, jt3, jt4, jt5, jt6, jt7, jt8]
      try dsimp only [Sum.elim_inl, Sum.elim_inr, jt2, jt3, jt4, jt5, jt6, jt7, jt8]
      refine ⟨?_, ?_, ?_, ?_, ?_, ?_⟩
      · exact fun o => absurd O0 o -- o11 e2.1
      · exact fun _ nb => absurd KB nb -- o12 e2.2
      · exact fun _ _ => ⟨fr1 _ _ (by omega), fun _ => rfl, fun w => absurd (by rw [← E92]; exact c2) w⟩ -- o13 e2.3
      · exact F38 -- o14 e2.4
      · exact ⟨⟨MB38.1.1, by have := MB38.1.2; omega⟩, MB38.2.1, ⟨MB38.2.2.1.1, by have := MB38.2.2.1.2; omega⟩, MB38.2.2.2⟩ -- o15 e2.5
      · exact C38.2 -- o16 e2.6
    · skip
      try simp (disch := omega) only [jst_eq, jst_ne, jst_ni, jI_i, jcmp_lt, jcmp_gt, w32_id, jcpy_out, Sum.elim_inl, Sum.elim_inr, jt2, jt3, jt4, jt5, jt6, jt7, jt8] at c2
      obtain ⟨L92, LP, VL, TK⟩ := lo.resolve_left (fun w => c2 (by rw [E92]; exact w))
      obtain ⟨AT, TW⟩ := TK KB
      have LP38 : loP h38 L := loP_f LP E92 (fun b s b0 b1 => fr1 b s (by omega)) ⟨fun b s b0 b1 b2 s0 s1 => fr1 b s (by omega), fun s s0 s1 => fr1 _ _ (by omega)⟩
      have RN38 : rnM h38 E Rf W L := rnM_of OM38 om.2.1 om.2.2.1 C38.1 C38.2 LP38 VL
      refine OK_jb (vX14_playAll (N := N) _ _ (by exact ⟨MB38, by omega⟩)) (fun h45 r3 => ?_)
      try dsimp only [Sum.elim_inl, Sum.elim_inr, jt2, jt3, jt4, jt5, jt6, jt7, jt8] at r3
      obtain ⟨sn3, cs3, fr3⟩ := r3
      try simp (disch := omega) only [jst_eq, jst_ne, jst_ni, jI_i, jcmp_lt, jcmp_gt, w32_id, jcpy_out, Sum.elim_inl, Sum.elim_inr, jt2, jt3, jt4, jt5, jt6, jt7, jt8] at sn3
      try simp (disch := omega) only [jst_eq, jst_ne, jst_ni, jI_i, jcmp_lt, jcmp_gt, w32_id, jcpy_out, Sum.elim_inl, Sum.elim_inr, jt2, jt3, jt4, jt5, jt6, jt7, jt8] at cs3
      try simp (disch := omega) only [jst_eq, jst_ne, jst_ni, jI_i, jcmp_lt, jcmp_gt, w32_id, jcpy_out, Sum.elim_inl, Sum.elim_inr, jt2, jt3, jt4, jt5, jt6, jt7, jt8] at fr3
      have G45 : fPl h38 h45 := fun b s y1 y2 => fr3 b s (by omega)
      have RN45 : rnM h45 E Rf W L := rnM_f RN38 (by unfold bd20; rw [fr3 454 20 (by omega)]; exact C38.2) G45
      have MB45 : mkB h45 (N + 1) := ⟨by { rw [fr3 _ _ (by omega)]; have := MB38.1; omega }, fun p p0 p1 => by { rw [fr3 _ _ (by omega), fr3 _ _ (by omega)]; exact MB38.2.1 p p0 p1 }, by { have := MB38.2.2.1; omega }, fun p p0 p1 => by { rw [fr3 _ _ (by omega)]; have := MB38.2.2.2 p p0 p1; omega }⟩
      have AT45 : atM h45 T a1 := atM_f AT (fun b s b0 b1 => by rw [G45 b s (by omega) (by omega)]; exact fr1 b s (by omega))
      refine OK_jb (vX14_keeps_l128 (E := E) (Rf := Rf) (W := W) (L := L) (N := N + 1) (T := T) _ (by exact RN45) (by exact ⟨MB45, by omega⟩) (by (rw [cs3.1]; exact ⟨a0, AT45, TW⟩)) (by exact sn3 _) (by rfl)) (fun o46 r4 => ?_)
      rcases o46 with o48 | o49
      · skip
        have r5 := r4; clear r4
        dsimp only [Sum.elim_inl, Sum.elim_inr] at r5
        refine OK_jml ?_
        obtain ⟨y50, h51⟩ := o48
        refine OK_jt2 ?_
        try dsimp only [Sum.elim_inl, Sum.elim_inr, jt2, jt3, jt4, jt5, jt6, jt7, jt8] at r5
        obtain ⟨kp4, mk4, fr4, bb4⟩ := r5
        try simp (disch := omega) only [jst_eq, jst_ne, jst_ni, jI_i, jcmp_lt, jcmp_gt, w32_id, jcpy_out, Sum.elim_inl, Sum.elim_inr, jt2, jt3, jt4, jt5, jt6, jt7, jt8] at kp4
        try simp (disch := omega) only [jst_eq, jst_ne, jst_ni, jI_i, jcmp_lt, jcmp_gt, w32_id, jcpy_out, Sum.elim_inl, Sum.elim_inr, jt2, jt3, jt4, jt5, jt6, jt7, jt8] at mk4
        try simp (disch := omega) only [jst_eq, jst_ne, jst_ni, jI_i, jcmp_lt, jcmp_gt, w32_id, jcpy_out, Sum.elim_inl, Sum.elim_inr, jt2, jt3, jt4, jt5, jt6, jt7, jt8] at fr4
        try simp (disch := omega) only [jst_eq, jst_ne, jst_ni, jI_i, jcmp_lt, jcmp_gt, w32_id, jcpy_out, Sum.elim_inl, Sum.elim_inr, jt2, jt3, jt4, jt5, jt6, jt7, jt8] at bb4
        obtain ⟨ff, e48, y0, y1, f0, f1, KP⟩ := kp4
        have W1 : w32 (10000 * y50) = 10000 * y50 := w32_id (by omega) (by omega)
        have W2 : w32 (10000 * y50 + h51 454 101) = 10000 * y50 + ff := by { rw [e48]; exact w32_id (by omega) (by omega) }
        refine OK_some ?_
        try dsimp only [Sum.elim_inl, Sum.elim_inr, jt2, jt3, jt4, jt5, jt6, jt7, jt8]
        try dsimp only [Sum.elim_inl, Sum.elim_inr, jt2, jt3, jt4, jt5, jt6, jt7, jt8]
        refine ⟨?_, ?_, ?_, ?_, ?_, ?_⟩
        · exact fun o => absurd O0 o -- o23 e3.1
        · exact fun _ nb => absurd KB nb -- o24 e3.2
        · (rw [W1, W2]; exact fun _ _ => ⟨by rw [fr4.1 _ _ (by omega) (by omega), G45 _ _ (by omega) (by omega)]; exact fr1 _ _ (by omega), fun w => absurd w (by omega), fun _ => KP⟩) -- o25 e3.3
        · exact fun b s y1 y2 y3 y4 y5 y6 y7 => (by rw [fr4.1 b s (by omega) y6, G45 b s (by omega) y6]; exact F38 b s y1 y2 y3 y4 y5 y6 y7) -- o26 e3.4
        · (have b1 := MB45.1; have b2 := MB45.2.2.1; have e9 := fr4.2.2; exact ⟨⟨by have := mk4.1; omega, by have := mk4.1; omega⟩, mk4.2.1, ⟨by omega, by omega⟩, mk4.2.2⟩) -- o27 e3.5
        · exact bb4 -- o28 e3.6
      · skip
        have r6 := r4; clear r4
        dsimp only [Sum.elim_inl, Sum.elim_inr] at r6
        try dsimp only [Sum.elim_inl, Sum.elim_inr, jt2, jt3, jt4, jt5, jt6, jt7, jt8] at r6
        obtain ⟨kp5, mk5, fr5, bb5⟩ := r6
        try simp (disch := omega) only [jst_eq, jst_ne, jst_ni, jI_i, jcmp_lt, jcmp_gt, w32_id, jcpy_out, Sum.elim_inl, Sum.elim_inr, jt2, jt3, jt4, jt5, jt6, jt7, jt8] at kp5
        try simp (disch := omega) only [jst_eq, jst_ne, jst_ni, jI_i, jcmp_lt, jcmp_gt, w32_id, jcpy_out, Sum.elim_inl, Sum.elim_inr, jt2, jt3, jt4, jt5, jt6, jt7, jt8] at mk5
        try simp (disch := omega) only [jst_eq, jst_ne, jst_ni, jI_i, jcmp_lt, jcmp_gt, w32_id, jcpy_out, Sum.elim_inl, Sum.elim_inr, jt2, jt3, jt4, jt5, jt6, jt7, jt8] at fr5
        try simp (disch := omega) only [jst_eq, jst_ne, jst_ni, jI_i, jcmp_lt, jcmp_gt, w32_id, jcpy_out, Sum.elim_inl, Sum.elim_inr, jt2, jt3, jt4, jt5, jt6, jt7, jt8] at bb5
        refine OK_jmr ?_
        refine OK_some ?_
        try dsimp only [Sum.elim_inl, Sum.elim_inr, jt2, jt3, jt4, jt5, jt6, jt7, jt8]
        try dsimp only [Sum.elim_inl, Sum.elim_inr, jt2, jt3, jt4, jt5, jt6, jt7, jt8]
        refine ⟨?_, ?_, ?_, ?_, ?_, ?_⟩
        · exact fun o => absurd O0 o -- o29 e4.1
        · exact fun _ nb => absurd KB nb -- o30 e4.2
        · exact fun _ _ => ⟨by rw [fr5.1 _ _ (by omega) (by omega), G45 _ _ (by omega) (by omega)]; exact fr1 _ _ (by omega), fun w => absurd w (by omega), fun _ => kp5⟩ -- o31 e4.3
        · exact fun b s y1 y2 y3 y4 y5 y6 y7 => (by rw [fr5.1 b s (by omega) y6, G45 b s (by omega) y6]; exact F38 b s y1 y2 y3 y4 y5 y6 y7) -- o32 e4.4
        · (have b1 := MB45.1; have b2 := MB45.2.2.1; have e9 := fr5.2.2; exact ⟨⟨by have := mk5.1; omega, by have := mk5.1; omega⟩, mk5.2.1, ⟨by omega, by omega⟩, mk5.2.2⟩) -- o33 e4.5
        · exact bb5 -- o34 e4.6
theorem ft_o {B : Int → Int} {n q : Int} {W : Int → Int → Int → VW} {L : LE} {EP : EV} {T : TR} {th : Prop} {K p0 v p1 l92 : Int} {eA : pA B n false (beg B n) = if tO B n q = 0 then .inr T else .inl (tS B n q)} (o1 : tO B n q ≠ 0 → v = -11 ∧ p1 = tS B n q) (o2 : tO B n q = 0 → K ≠ 1000000 → v = -10 - K % 8 ∧ p1 = K / 8) (o3 : tO B n q = 0 → K = 1000000 → p1 = p0 ∧ (l92 = 0 → v = -2) ∧ (l92 ≠ 0 → KPr W L (rsE EP T 0) v)) (ek : K = keyE EP 1 T) (eth : th ↔ l92 ≠ 0) : outKp EP th W L (pA B n false (beg B n)) p0 v p1 := by
  rw [eA]
  by_cases o : tO B n q = 0
  · rw [if_pos o]
    subst ek
    refine ⟨fun k => ?_, fun k => o2 o k⟩
    obtain ⟨y1, y2, y3⟩ := o3 o k
    exact ⟨y1, fun w => y2 (Classical.byContradiction fun x => w (eth.mpr x)), fun w => y3 (eth.mp w)⟩
  · rw [if_neg o]; exact o1 o
theorem vX14_keeps_j66 (a1 : Int) {h : AH} {B : Int → Int} {n q q0 N : Int} {E EP : EV} {Rf : Int → TR} {W : Int → Int → Int → VW} {L : LE} {T : TR} (hB : ∀ i, 0 ≤ i → i < n → 0 ≤ B i ∧ B i < 256) (n12 : 0 ≤ n ∧ n ≤ 2000) (m : MS B n q h) (mi : MI h ∧ MK h = 1000000) (mb : mkB h N ∧ N ≤ 800000000) (om : ownsM h E Rf ∧ wOK E Rf W ∧ E.2.2.1 = 0 ∧ h 454 21 = -1 ∧ bd20 h) (h35 : 0 ≤ h 454 35 ∧ h 454 35 ≤ 2000) (tw : toW h T a1 ∧ a1 = 4400 ∧ a1 + sz T ≤ 5500) (tT : beg B n = .inr q0 ∧ pT B n false 13 q0 = .inr (T, q)) (ep : EP.1 = E.1 ∧ EP.2.2 = E.2.2 ∧ evM h 0 EP) (lo : h 454 92 = 0 ∨ ((h 454 92 = 805 ∨ h 454 92 = 810) ∧ loP h L ∧ vLE E L ∧ EP = EPn E L.2.1.1 L.2.1.2)) : OK (gX14_keeps_j66 a1 h) (fun r => jt2 r fun v h' => (outKp EP (h 454 92 ≠ 0) W L (pA B n false (beg B n)) (h 454 55) v (h' 454 55)) ∧ (frKm h h') ∧ (mkB h' (N + 257)) ∧ (bd20 h')) := by
  unfold gX14_keeps_j66
  refine OK_jb2 (wgP (E := E) (Rf := Rf) (EP := EP) (T := T) mi.1 h35 ep.2.2 ep.1 ep.2.1 om.1.2.2.2.2 om.1.2.2.1 tw.1 tw.2.2) (fun v29 h30 r1 => ?_)
  dsimp only [jt2] at r1
  obtain ⟨vvw, miw, mkw, dnw, plw, frw⟩ := r1
  have PW := toW_p tw.1
  have st := sz_pos T
  have mr := MK_r miw
  have eA := pA_r (sk := false) (R := beg B n) (by rw [tT.1]; exact tT.2)
  have RD : rdd B n T := by { obtain ⟨z, o⟩ := beg_r tT.1; exact ⟨q0, q, by omega, by omega, o, tT.2⟩ }
  have KW0 := key0 (E := EP) (w := 1) (T := T) (K := 1000000) (Int.le_refl _)
  have K1 : keyE EP (-1) T ≤ 1000000 := by { have := keyE_b (E := EP) (w := -1) tw.1.1.2.1 tw.1.1.2.2.1; exact this.2 }
  have KW := KW0
  rw [Int.min_eq_right (show keyE EP 1 T ≤ 1000000 from (keyE_b (E := EP) (w := 1) tw.1.1.2.1 tw.1.1.2.2.1).2), Int.min_eq_right K1] at KW
  clear KW0
  have MK1 : MK h30 = keyE EP (-1) T := by omega
  have MB30 : mkB h30 N := mkB_f mb.1 (fun b s y => frw b s (by omega) (by omega))
  have OM30 : ownsM h30 E Rf := ownsM_fr om.1 (frw _ _ (by omega) (by omega)) (fun a s a0 a1 => frw _ _ (by omega) (by omega)) ⟨fun a s a0 a1 a2 s0 s1 => frw _ _ (by omega) (by omega), fun s s0 s1 => frw _ _ (by omega) (by omega)⟩
  have C30 : h30 454 21 = -1 ∧ bd20 h30 := ⟨by { rw [frw _ _ (by omega) (by omega)]; exact om.2.2.2.1 }, by { unfold bd20; rw [frw _ _ (by omega) (by omega)]; exact om.2.2.2.2 }⟩
  have E92 : h30 454 92 = h 454 92 := frw _ _ (by omega) (by omega)
  have M30 : MS B n q h30 := MS_fr m (fun s s0 s1 => frw _ _ (by omega) (by omega))
  have F30 : frKm h h30 := fun b s y1 y2 y3 y4 y5 y6 y7 => frw b s (by omega) (by omega)
  have LO30 : ∀ hh : AH, (∀ b s, ¬ (b = 454 ∧ (s = 30 ∨ s = 31)) → hh b s = h30 b s) → MK hh = keyE EP 1 T → hh 454 92 = 0 ∨ ((hh 454 92 = 805 ∨ hh 454 92 = 810) ∧ loP hh L ∧ vLE E L ∧ (MK hh = 1000000 → atM hh (rsE EP T 0) a1 ∧ tmW E L.2.1.1 L.2.1.2 (rsE EP T 0) 1)) := fun hh f k => by { rcases lo with l | ⟨l1, l2, l3, l4⟩; { left; rw [f _ _ (by omega), E92]; exact l }; { right; have e92 : hh 454 92 = h 454 92 := (by rw [f _ _ (by omega)]; exact E92); rw [e92]; refine ⟨l1, loP_f l2 e92 (fun b s b0 b1 => by rw [f b s (by omega)]; exact frw b s (by omega) (by omega)) ⟨fun b s b0 b1 b2 s0 s1 => by (have q : rgL (h 454 92) + 1100 ≤ 4400 := (by unfold rgL; by_cases w : h 454 92 = 805; { rw [if_pos w]; decide }; { rw [if_neg w]; decide }); rw [f b s (by omega)]; exact frw b s (by omega) (by omega)), fun s s0 s1 => by rw [f _ _ (by omega)]; exact frw _ _ (by omega) (by omega)⟩, l3, fun kk => ?_⟩; rw [k] at kk; have TOK := rdd_okP (w := 1) (kf := L.2.1.2) (m := L.2.1.1) om.1.2.1 om.2.2.1 om.1.2.2.2.2.2.1 hB n12.2 (by have := l3.2.1.1; omega) (fun k k0 k1 => by have := l3.2.1.2.2 k k0 k1; omega) RD (by rw [← l4]; exact kk); rw [← l4] at TOK; refine ⟨resM_vw (dnw TOK.2.2.2.2.1 hh ⟨fun b s b0 b1 b2 s0 s1 => f b s (by omega), fun s s0 s1 => f _ _ (by omega)⟩) TOK.2.2.2.2.2.1 (by decide), ?_⟩; have y := (TOK.1 _ rfl).1; rw [TOK.2.1 (by decide)] at y; exact y } }
  refine OK_if (fun c1 => ?_) (fun c1 => ?_)
  · skip
    try simp (disch := omega) only [jst_eq, jst_ne, jst_ni, jI_i, jcmp_lt, jcmp_gt, w32_id, jcpy_out, Sum.elim_inl, Sum.elim_inr, jt2, jt3, jt4, jt5, jt6, jt7, jt8] at c1
    have K3 := (kch_c vvw.2).2.1.mp (by omega)
    have KK : MK h30 = keyE EP 1 T := by { rw [MK1, KW, if_neg (fun w => w.2.2 K3)]; omega }
    refine OK_mono (vX14_keeps_j96 (B := B) (n := n) (q := q) (N := N) (E := E) (Rf := Rf) (W := W) (L := L) (T := rsE EP T 0) _ (by exact M30) (by exact miw) (by omega) (by exact ⟨MB30, mb.2⟩) (by exact ⟨OM30, om.2.1, om.2.2.1, C30.1, C30.2⟩) (by exact LO30 h30 (fun _ _ _ => rfl) KK)) (fun r r2 => ?_)
    obtain ⟨y1, y2⟩ := r
    try dsimp only [Sum.elim_inl, Sum.elim_inr, jt2, jt3, jt4, jt5, jt6, jt7, jt8] at r2
    obtain ⟨o11, o21, o31, fr1, mb1, bb1⟩ := r2
    try simp (disch := omega) only [jst_eq, jst_ne, jst_ni, jI_i, jcmp_lt, jcmp_gt, w32_id, jcpy_out, Sum.elim_inl, Sum.elim_inr, jt2, jt3, jt4, jt5, jt6, jt7, jt8] at o11
    try simp (disch := omega) only [jst_eq, jst_ne, jst_ni, jI_i, jcmp_lt, jcmp_gt, w32_id, jcpy_out, Sum.elim_inl, Sum.elim_inr, jt2, jt3, jt4, jt5, jt6, jt7, jt8] at o21
    try simp (disch := omega) only [jst_eq, jst_ne, jst_ni, jI_i, jcmp_lt, jcmp_gt, w32_id, jcpy_out, Sum.elim_inl, Sum.elim_inr, jt2, jt3, jt4, jt5, jt6, jt7, jt8] at o31
    try simp (disch := omega) only [jst_eq, jst_ne, jst_ni, jI_i, jcmp_lt, jcmp_gt, w32_id, jcpy_out, Sum.elim_inl, Sum.elim_inr, jt2, jt3, jt4, jt5, jt6, jt7, jt8] at fr1
    try simp (disch := omega) only [jst_eq, jst_ne, jst_ni, jI_i, jcmp_lt, jcmp_gt, w32_id, jcpy_out, Sum.elim_inl, Sum.elim_inr, jt2, jt3, jt4, jt5, jt6, jt7, jt8] at mb1
    try simp (disch := omega) only [jst_eq, jst_ne, jst_ni, jI_i, jcmp_lt, jcmp_gt, w32_id, jcpy_out, Sum.elim_inl, Sum.elim_inr, jt2, jt3, jt4, jt5, jt6, jt7, jt8] at bb1
    try dsimp only [Sum.elim_inl, Sum.elim_inr, jt2, jt3, jt4, jt5, jt6, jt7, jt8]
    try dsimp only [Sum.elim_inl, Sum.elim_inr, jt2, jt3, jt4, jt5, jt6, jt7, jt8]
    refine ⟨?_, ?_, ?_, ?_⟩
    · (rw [frw 454 55 (by omega) (by omega)] at o31; rw [E92] at o31; exact ft_o (eA := eA) o11 o21 o31 KK Iff.rfl) -- o7 e1.1
    · exact frKm_t F30 fr1 -- o8 e1.2
    · (first | assumption | omega | ((try dsimp only [jt2, jt3, jt4]); first | omega | (simp (disch := omega) only [jst_eq, jst_ne, jst_ni, jst_o, jI_i, jcpy_out, w32_id, jdiv_nn, jshr_k, jand_255] <;> first | done | omega | assumption)) | (intros; simp (disch := omega) only [jst_eq, jst_ne, jst_ni, jst_o, jI_i, jcpy_out, w32_id, jdiv_nn, *] <;> first | done | omega) | (intros; simp (disch := omega) only [jst_eq, jst_ne, jst_ni, jst_o, jI_i, jcpy_out, w32_id, jdiv_nn] at * <;> first | done | omega | assumption) | (intros; first | rfl | (exfalso; omega) | ((repeat' apply And.intro) <;> first | assumption | rfl | omega | trivial))) -- o9 e1.3
    · (first | assumption | omega | ((try dsimp only [jt2, jt3, jt4]); first | omega | (simp (disch := omega) only [jst_eq, jst_ne, jst_ni, jst_o, jI_i, jcpy_out, w32_id, jdiv_nn, jshr_k, jand_255] <;> first | done | omega | assumption)) | (intros; simp (disch := omega) only [jst_eq, jst_ne, jst_ni, jst_o, jI_i, jcpy_out, w32_id, jdiv_nn, *] <;> first | done | omega) | (intros; simp (disch := omega) only [jst_eq, jst_ne, jst_ni, jst_o, jI_i, jcpy_out, w32_id, jdiv_nn] at * <;> first | done | omega | assumption) | (intros; first | rfl | (exfalso; omega) | ((repeat' apply And.intro) <;> first | assumption | rfl | omega | trivial))) -- o10 e1.4
  · skip
    try simp (disch := omega) only [jst_eq, jst_ne, jst_ni, jI_i, jcmp_lt, jcmp_gt, w32_id, jcpy_out, Sum.elim_inl, Sum.elim_inr, jt2, jt3, jt4, jt5, jt6, jt7, jt8] at c1
    refine OK_if (fun c2 => ?_) (fun c2 => ?_)
    · skip
      try simp (disch := omega) only [jst_eq, jst_ne, jst_ni, jI_i, jcmp_lt, jcmp_gt, w32_id, jcpy_out, Sum.elim_inl, Sum.elim_inr, jt2, jt3, jt4, jt5, jt6, jt7, jt8] at c2
      have K3 := (kch_c vvw.2).2.2.mp (by omega)
      have KK : MK h30 = keyE EP 1 T := by { rw [MK1, KW, if_neg (fun w => w.2.1 K3)]; omega }
      refine OK_mono (vX14_keeps_j96 (B := B) (n := n) (q := q) (N := N) (E := E) (Rf := Rf) (W := W) (L := L) (T := rsE EP T 0) _ (by exact M30) (by exact miw) (by omega) (by exact ⟨MB30, mb.2⟩) (by exact ⟨OM30, om.2.1, om.2.2.1, C30.1, C30.2⟩) (by exact LO30 h30 (fun _ _ _ => rfl) KK)) (fun r r3 => ?_)
      obtain ⟨y3, y4⟩ := r
      try dsimp only [Sum.elim_inl, Sum.elim_inr, jt2, jt3, jt4, jt5, jt6, jt7, jt8] at r3
      obtain ⟨o12, o22, o32, fr2, mb2, bb2⟩ := r3
      try simp (disch := omega) only [jst_eq, jst_ne, jst_ni, jI_i, jcmp_lt, jcmp_gt, w32_id, jcpy_out, Sum.elim_inl, Sum.elim_inr, jt2, jt3, jt4, jt5, jt6, jt7, jt8] at o12
      try simp (disch := omega) only [jst_eq, jst_ne, jst_ni, jI_i, jcmp_lt, jcmp_gt, w32_id, jcpy_out, Sum.elim_inl, Sum.elim_inr, jt2, jt3, jt4, jt5, jt6, jt7, jt8] at o22
      try simp (disch := omega) only [jst_eq, jst_ne, jst_ni, jI_i, jcmp_lt, jcmp_gt, w32_id, jcpy_out, Sum.elim_inl, Sum.elim_inr, jt2, jt3, jt4, jt5, jt6, jt7, jt8] at o32
      try simp (disch := omega) only [jst_eq, jst_ne, jst_ni, jI_i, jcmp_lt, jcmp_gt, w32_id, jcpy_out, Sum.elim_inl, Sum.elim_inr, jt2, jt3, jt4, jt5, jt6, jt7, jt8] at fr2
      try simp (disch := omega) only [jst_eq, jst_ne, jst_ni, jI_i, jcmp_lt, jcmp_gt, w32_id, jcpy_out, Sum.elim_inl, Sum.elim_inr, jt2, jt3, jt4, jt5, jt6, jt7, jt8] at mb2
      try simp (disch := omega) only [jst_eq, jst_ne, jst_ni, jI_i, jcmp_lt, jcmp_gt, w32_id, jcpy_out, Sum.elim_inl, Sum.elim_inr, jt2, jt3, jt4, jt5, jt6, jt7, jt8] at bb2
      try dsimp only [Sum.elim_inl, Sum.elim_inr, jt2, jt3, jt4, jt5, jt6, jt7, jt8]
      try dsimp only [Sum.elim_inl, Sum.elim_inr, jt2, jt3, jt4, jt5, jt6, jt7, jt8]
      refine ⟨?_, ?_, ?_, ?_⟩
      · (rw [frw 454 55 (by omega) (by omega)] at o32; rw [E92] at o32; exact ft_o (eA := eA) o12 o22 o32 KK Iff.rfl) -- o17 e2.1
      · exact frKm_t F30 fr2 -- o18 e2.2
      · (first | assumption | omega | ((try dsimp only [jt2, jt3, jt4]); first | omega | (simp (disch := omega) only [jst_eq, jst_ne, jst_ni, jst_o, jI_i, jcpy_out, w32_id, jdiv_nn, jshr_k, jand_255] <;> first | done | omega | assumption)) | (intros; simp (disch := omega) only [jst_eq, jst_ne, jst_ni, jst_o, jI_i, jcpy_out, w32_id, jdiv_nn, *] <;> first | done | omega) | (intros; simp (disch := omega) only [jst_eq, jst_ne, jst_ni, jst_o, jI_i, jcpy_out, w32_id, jdiv_nn] at * <;> first | done | omega | assumption) | (intros; first | rfl | (exfalso; omega) | ((repeat' apply And.intro) <;> first | assumption | rfl | omega | trivial))) -- o19 e2.3
      · (first | assumption | omega | ((try dsimp only [jt2, jt3, jt4]); first | omega | (simp (disch := omega) only [jst_eq, jst_ne, jst_ni, jst_o, jI_i, jcpy_out, w32_id, jdiv_nn, jshr_k, jand_255] <;> first | done | omega | assumption)) | (intros; simp (disch := omega) only [jst_eq, jst_ne, jst_ni, jst_o, jI_i, jcpy_out, w32_id, jdiv_nn, *] <;> first | done | omega) | (intros; simp (disch := omega) only [jst_eq, jst_ne, jst_ni, jst_o, jI_i, jcpy_out, w32_id, jdiv_nn] at * <;> first | done | omega | assumption) | (intros; first | rfl | (exfalso; omega) | ((repeat' apply And.intro) <;> first | assumption | rfl | omega | trivial))) -- o20 e2.4
    · skip
      try simp (disch := omega) only [jst_eq, jst_ne, jst_ni, jI_i, jcmp_lt, jcmp_gt, w32_id, jcpy_out, Sum.elim_inl, Sum.elim_inr, jt2, jt3, jt4, jt5, jt6, jt7, jt8] at c2
      refine OK_jg (by (first | assumption | omega | ((try dsimp only [jt2, jt3, jt4]); first | omega | (simp (disch := omega) only [jst_eq, jst_ne, jst_ni, jst_o, jI_i, jcpy_out, w32_id, jdiv_nn, jshr_k, jand_255] <;> first | done | omega | assumption)) | (intros; simp (disch := omega) only [jst_eq, jst_ne, jst_ni, jst_o, jI_i, jcpy_out, w32_id, jdiv_nn, *] <;> first | done | omega) | (intros; simp (disch := omega) only [jst_eq, jst_ne, jst_ni, jst_o, jI_i, jcpy_out, w32_id, jdiv_nn] at * <;> first | done | omega | assumption) | (intros; first | rfl | (exfalso; omega) | ((repeat' apply And.intro) <;> first | assumption | rfl | omega | trivial)))) ?_ -- o21
      refine OK_jb (vX14_note _ _ (by (first | assumption | omega | ((try dsimp only [jt2, jt3, jt4]); first | omega | (simp (disch := omega) only [jst_eq, jst_ne, jst_ni, jst_o, jI_i, jcpy_out, w32_id, jdiv_nn, jshr_k, jand_255] <;> first | done | omega | assumption)) | (intros; simp (disch := omega) only [jst_eq, jst_ne, jst_ni, jst_o, jI_i, jcpy_out, w32_id, jdiv_nn, *] <;> first | done | omega) | (intros; simp (disch := omega) only [jst_eq, jst_ne, jst_ni, jst_o, jI_i, jcpy_out, w32_id, jdiv_nn] at * <;> first | done | omega | assumption) | (intros; first | rfl | (exfalso; omega) | ((repeat' apply And.intro) <;> first | assumption | rfl | omega | trivial)))) (by (rw [plw]; omega))) (fun h34 r4 => ?_)
      try dsimp only [Sum.elim_inl, Sum.elim_inr, jt2, jt3, jt4, jt5, jt6, jt7, jt8] at r4
      obtain ⟨m3, k3, fr3⟩ := r4
      try simp (disch := omega) only [jst_eq, jst_ne, jst_ni, jI_i, jcmp_lt, jcmp_gt, w32_id, jcpy_out, Sum.elim_inl, Sum.elim_inr, jt2, jt3, jt4, jt5, jt6, jt7, jt8] at m3
      try simp (disch := omega) only [jst_eq, jst_ne, jst_ni, jI_i, jcmp_lt, jcmp_gt, w32_id, jcpy_out, Sum.elim_inl, Sum.elim_inr, jt2, jt3, jt4, jt5, jt6, jt7, jt8] at k3
      try simp (disch := omega) only [jst_eq, jst_ne, jst_ni, jI_i, jcmp_lt, jcmp_gt, w32_id, jcpy_out, Sum.elim_inl, Sum.elim_inr, jt2, jt3, jt4, jt5, jt6, jt7, jt8] at fr3
      have KK : MK h34 = keyE EP 1 T := by { rw [k3, plw, MK1, KW, if_pos ⟨by decide, fun w => c2 (by rw [vvw.1]; exact (kch_c vvw.2).2.2.mpr w), fun w => c1 (by rw [vvw.1]; exact (kch_c vvw.2).2.1.mpr w)⟩] }
      refine OK_mono (vX14_keeps_j96 (B := B) (n := n) (q := q) (N := N) (E := E) (Rf := Rf) (W := W) (L := L) (T := rsE EP T 0) _ (by exact MS_fr M30 (fun s s0 s1 => fr3 _ _ (by omega))) (by exact m3) (by omega) (by exact ⟨mkB_f MB30 (fun b s y => fr3 b s (by omega)), mb.2⟩) (by exact ⟨ownsM_fr OM30 (fr3 _ _ (by omega)) (fun a s a0 a1 => fr3 _ _ (by omega)) ⟨fun a s a0 a1 a2 s0 s1 => fr3 _ _ (by omega), fun s s0 s1 => fr3 _ _ (by omega)⟩, om.2.1, om.2.2.1, by rw [fr3 _ _ (by omega)]; exact C30.1, by unfold bd20; rw [fr3 _ _ (by omega)]; exact C30.2⟩) (by exact LO30 h34 fr3 KK)) (fun r r5 => ?_)
      obtain ⟨y5, y6⟩ := r
      try dsimp only [Sum.elim_inl, Sum.elim_inr, jt2, jt3, jt4, jt5, jt6, jt7, jt8] at r5
      obtain ⟨o14, o24, o34, fr4, mb4, bb4⟩ := r5
      try simp (disch := omega) only [jst_eq, jst_ne, jst_ni, jI_i, jcmp_lt, jcmp_gt, w32_id, jcpy_out, Sum.elim_inl, Sum.elim_inr, jt2, jt3, jt4, jt5, jt6, jt7, jt8] at o14
      try simp (disch := omega) only [jst_eq, jst_ne, jst_ni, jI_i, jcmp_lt, jcmp_gt, w32_id, jcpy_out, Sum.elim_inl, Sum.elim_inr, jt2, jt3, jt4, jt5, jt6, jt7, jt8] at o24
      try simp (disch := omega) only [jst_eq, jst_ne, jst_ni, jI_i, jcmp_lt, jcmp_gt, w32_id, jcpy_out, Sum.elim_inl, Sum.elim_inr, jt2, jt3, jt4, jt5, jt6, jt7, jt8] at o34
      try simp (disch := omega) only [jst_eq, jst_ne, jst_ni, jI_i, jcmp_lt, jcmp_gt, w32_id, jcpy_out, Sum.elim_inl, Sum.elim_inr, jt2, jt3, jt4, jt5, jt6, jt7, jt8] at fr4
      try simp (disch := omega) only [jst_eq, jst_ne, jst_ni, jI_i, jcmp_lt, jcmp_gt, w32_id, jcpy_out, Sum.elim_inl, Sum.elim_inr, jt2, jt3, jt4, jt5, jt6, jt7, jt8] at mb4
      try simp (disch := omega) only [jst_eq, jst_ne, jst_ni, jI_i, jcmp_lt, jcmp_gt, w32_id, jcpy_out, Sum.elim_inl, Sum.elim_inr, jt2, jt3, jt4, jt5, jt6, jt7, jt8] at bb4
      try dsimp only [Sum.elim_inl, Sum.elim_inr, jt2, jt3, jt4, jt5, jt6, jt7, jt8]
      try dsimp only [Sum.elim_inl, Sum.elim_inr, jt2, jt3, jt4, jt5, jt6, jt7, jt8]
      refine ⟨?_, ?_, ?_, ?_⟩
      · (rw [fr3 454 55 (by omega), frw 454 55 (by omega) (by omega)] at o34; rw [fr3 454 92 (by omega), E92] at o34; exact ft_o (eA := eA) o14 o24 o34 KK Iff.rfl) -- o30 e3.1
      · exact frKm_t F30 (frKm_t (fun b s y1 _ _ _ _ _ _ => fr3 b s (by omega)) fr4) -- o31 e3.2
      · (first | assumption | omega | ((try dsimp only [jt2, jt3, jt4]); first | omega | (simp (disch := omega) only [jst_eq, jst_ne, jst_ni, jst_o, jI_i, jcpy_out, w32_id, jdiv_nn, jshr_k, jand_255] <;> first | done | omega | assumption)) | (intros; simp (disch := omega) only [jst_eq, jst_ne, jst_ni, jst_o, jI_i, jcpy_out, w32_id, jdiv_nn, *] <;> first | done | omega) | (intros; simp (disch := omega) only [jst_eq, jst_ne, jst_ni, jst_o, jI_i, jcpy_out, w32_id, jdiv_nn] at * <;> first | done | omega | assumption) | (intros; first | rfl | (exfalso; omega) | ((repeat' apply And.intro) <;> first | assumption | rfl | omega | trivial))) -- o32 e3.3
      · (first | assumption | omega | ((try dsimp only [jt2, jt3, jt4]); first | omega | (simp (disch := omega) only [jst_eq, jst_ne, jst_ni, jst_o, jI_i, jcpy_out, w32_id, jdiv_nn, jshr_k, jand_255] <;> first | done | omega | assumption)) | (intros; simp (disch := omega) only [jst_eq, jst_ne, jst_ni, jst_o, jI_i, jcpy_out, w32_id, jdiv_nn, *] <;> first | done | omega) | (intros; simp (disch := omega) only [jst_eq, jst_ne, jst_ni, jst_o, jI_i, jcpy_out, w32_id, jdiv_nn] at * <;> first | done | omega | assumption) | (intros; first | rfl | (exfalso; omega) | ((repeat' apply And.intro) <;> first | assumption | rfl | omega | trivial))) -- o33 e3.4
theorem vX14_keeps {h : AH} {B : Int → Int} {n N : Int} {E : EV} {Rf : Int → TR} {W : Int → Int → Int → VW} {L : LE} (hB : ∀ i, 0 ≤ i → i < n → 0 ≤ B i ∧ B i < 256) (tb : n = h 454 53 ∧ 0 ≤ n ∧ n ≤ 2000 ∧ ∀ i, 0 ≤ i → i < n → h 790 i = B i) (om : ownsM h E Rf ∧ wOK E Rf W ∧ E.2.2.1 = 0 ∧ h 454 21 = -1 ∧ bd20 h) (h35 : 0 ≤ h 454 35 ∧ h 454 35 ≤ 2000) (mb : mkB h N ∧ N ≤ 800000000) (dn : h 454 54 = 0 ∨ h 454 54 = 1) (lo : h 454 92 = 0 ∨ ((h 454 92 = 805 ∨ h 454 92 = 810) ∧ loP h L ∧ vLE E L)) (ka : (h 807 (-2) = 101 ∧ h 807 (-1) = 3) ∧ h 812 (-2) = 101 ∧ h 812 (-1) = 3) : OK (gX14_keeps h) (fun r => jt2 r fun v h' => (h 454 54 = 1 → v = -5 ∧ h' = jst h 454 51 0) ∧ (h 454 54 = 0 → (h 454 92 = 0 → outKp (EPn E 0 (fun _ => 0)) (h 454 92 ≠ 0) W L (pA B n false (beg B n)) (h 454 55) v (h' 454 55)) ∧ (h 454 92 ≠ 0 → outKp (EPn E L.2.1.1 L.2.1.2) (h 454 92 ≠ 0) W L (pA B n false (beg B n)) (h 454 55) v (h' 454 55))) ∧ (frKm h h') ∧ (mkB h' (N + 257)) ∧ (bd20 h')) := by
  have T1 := tb.2.1
  have T2 := tb.2.2.1
  unfold gX14_keeps
  refine OK_jb2 (vX14_isDown (by (first | assumption | omega | ((try dsimp only [jt2, jt3, jt4]); first | omega | (simp (disch := omega) only [jst_eq, jst_ne, jst_ni, jst_o, jI_i, jcpy_out, w32_id, jdiv_nn, jshr_k, jand_255] <;> first | done | omega | assumption)) | (intros; simp (disch := omega) only [jst_eq, jst_ne, jst_ni, jst_o, jI_i, jcpy_out, w32_id, jdiv_nn, *] <;> first | done | omega) | (intros; simp (disch := omega) only [jst_eq, jst_ne, jst_ni, jst_o, jI_i, jcpy_out, w32_id, jdiv_nn] at * <;> first | done | omega | assumption) | (intros; first | rfl | (exfalso; omega) | ((repeat' apply And.intro) <;> first | assumption | rfl | omega | trivial))))) (fun v2 h3 r1 => ?_)
  try dsimp only [Sum.elim_inl, Sum.elim_inr, jt2, jt3, jt4, jt5, jt6, jt7, jt8] at r1
  obtain ⟨dv1, dh1⟩ := r1
  try simp (disch := omega) only [jst_eq, jst_ne, jst_ni, jI_i, jcmp_lt, jcmp_gt, w32_id, jcpy_out, Sum.elim_inl, Sum.elim_inr, jt2, jt3, jt4, jt5, jt6, jt7, jt8] at dv1
  try simp (disch := omega) only [jst_eq, jst_ne, jst_ni, jI_i, jcmp_lt, jcmp_gt, w32_id, jcpy_out, Sum.elim_inl, Sum.elim_inr, jt2, jt3, jt4, jt5, jt6, jt7, jt8] at dh1
  have F3 : ∀ a s, ¬ (a = 454 ∧ s = 51) → h3 a s = h a s := fun a s y => by { rw [dh1]; exact jst_o y }
  have n53 : h3 454 53 = n := by { rw [F3 _ _ (by omega)]; exact tb.1.symm }
  refine OK_if (fun c1 => ?_) (fun c1 => ?_)
  · skip
    try simp (disch := omega) only [jst_eq, jst_ne, jst_ni, jI_i, jcmp_lt, jcmp_gt, w32_id, jcpy_out, Sum.elim_inl, Sum.elim_inr, jt2, jt3, jt4, jt5, jt6, jt7, jt8] at c1
    refine OK_jb (vX14_takeTape (by (rw [n53]; exact ⟨T1, T2⟩))) (fun h6 r2 => ?_)
    try dsimp only [Sum.elim_inl, Sum.elim_inr, jt2, jt3, jt4, jt5, jt6, jt7, jt8] at r2
    obtain ⟨z2, b2, fr2⟩ := r2
    try simp (disch := omega) only [jst_eq, jst_ne, jst_ni, jI_i, jcmp_lt, jcmp_gt, w32_id, jcpy_out, Sum.elim_inl, Sum.elim_inr, jt2, jt3, jt4, jt5, jt6, jt7, jt8] at z2
    try simp (disch := omega) only [jst_eq, jst_ne, jst_ni, jI_i, jcmp_lt, jcmp_gt, w32_id, jcpy_out, Sum.elim_inl, Sum.elim_inr, jt2, jt3, jt4, jt5, jt6, jt7, jt8] at b2
    try simp (disch := omega) only [jst_eq, jst_ne, jst_ni, jI_i, jcmp_lt, jcmp_gt, w32_id, jcpy_out, Sum.elim_inl, Sum.elim_inr, jt2, jt3, jt4, jt5, jt6, jt7, jt8] at fr2
    have F6 : ∀ a s, ¬ (a = 454 ∧ (s = 25 ∨ s = 51 ∨ s = 53)) → ¬ (a = 473 ∧ 0 ≤ s ∧ s < 2000) → h6 a s = h a s := fun a s y1 y2 => by { rw [fr2 a s y1 (by omega), F3 a s (by omega)] }
    have TM6 : TM B n h6 := ⟨by { rw [z2.2.2]; exact n53 }, T1, T2, fun i i0 i1 => by { rw [b2 i i0 (by omega), F3 _ _ (by omega)]; exact tb.2.2.2 i i0 i1 }⟩
    refine OK_jb2 (vX14_begin (B := B) (n := n) (by exact hB) (by exact TM6)) (fun t8 h10 r3 => ?_)
    try dsimp only [Sum.elim_inl, Sum.elim_inr, jt2, jt3, jt4, jt5, jt6, jt7, jt8] at r3
    obtain ⟨rm3, ce3, fr3⟩ := r3
    try simp (disch := omega) only [jst_eq, jst_ne, jst_ni, jI_i, jcmp_lt, jcmp_gt, w32_id, jcpy_out, Sum.elim_inl, Sum.elim_inr, jt2, jt3, jt4, jt5, jt6, jt7, jt8] at rm3
    try simp (disch := omega) only [jst_eq, jst_ne, jst_ni, jI_i, jcmp_lt, jcmp_gt, w32_id, jcpy_out, Sum.elim_inl, Sum.elim_inr, jt2, jt3, jt4, jt5, jt6, jt7, jt8] at ce3
    try simp (disch := omega) only [jst_eq, jst_ne, jst_ni, jI_i, jcmp_lt, jcmp_gt, w32_id, jcpy_out, Sum.elim_inl, Sum.elim_inr, jt2, jt3, jt4, jt5, jt6, jt7, jt8] at fr3
    have G10 : frKm h h10 := fun b s y1 y2 y3 y4 y5 y6 y7 => by { rw [fr3 b s (by omega) y2]; exact F6 b s (by omega) y7 }
    refine OK_jq (fun c2 => ?_) (fun c2 => ?_)
    · skip
      obtain ⟨z, e, r1, r2⟩ := rM_l rm3 c2
      refine OK_jg (by (first | assumption | omega | ((try dsimp only [jt2, jt3, jt4]); first | omega | (simp (disch := omega) only [jst_eq, jst_ne, jst_ni, jst_o, jI_i, jcpy_out, w32_id, jdiv_nn, jshr_k, jand_255] <;> first | done | omega | assumption)) | (intros; simp (disch := omega) only [jst_eq, jst_ne, jst_ni, jst_o, jI_i, jcpy_out, w32_id, jdiv_nn, *] <;> first | done | omega) | (intros; simp (disch := omega) only [jst_eq, jst_ne, jst_ni, jst_o, jI_i, jcpy_out, w32_id, jdiv_nn] at * <;> first | done | omega | assumption) | (intros; first | rfl | (exfalso; omega) | ((repeat' apply And.intro) <;> first | assumption | rfl | omega | trivial)))) ?_ -- o5
      refine OK_jb2 (vX14_faulty _ (by exact ⟨r1, by rw [r2.1]; decide, by rw [r2.1]; decide⟩)) (fun v13 h14 r4 => ?_)
      try dsimp only [Sum.elim_inl, Sum.elim_inr, jt2, jt3, jt4, jt5, jt6, jt7, jt8] at r4
      obtain ⟨vv4, fr4⟩ := r4
      try simp (disch := omega) only [jst_eq, jst_ne, jst_ni, jI_i, jcmp_lt, jcmp_gt, w32_id, jcpy_out, Sum.elim_inl, Sum.elim_inr, jt2, jt3, jt4, jt5, jt6, jt7, jt8] at vv4
      try simp (disch := omega) only [jst_eq, jst_ne, jst_ni, jI_i, jcmp_lt, jcmp_gt, w32_id, jcpy_out, Sum.elim_inl, Sum.elim_inr, jt2, jt3, jt4, jt5, jt6, jt7, jt8] at fr4
      refine OK_some ?_
      try dsimp only [Sum.elim_inl, Sum.elim_inr, jt2, jt3, jt4, jt5, jt6, jt7, jt8]
      try dsimp only [Sum.elim_inl, Sum.elim_inr, jt2, jt3, jt4, jt5, jt6, jt7, jt8]
      refine ⟨?_, ?_, ?_, ?_, ?_⟩
      · (first | assumption | omega | ((try dsimp only [jt2, jt3, jt4]); first | omega | (simp (disch := omega) only [jst_eq, jst_ne, jst_ni, jst_o, jI_i, jcpy_out, w32_id, jdiv_nn, jshr_k, jand_255] <;> first | done | omega | assumption)) | (intros; simp (disch := omega) only [jst_eq, jst_ne, jst_ni, jst_o, jI_i, jcpy_out, w32_id, jdiv_nn, *] <;> first | done | omega) | (intros; simp (disch := omega) only [jst_eq, jst_ne, jst_ni, jst_o, jI_i, jcpy_out, w32_id, jdiv_nn] at * <;> first | done | omega | assumption) | (intros; first | rfl | (exfalso; omega) | ((repeat' apply And.intro) <;> first | assumption | rfl | omega | trivial))) -- o7 e1.1
      · (intro _; have key : ∀ EP th, outKp EP th W L (pA B n false (beg B n)) (h 454 55) v13 (h14 454 55) := fun EP th => (by rw [fr4]; have eb : pA B n false (beg B n) = .inl z := pA_l (by rw [e]; rfl); rw [eb]; exact ⟨by rw [vv4, r2.1]; decide, by rw [jst_eq]; exact r2.2⟩); exact ⟨fun _ => key _ _, fun _ => key _ _⟩) -- o8 e1.2
      · (rw [fr4]; exact fun b s y1 y2 y3 y4 y5 y6 y7 => (by rw [jst_o (by omega)]; exact G10 b s y1 y2 y3 y4 y5 y6 y7)) -- o9 e1.3
      · (rw [fr4]; have x := mkB_f (h' := jst h10 454 55 (h10 472 7)) (mkB_f (h' := h10) mb.1 (fun b s y => by rw [fr3 b s (by omega) (by omega)]; exact F6 b s (by omega) (by omega))) (fun b s y => jst_o (by omega)); exact ⟨⟨x.1.1, by have := x.1.2; omega⟩, x.2.1, ⟨x.2.2.1.1, by have := x.2.2.1.2; omega⟩, x.2.2.2⟩) -- o10 e1.4
      · (rw [fr4]; unfold bd20; rw [jst_o (by omega), fr3 _ _ (by omega) (by omega), F6 _ _ (by omega) (by omega)]; exact om.2.2.2.2) -- o11 e1.5
    · skip
      obtain ⟨q0, eq, ms⟩ := rM_r rm3 c2
      refine OK_jl ?_
      have F15 : ∀ b s, ¬ (b = 454 ∧ s = 17) → jst h10 454 17 4400 b s = h10 b s := fun b s y => jst_o y
      have V15 : jst h10 454 17 4400 454 17 = 4400 := jst_eq
      generalize jst h10 454 17 4400 = g15 at *
      have TM15 : TM B n g15 := TM_fr TM6 (by rw [F15 _ _ (by omega), fr3 _ _ (by omega) (by omega)]) (fun s => by rw [F15 _ _ (by omega), fr3 _ _ (by omega) (by omega)])
      have MS15 : MS B n q0 g15 := MS_fr ms (fun s s0 s1 => F15 _ _ (by omega))
      have q0r := ms.2.2
      refine OK_jb3 (vX14_takeTerm (B := B) (n := n) (sk := false) _ _ (by exact hB) (by exact ⟨rfl, rfl⟩) (by exact TM15) (by exact MS15) (by omega)) (fun t17 v18 h19 r5 => ?_)
      try dsimp only [Sum.elim_inl, Sum.elim_inr, jt2, jt3, jt4, jt5, jt6, jt7, jt8] at r5
      have pm5 := r5
      clear r5
      try simp (disch := omega) only [jst_eq, jst_ne, jst_ni, jI_i, jcmp_lt, jcmp_gt, w32_id, jcpy_out, Sum.elim_inl, Sum.elim_inr, jt2, jt3, jt4, jt5, jt6, jt7, jt8] at pm5
      have X19 : frM 4400 g15 h19 ∧ h19 454 17 ≤ 5500 := by { have x := pm5; unfold posM at x; rw [V15] at x; exact ⟨x.1.1, by omega⟩ }
      have G19 : frKm h h19 := fun b s y1 y2 y3 y4 y5 y6 y7 => by { rw [X19.1 b s (by omega) y2 (by omega) (by omega), F15 b s (by omega)]; exact G10 b s y1 y2 y3 y4 y5 y6 y7 }
      have MB19 : mkB h19 N := mkB_f mb.1 (fun b s y => by rw [X19.1 b s (by omega) (by omega) (by omega) (by omega), F15 b s (by omega), fr3 b s (by omega) (by omega)]; exact F6 b s (by omega) (by omega))
      have S19 : ∀ b s, ¬ (b = 454 ∧ (s = 17 ∨ (25 ≤ s ∧ s ≤ 31) ∨ s = 51 ∨ s = 53)) → ¬ (b = 472 ∧ (s = 6 ∨ s = 7)) → ¬ (460 ≤ b ∧ b ≤ 470 ∧ b ≠ 464 ∧ 4400 ≤ s ∧ s < 5500) → ¬ (b = 464 ∧ 13200 ≤ s ∧ s < 16500) → ¬ (b = 473 ∧ 0 ≤ s ∧ s < 2000) → h19 b s = h b s := fun b s y1 y2 y3 y4 y5 => by { rw [X19.1 b s (by omega) y2 (by omega) (by omega), F15 b s (by omega), fr3 b s (by omega) y2]; exact F6 b s (by omega) y5 }
      refine OK_jq (fun c3 => ?_) (fun c3 => ?_)
      · skip
        obtain ⟨z, e, t1, t2, _⟩ := pm_l pm5 c3
        refine OK_jg (by (first | assumption | omega | ((try dsimp only [jt2, jt3, jt4]); first | omega | (simp (disch := omega) only [jst_eq, jst_ne, jst_ni, jst_o, jI_i, jcpy_out, w32_id, jdiv_nn, jshr_k, jand_255] <;> first | done | omega | assumption)) | (intros; simp (disch := omega) only [jst_eq, jst_ne, jst_ni, jst_o, jI_i, jcpy_out, w32_id, jdiv_nn, *] <;> first | done | omega) | (intros; simp (disch := omega) only [jst_eq, jst_ne, jst_ni, jst_o, jI_i, jcpy_out, w32_id, jdiv_nn] at * <;> first | done | omega | assumption) | (intros; first | rfl | (exfalso; omega) | ((repeat' apply And.intro) <;> first | assumption | rfl | omega | trivial)))) ?_ -- o17
        refine OK_jb2 (vX14_faulty _ (by exact ⟨t1, by rw [t2.1]; decide, by rw [t2.1]; decide⟩)) (fun v22 h23 r6 => ?_)
        try dsimp only [Sum.elim_inl, Sum.elim_inr, jt2, jt3, jt4, jt5, jt6, jt7, jt8] at r6
        obtain ⟨vv6, fr6⟩ := r6
        try simp (disch := omega) only [jst_eq, jst_ne, jst_ni, jI_i, jcmp_lt, jcmp_gt, w32_id, jcpy_out, Sum.elim_inl, Sum.elim_inr, jt2, jt3, jt4, jt5, jt6, jt7, jt8] at vv6
        try simp (disch := omega) only [jst_eq, jst_ne, jst_ni, jI_i, jcmp_lt, jcmp_gt, w32_id, jcpy_out, Sum.elim_inl, Sum.elim_inr, jt2, jt3, jt4, jt5, jt6, jt7, jt8] at fr6
        refine OK_some ?_
        try dsimp only [Sum.elim_inl, Sum.elim_inr, jt2, jt3, jt4, jt5, jt6, jt7, jt8]
        try dsimp only [Sum.elim_inl, Sum.elim_inr, jt2, jt3, jt4, jt5, jt6, jt7, jt8]
        refine ⟨?_, ?_, ?_, ?_, ?_⟩
        · (first | assumption | omega | ((try dsimp only [jt2, jt3, jt4]); first | omega | (simp (disch := omega) only [jst_eq, jst_ne, jst_ni, jst_o, jI_i, jcpy_out, w32_id, jdiv_nn, jshr_k, jand_255] <;> first | done | omega | assumption)) | (intros; simp (disch := omega) only [jst_eq, jst_ne, jst_ni, jst_o, jI_i, jcpy_out, w32_id, jdiv_nn, *] <;> first | done | omega) | (intros; simp (disch := omega) only [jst_eq, jst_ne, jst_ni, jst_o, jI_i, jcpy_out, w32_id, jdiv_nn] at * <;> first | done | omega | assumption) | (intros; first | rfl | (exfalso; omega) | ((repeat' apply And.intro) <;> first | assumption | rfl | omega | trivial))) -- o19 e2.1
        · (intro _; have key : ∀ EP th, outKp EP th W L (pA B n false (beg B n)) (h 454 55) v22 (h23 454 55) := fun EP th => (by rw [fr6]; have eb : pA B n false (beg B n) = .inl z := pA_l (by rw [eq]; exact e); rw [eb]; exact ⟨by rw [vv6, t2.1]; decide, by rw [jst_eq]; exact t2.2⟩); exact ⟨fun _ => key _ _, fun _ => key _ _⟩) -- o20 e2.2
        · (rw [fr6]; exact fun b s y1 y2 y3 y4 y5 y6 y7 => (by rw [jst_o (by omega)]; exact G19 b s y1 y2 y3 y4 y5 y6 y7)) -- o21 e2.3
        · (rw [fr6]; have x := mkB_f (h' := jst h19 454 55 (h19 472 7)) MB19 (fun b s y => jst_o (by omega)); exact ⟨⟨x.1.1, by have := x.1.2; omega⟩, x.2.1, ⟨x.2.2.1.1, by have := x.2.2.1.2; omega⟩, x.2.2.2⟩) -- o22 e2.4
        · (rw [fr6]; unfold bd20; rw [jst_o (by omega), S19 _ _ (by omega) (by omega) (by omega) (by omega) (by omega)]; exact om.2.2.2.2) -- o23 e2.5
      · skip
        obtain ⟨T, q, eT, p1, ms2, p3, p4, p5, p6, p7⟩ := pm_r pm5 c3
        have st := sz_pos T
        have q1r := ms2.2.2
        have V18 : v18 = 4400 := by omega
        have TW : toW h19 T 4400 := toW_of hB T2 q0r.1 q0r.2 ms.2.1 eT (by rw [V18] at p7; exact p7) (by decide) (by omega)
        have OM19 : ownsM h19 E Rf := ownsM_fr om.1 (S19 _ _ (by omega) (by omega) (by omega) (by omega) (by omega)) (fun a s a0 a1 => S19 _ _ (by omega) (by omega) (by omega) (by omega) (by omega)) ⟨fun a s a0 a1 a2 s0 s1 => S19 _ _ (by omega) (by omega) (by omega) (by omega) (by omega), fun s s0 s1 => S19 _ _ (by omega) (by omega) (by omega) (by omega) (by omega)⟩
        have C19 : h19 454 21 = -1 ∧ bd20 h19 := ⟨by { rw [S19 _ _ (by omega) (by omega) (by omega) (by omega) (by omega)]; exact om.2.2.2.1 }, by { unfold bd20; rw [S19 _ _ (by omega) (by omega) (by omega) (by omega) (by omega)]; exact om.2.2.2.2 }⟩
        have E92 : h19 454 92 = h 454 92 := S19 _ _ (by omega) (by omega) (by omega) (by omega) (by omega)
        have H35 : 0 ≤ h19 454 35 ∧ h19 454 35 ≤ 2000 := by { rw [S19 _ _ (by omega) (by omega) (by omega) (by omega) (by omega)]; exact h35 }
        have I19 : h19 454 30 = 0 ∧ h19 454 31 = 2147483647 := by { rw [p1 _ _ (by omega) (by omega) (by omega) (by omega), p1 _ _ (by omega) (by omega) (by omega) (by omega), F15 _ _ (by omega), F15 _ _ (by omega)]; exact ce3 }
        have LO19 : h 454 92 ≠ 0 → (h19 454 92 = 805 ∨ h19 454 92 = 810) ∧ loP h19 L ∧ vLE E L := fun w => by { obtain ⟨l1, l2, l3⟩ := lo.resolve_left w; refine ⟨by rw [E92]; exact l1, loP_f l2 E92 (fun b s b0 b1 => S19 b s (by omega) (by omega) (by omega) (by omega) (by omega)) ?_, l3⟩; have q : rgL (h 454 92) + 1100 ≤ 4400 := (by unfold rgL; by_cases w : h 454 92 = 805; { rw [if_pos w]; decide }; { rw [if_neg w]; decide }); exact ⟨fun b s b0 b1 b2 s0 s1 => S19 b s (by omega) (by omega) (by omega) (by omega) (by omega), fun s s0 s1 => S19 _ _ (by omega) (by omega) (by omega) (by omega) (by omega)⟩ }
        have ST : ∀ (hh : AH) (EP : EV), (∀ b s, ¬ (b = 454 ∧ s = 34) → ¬ ((b = 474 ∨ b = 475) ∧ 0 ≤ s ∧ s < 3) → hh b s = h19 b s) → MS B n q hh ∧ (MI hh ∧ MK hh = 1000000) ∧ mkB hh N ∧ (ownsM hh E Rf ∧ wOK E Rf W ∧ E.2.2.1 = 0 ∧ hh 454 21 = -1 ∧ bd20 hh) ∧ (0 ≤ hh 454 35 ∧ hh 454 35 ≤ 2000) ∧ toW hh T 4400 := fun hh EP f => by { refine ⟨MS_fr ms2 (fun s s0 s1 => f _ _ (by omega) (by omega)), ⟨Or.inl (by rw [f _ _ (by omega) (by omega), f _ _ (by omega) (by omega)]; exact I19), by unfold MK; rw [f _ _ (by omega) (by omega), I19.1]; rfl⟩, mkB_f MB19 (fun b s y => f b s (by omega) (by omega)), ⟨ownsM_fr OM19 (f _ _ (by omega) (by omega)) (fun a s a0 a1 => f _ _ (by omega) (by omega)) ⟨fun a s a0 a1 a2 s0 s1 => f _ _ (by omega) (by omega), fun s s0 s1 => f _ _ (by omega) (by omega)⟩, om.2.1, om.2.2.1, by rw [f _ _ (by omega) (by omega)]; exact C19.1, by unfold bd20; rw [f _ _ (by omega) (by omega)]; exact C19.2⟩, by rw [f _ _ (by omega) (by omega)]; exact H35, toW_f TW ⟨fun a s _ _ _ _ _ _ => f _ _ (by omega) (by omega), fun s _ _ => f _ _ (by omega) (by omega), fun s _ _ => f _ _ (by omega) (by omega)⟩⟩ }
        refine OK_if (fun c4 => ?_) (fun c4 => ?_)
        · skip
          try simp (disch := omega) only [jst_eq, jst_ne, jst_ni, jI_i, jcmp_lt, jcmp_gt, w32_id, jcpy_out, Sum.elim_inl, Sum.elim_inr, jt2, jt3, jt4, jt5, jt6, jt7, jt8] at c4
          refine OK_jl ?_
          obtain ⟨EX, eEX⟩ : ∃ e, e = EPn E 0 (fun _ => 0) := ⟨_, rfl⟩
          have Z92 : h 454 92 = 0 := by { rw [← E92]; exact c4 }
          have J25 : ∀ b s, ¬ (b = 454 ∧ s = 34) → jst h19 454 34 0 b s = h19 b s := fun b s y => jst_o y
          have V25 : jst h19 454 34 0 454 34 = 0 := jst_eq
          generalize jst h19 454 34 0 = g25 at *
          obtain ⟨s1, s2, s3, s4, s5, s6⟩ := ST g25 EX (fun b s y _ => J25 b s y)
          refine OK_mono (vX14_keeps_j66 (B := B) (n := n) (q := q) (q0 := q0) (N := N) (E := E) (EP := EX) (Rf := Rf) (W := W) (L := L) (T := T) _ (by exact hB) (by exact ⟨T1, T2⟩) (by exact s1) (by exact s2) (by exact ⟨s3, mb.2⟩) (by exact s4) (by exact s5) (by (rw [V18]; exact ⟨s6, rfl, by omega⟩)) (by exact ⟨eq, eT⟩) (by (rw [eEX]; exact ⟨rfl, rfl, s4.1.1, ⟨V25, Int.le_refl _, (show (0 : Int) ≤ 3 by decide), fun k k0 k1 => absurd k1 (Int.not_lt.mpr k0)⟩, Or.inl ⟨rfl, om.2.2.1⟩⟩)) (by (left; rw [J25 _ _ (by omega)]; exact c4))) (fun r r7 => ?_)
          obtain ⟨y1, y2⟩ := r
          try dsimp only [Sum.elim_inl, Sum.elim_inr, jt2, jt3, jt4, jt5, jt6, jt7, jt8] at r7
          obtain ⟨oo7, fr7, mb7, bb7⟩ := r7
          try simp (disch := omega) only [jst_eq, jst_ne, jst_ni, jI_i, jcmp_lt, jcmp_gt, w32_id, jcpy_out, Sum.elim_inl, Sum.elim_inr, jt2, jt3, jt4, jt5, jt6, jt7, jt8] at oo7
          try simp (disch := omega) only [jst_eq, jst_ne, jst_ni, jI_i, jcmp_lt, jcmp_gt, w32_id, jcpy_out, Sum.elim_inl, Sum.elim_inr, jt2, jt3, jt4, jt5, jt6, jt7, jt8] at fr7
          try simp (disch := omega) only [jst_eq, jst_ne, jst_ni, jI_i, jcmp_lt, jcmp_gt, w32_id, jcpy_out, Sum.elim_inl, Sum.elim_inr, jt2, jt3, jt4, jt5, jt6, jt7, jt8] at mb7
          try simp (disch := omega) only [jst_eq, jst_ne, jst_ni, jI_i, jcmp_lt, jcmp_gt, w32_id, jcpy_out, Sum.elim_inl, Sum.elim_inr, jt2, jt3, jt4, jt5, jt6, jt7, jt8] at bb7
          try dsimp only [Sum.elim_inl, Sum.elim_inr, jt2, jt3, jt4, jt5, jt6, jt7, jt8]
          try dsimp only [Sum.elim_inl, Sum.elim_inr, jt2, jt3, jt4, jt5, jt6, jt7, jt8]
          refine ⟨?_, ?_, ?_, ?_, ?_⟩
          · (first | assumption | omega | ((try dsimp only [jt2, jt3, jt4]); first | omega | (simp (disch := omega) only [jst_eq, jst_ne, jst_ni, jst_o, jI_i, jcpy_out, w32_id, jdiv_nn, jshr_k, jand_255] <;> first | done | omega | assumption)) | (intros; simp (disch := omega) only [jst_eq, jst_ne, jst_ni, jst_o, jI_i, jcpy_out, w32_id, jdiv_nn, *] <;> first | done | omega) | (intros; simp (disch := omega) only [jst_eq, jst_ne, jst_ni, jst_o, jI_i, jcpy_out, w32_id, jdiv_nn] at * <;> first | done | omega | assumption) | (intros; first | rfl | (exfalso; omega) | ((repeat' apply And.intro) <;> first | assumption | rfl | omega | trivial))) -- o35 e3.1
          · (intro _; refine ⟨fun _ => ?_, fun w => absurd Z92 w⟩; rw [eEX] at oo7; have e55 : g25 454 55 = h 454 55 := (by rw [J25 _ _ (by omega)]; exact S19 _ _ (by omega) (by omega) (by omega) (by omega) (by omega)); rw [e55, J25 454 92 (by omega), E92] at oo7; exact oo7) -- o36 e3.2
          · exact frKm_t G19 (frKm_t (fun b s y1 _ _ _ _ _ _ => J25 b s (by omega)) fr7) -- o37 e3.3
          · (first | assumption | omega | ((try dsimp only [jt2, jt3, jt4]); first | omega | (simp (disch := omega) only [jst_eq, jst_ne, jst_ni, jst_o, jI_i, jcpy_out, w32_id, jdiv_nn, jshr_k, jand_255] <;> first | done | omega | assumption)) | (intros; simp (disch := omega) only [jst_eq, jst_ne, jst_ni, jst_o, jI_i, jcpy_out, w32_id, jdiv_nn, *] <;> first | done | omega) | (intros; simp (disch := omega) only [jst_eq, jst_ne, jst_ni, jst_o, jI_i, jcpy_out, w32_id, jdiv_nn] at * <;> first | done | omega | assumption) | (intros; first | rfl | (exfalso; omega) | ((repeat' apply And.intro) <;> first | assumption | rfl | omega | trivial))) -- o38 e3.4
          · (first | assumption | omega | ((try dsimp only [jt2, jt3, jt4]); first | omega | (simp (disch := omega) only [jst_eq, jst_ne, jst_ni, jst_o, jI_i, jcpy_out, w32_id, jdiv_nn, jshr_k, jand_255] <;> first | done | omega | assumption)) | (intros; simp (disch := omega) only [jst_eq, jst_ne, jst_ni, jst_o, jI_i, jcpy_out, w32_id, jdiv_nn, *] <;> first | done | omega) | (intros; simp (disch := omega) only [jst_eq, jst_ne, jst_ni, jst_o, jI_i, jcpy_out, w32_id, jdiv_nn] at * <;> first | done | omega | assumption) | (intros; first | rfl | (exfalso; omega) | ((repeat' apply And.intro) <;> first | assumption | rfl | omega | trivial))) -- o39 e3.5
        · skip
          try simp (disch := omega) only [jst_eq, jst_ne, jst_ni, jI_i, jcmp_lt, jcmp_gt, w32_id, jcpy_out, Sum.elim_inl, Sum.elim_inr, jt2, jt3, jt4, jt5, jt6, jt7, jt8] at c4
          have N92 : h 454 92 ≠ 0 := fun w => c4 (by rw [E92]; exact w)
          obtain ⟨L1, L2, L3⟩ := LO19 N92
          have LV : h19 (h19 454 92) 4 = L.2.1.1 := L2.2.2.1
          have VN := L3.2.1
          refine OK_jg (by (first | assumption | omega | ((try dsimp only [jt2, jt3, jt4]); first | omega | (simp (disch := omega) only [jst_eq, jst_ne, jst_ni, jst_o, jI_i, jcpy_out, w32_id, jdiv_nn, jshr_k, jand_255] <;> first | done | omega | assumption)) | (intros; simp (disch := omega) only [jst_eq, jst_ne, jst_ni, jst_o, jI_i, jcpy_out, w32_id, jdiv_nn, *] <;> first | done | omega) | (intros; simp (disch := omega) only [jst_eq, jst_ne, jst_ni, jst_o, jI_i, jcpy_out, w32_id, jdiv_nn] at * <;> first | done | omega | assumption) | (intros; first | rfl | (exfalso; omega) | ((repeat' apply And.intro) <;> first | assumption | rfl | omega | trivial)))) ?_ -- o40
          refine OK_jb (vX14_parameters _ _ _ (by (rw [LV]; omega)) (by (rw [LV, S19 (h19 454 92 + 2) (-2) (by omega) (by omega) (by omega) (by omega) (by omega), S19 (h19 454 92 + 2) (-1) (by omega) (by omega) (by omega) (by omega) (by omega)]; rcases L1 with w | w; { rw [show h19 454 92 + 2 = 807 by omega]; have := ka.1; omega }; { rw [show h19 454 92 + 2 = 812 by omega]; have := ka.2; omega }))) (fun h27 r8 => ?_)
          try dsimp only [Sum.elim_inl, Sum.elim_inr, jt2, jt3, jt4, jt5, jt6, jt7, jt8] at r8
          obtain ⟨pp8, fr8⟩ := r8
          try simp (disch := omega) only [jst_eq, jst_ne, jst_ni, jI_i, jcmp_lt, jcmp_gt, w32_id, jcpy_out, Sum.elim_inl, Sum.elim_inr, jt2, jt3, jt4, jt5, jt6, jt7, jt8] at pp8
          try simp (disch := omega) only [jst_eq, jst_ne, jst_ni, jI_i, jcmp_lt, jcmp_gt, w32_id, jcpy_out, Sum.elim_inl, Sum.elim_inr, jt2, jt3, jt4, jt5, jt6, jt7, jt8] at fr8
          obtain ⟨EX, eEX⟩ : ∃ e, e = EPn E L.2.1.1 L.2.1.2 := ⟨_, rfl⟩
          rw [LV] at pp8
          obtain ⟨s1, s2, s3, s4, s5, s6⟩ := ST h27 EX fr8
          refine OK_mono (vX14_keeps_j66 (B := B) (n := n) (q := q) (q0 := q0) (N := N) (E := E) (EP := EX) (Rf := Rf) (W := W) (L := L) (T := T) _ (by exact hB) (by exact ⟨T1, T2⟩) (by exact s1) (by exact s2) (by exact ⟨s3, mb.2⟩) (by exact s4) (by exact s5) (by (rw [V18]; exact ⟨s6, rfl, by omega⟩)) (by exact ⟨eq, eT⟩) (by (rw [eEX]; exact ⟨rfl, rfl, s4.1.1, ⟨pp8.1, by (show 0 ≤ L.2.1.1; omega), VN.2.1, fun k k0 k1 => by (have k1' : k < L.2.1.1 := k1; have p := pp8.2 k k0 k1'; have y := (L2.2.2.2.2.1 k k0 k1').1; have z := VN.2.2 k k0 k1'; rw [Int.zero_add, y] at p; exact ⟨p.1, p.2, by (show -1 ≤ L.2.1.2 k; omega), by (show L.2.1.2 k ≤ 2; omega)⟩)⟩, Or.inl ⟨rfl, om.2.2.1⟩⟩)) (by (right; have e92 : h27 454 92 = h19 454 92 := fr8 _ _ (by omega) (by omega); rw [e92]; refine ⟨L1, loP_f L2 e92 (fun b s b0 b1 => fr8 b s (by omega) (by omega)) ⟨fun b s b0 b1 b2 s0 s1 => fr8 b s (by omega) (by omega), fun s s0 s1 => fr8 _ _ (by omega) (by omega)⟩, L3, eEX⟩))) (fun r r9 => ?_)
          obtain ⟨y3, y4⟩ := r
          try dsimp only [Sum.elim_inl, Sum.elim_inr, jt2, jt3, jt4, jt5, jt6, jt7, jt8] at r9
          obtain ⟨oo9, fr9, mb9, bb9⟩ := r9
          try simp (disch := omega) only [jst_eq, jst_ne, jst_ni, jI_i, jcmp_lt, jcmp_gt, w32_id, jcpy_out, Sum.elim_inl, Sum.elim_inr, jt2, jt3, jt4, jt5, jt6, jt7, jt8] at oo9
          try simp (disch := omega) only [jst_eq, jst_ne, jst_ni, jI_i, jcmp_lt, jcmp_gt, w32_id, jcpy_out, Sum.elim_inl, Sum.elim_inr, jt2, jt3, jt4, jt5, jt6, jt7, jt8] at fr9
          try simp (disch := omega) only [jst_eq, jst_ne, jst_ni, jI_i, jcmp_lt, jcmp_gt, w32_id, jcpy_out, Sum.elim_inl, Sum.elim_inr, jt2, jt3, jt4, jt5, jt6, jt7, jt8] at mb9
          try simp (disch := omega) only [jst_eq, jst_ne, jst_ni, jI_i, jcmp_lt, jcmp_gt, w32_id, jcpy_out, Sum.elim_inl, Sum.elim_inr, jt2, jt3, jt4, jt5, jt6, jt7, jt8] at bb9
          try dsimp only [Sum.elim_inl, Sum.elim_inr, jt2, jt3, jt4, jt5, jt6, jt7, jt8]
          try dsimp only [Sum.elim_inl, Sum.elim_inr, jt2, jt3, jt4, jt5, jt6, jt7, jt8]
          refine ⟨?_, ?_, ?_, ?_, ?_⟩
          · (first | assumption | omega | ((try dsimp only [jt2, jt3, jt4]); first | omega | (simp (disch := omega) only [jst_eq, jst_ne, jst_ni, jst_o, jI_i, jcpy_out, w32_id, jdiv_nn, jshr_k, jand_255] <;> first | done | omega | assumption)) | (intros; simp (disch := omega) only [jst_eq, jst_ne, jst_ni, jst_o, jI_i, jcpy_out, w32_id, jdiv_nn, *] <;> first | done | omega) | (intros; simp (disch := omega) only [jst_eq, jst_ne, jst_ni, jst_o, jI_i, jcpy_out, w32_id, jdiv_nn] at * <;> first | done | omega | assumption) | (intros; first | rfl | (exfalso; omega) | ((repeat' apply And.intro) <;> first | assumption | rfl | omega | trivial))) -- o54 e4.1
          · (intro _; refine ⟨fun w => absurd w N92, fun _ => ?_⟩; rw [eEX] at oo9; have e55 : h27 454 55 = h 454 55 := (by rw [fr8 _ _ (by omega) (by omega)]; exact S19 _ _ (by omega) (by omega) (by omega) (by omega) (by omega)); rw [e55, fr8 454 92 (by omega) (by omega), E92] at oo9; exact oo9) -- o55 e4.2
          · exact frKm_t G19 (frKm_t (fun b s y1 _ _ _ y5 _ _ => fr8 b s (by omega) y5) fr9) -- o56 e4.3
          · (first | assumption | omega | ((try dsimp only [jt2, jt3, jt4]); first | omega | (simp (disch := omega) only [jst_eq, jst_ne, jst_ni, jst_o, jI_i, jcpy_out, w32_id, jdiv_nn, jshr_k, jand_255] <;> first | done | omega | assumption)) | (intros; simp (disch := omega) only [jst_eq, jst_ne, jst_ni, jst_o, jI_i, jcpy_out, w32_id, jdiv_nn, *] <;> first | done | omega) | (intros; simp (disch := omega) only [jst_eq, jst_ne, jst_ni, jst_o, jI_i, jcpy_out, w32_id, jdiv_nn] at * <;> first | done | omega | assumption) | (intros; first | rfl | (exfalso; omega) | ((repeat' apply And.intro) <;> first | assumption | rfl | omega | trivial))) -- o57 e4.4
          · (first | assumption | omega | ((try dsimp only [jt2, jt3, jt4]); first | omega | (simp (disch := omega) only [jst_eq, jst_ne, jst_ni, jst_o, jI_i, jcpy_out, w32_id, jdiv_nn, jshr_k, jand_255] <;> first | done | omega | assumption)) | (intros; simp (disch := omega) only [jst_eq, jst_ne, jst_ni, jst_o, jI_i, jcpy_out, w32_id, jdiv_nn, *] <;> first | done | omega) | (intros; simp (disch := omega) only [jst_eq, jst_ne, jst_ni, jst_o, jI_i, jcpy_out, w32_id, jdiv_nn] at * <;> first | done | omega | assumption) | (intros; first | rfl | (exfalso; omega) | ((repeat' apply And.intro) <;> first | assumption | rfl | omega | trivial))) -- o58 e4.5
  · skip
    try simp (disch := omega) only [jst_eq, jst_ne, jst_ni, jI_i, jcmp_lt, jcmp_gt, w32_id, jcpy_out, Sum.elim_inl, Sum.elim_inr, jt2, jt3, jt4, jt5, jt6, jt7, jt8] at c1
    refine OK_some ?_
    try dsimp only [Sum.elim_inl, Sum.elim_inr, jt2, jt3, jt4, jt5, jt6, jt7, jt8]
    try dsimp only [Sum.elim_inl, Sum.elim_inr, jt2, jt3, jt4, jt5, jt6, jt7, jt8]
    refine ⟨?_, ?_, ?_, ?_, ?_⟩
    · (first | assumption | omega | ((try dsimp only [jt2, jt3, jt4]); first | omega | (simp (disch := omega) only [jst_eq, jst_ne, jst_ni, jst_o, jI_i, jcpy_out, w32_id, jdiv_nn, jshr_k, jand_255] <;> first | done | omega | assumption)) | (intros; simp (disch := omega) only [jst_eq, jst_ne, jst_ni, jst_o, jI_i, jcpy_out, w32_id, jdiv_nn, *] <;> first | done | omega) | (intros; simp (disch := omega) only [jst_eq, jst_ne, jst_ni, jst_o, jI_i, jcpy_out, w32_id, jdiv_nn] at * <;> first | done | omega | assumption) | (intros; first | rfl | (exfalso; omega) | ((repeat' apply And.intro) <;> first | assumption | rfl | omega | trivial))) -- o59 e5.1
    · (first | assumption | omega | ((try dsimp only [jt2, jt3, jt4]); first | omega | (simp (disch := omega) only [jst_eq, jst_ne, jst_ni, jst_o, jI_i, jcpy_out, w32_id, jdiv_nn, jshr_k, jand_255] <;> first | done | omega | assumption)) | (intros; simp (disch := omega) only [jst_eq, jst_ne, jst_ni, jst_o, jI_i, jcpy_out, w32_id, jdiv_nn, *] <;> first | done | omega) | (intros; simp (disch := omega) only [jst_eq, jst_ne, jst_ni, jst_o, jI_i, jcpy_out, w32_id, jdiv_nn] at * <;> first | done | omega | assumption) | (intros; first | rfl | (exfalso; omega) | ((repeat' apply And.intro) <;> first | assumption | rfl | omega | trivial))) -- o60 e5.2
    · exact fun b s y1 y2 y3 y4 y5 y6 y7 => F3 b s (by omega) -- o61 e5.3
    · (have x := mkB_f (h' := h3) mb.1 (fun b s y => F3 b s (by omega)); exact ⟨⟨x.1.1, by have := x.1.2; omega⟩, x.2.1, ⟨x.2.2.1.1, by have := x.2.2.1.2; omega⟩, x.2.2.2⟩) -- o62 e5.4
    · (unfold bd20; rw [F3 _ _ (by omega)]; exact om.2.2.2.2) -- o63 e5.5

