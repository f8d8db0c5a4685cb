/-! m: mean, whole -/
theorem posN_lf {E : EV} {T : TR} {d k v : Int} {h h' : AH} (q : okN h T d k) (n2 : (inf T).1 ≠ 2) (hv : v = kch (kdE E T)) (m' : MI h') (mk : MK h' = min (MK h) (fiE E (inf T) 0 (h 454 35))) (hh : h' 454 35 = h 454 35 + if (inf T).1 = 3 then 1 else 0) (fr : frN d 1 h h')
    (rs : fiE E (inf T) 0 (h 454 35) = 1000000 → h' 461 d = kch (kdE E T) ∧ ((inf T).1 = 0 → h' 462 d = (inf T).2.2.1) ∧ ((inf T).1 = 1 → h' 462 d = mky E.2.1.1 E.2.1.2.1 (inf T).2.2.1)) : posN E T d h v h' := by
  have eT := okN_vr q n2
  have r1 := q.1
  have o := gT_i q.2.1
  have hd := q.2.2.2.1
  have h8 := q.2.2.2.2.1
  have q5 := sz_pos T
  have okp := o.2.1
  generalize inf T = i at *
  subst eT
  refine ⟨hv, m', mk, hh, fun z => absurd z n2, fun big => ?_, fr⟩
  have big' : fiE E i 0 (h 454 35) = 1000000 := big
  obtain ⟨r2, r3, r4⟩ := rs big'
  have g : ∀ a, a ≠ 454 → a ≠ 461 → a ≠ 462 → a ≠ 463 → h' a d = h a d := fun a y1 y2 y3 y4 => fr _ _ (by omega) (by omega)
  obtain ⟨a1, a2, a3⟩ := r1
  show resM h' (.leaf (riE E i (h 454 35))) d 0
  have kd : kdE E (.leaf i) = kdI E.2.1.1 E.2.1.2.1 E.2.1.2.2 (eRs E) (eO E) (eK E) i := rfl
  rw [kd] at r2
  refine ⟨hd, by omega, by rw [g _ (by omega) (by omega) (by omega) (by omega)]; exact a2, by rw [g _ (by omega) (by omega) (by omega) (by omega)]; exact a3, ?_⟩
  rw [g 460 (by omega) (by omega) (by omega) (by omega), r2]
  obtain ⟨m0, m1, m2, m3, m4⟩ := a1
  by_cases c0 : i.1 = 0
  · have e : riE E i (h 454 35) = (1, i.2.2.1, i.2.1, i.2.2.2) := by unfold riE rsI; rw [if_pos c0]
    rw [e]
    unfold kdI
    rw [if_pos c0]
    refine ⟨rfl, fun z => absurd z (show ¬ (1 : Int) = 0 by decide), fun _ => ⟨(m0 c0).1, r3 c0⟩, fun z => absurd z (show ¬ (1 : Int) = 2 by decide), fun z => absurd z (show ¬ (1 : Int) = 4 by decide), fun z => absurd z (show ¬ (1 : Int) = 3 by decide), by show (0 : Int) ≤ 1; decide, by show (1 : Int) ≤ 4; decide⟩
  by_cases c1 : i.1 = 1
  · have nn : ¬ mky E.2.1.1 E.2.1.2.1 i.2.2.1 < 0 := fun y => by
      unfold fiE fkI at big'
      rw [if_pos c1, if_pos y] at big'
      omega
    have e : riE E i (h 454 35) = (0, mky E.2.1.1 E.2.1.2.1 i.2.2.1, E.2.1.2.2 (mky E.2.1.1 E.2.1.2.1 i.2.2.1), i.2.2.2) := by unfold riE rsI; rw [if_neg c0, if_pos c1, if_neg nn]
    rw [e]
    unfold kdI
    rw [if_neg c0, if_pos c1, if_neg nn]
    refine ⟨rfl, fun _ => ⟨(m1 c1).1, r4 c1⟩, fun z => absurd z (show ¬ (0 : Int) = 1 by decide), fun z => absurd z (show ¬ (0 : Int) = 2 by decide), fun z => absurd z (show ¬ (0 : Int) = 4 by decide), fun z => absurd z (show ¬ (0 : Int) = 3 by decide), by show (0 : Int) ≤ 0; decide, by show (0 : Int) ≤ 4; decide⟩
  have c3 : i.1 = 3 := by have := o.2.2.2; omega
  have e : riE E i (h 454 35) = (3, min 2 (h 454 35), 0, i.2.2.2) := by unfold riE rsI; rw [if_neg c0, if_neg c1, if_neg n2]
  rw [e]
  unfold kdI
  rw [if_neg c0, if_neg c1, if_neg n2]
  refine ⟨rfl, fun z => absurd z (show ¬ (3 : Int) = 0 by decide), fun z => absurd z (show ¬ (3 : Int) = 1 by decide), fun z => absurd z (show ¬ (3 : Int) = 2 by decide), fun z => absurd z (show ¬ (3 : Int) = 4 by decide), fun _ => (m3 c3).1, by show (0 : Int) ≤ 3; decide, by show (3 : Int) ≤ 4; decide⟩
theorem vX14_mean_ {F : Int → Int → AH → Option (Int × AH)} (a1 : Int) (a2 : Int) {h : AH} {E : EV} {T : TR} {k : Int} (hF : CMN F E a2 k) (ev : evM h a2 E) (q : okN h T a1 (k + 1)) (m : MI h) (hc : 0 ≤ h 454 35 ∧ h 454 35 + hlT T ≤ 4000) : OK (gX14_mean_ F a1 a2 h) (fun r => jt2 r fun v h' => posN E T a1 h v h') := by
  have q3 := q.2.2.2.1
  have q4 := q.2.2.2.2.1
  have q5 := sz_pos T
  have hl := hlT_0 T
  have n := rawM_n q.1
  have o := gT_i q.2.1
  have sr := nd_sort (h := h) (d := a1) (i := inf T) ⟨fun z => (n.1 z).1, fun z => (n.2.1 z).1, fun z => (n.2.2.1 z).1, fun z => (n.2.2.2.1 z).1⟩ o.2.2.2
  have ev2 := ev.2.1
  have ok2 : 0 ≤ (inf T).2.2.2 ∧ (inf T).2.2.2 ≤ 2001 := ⟨o.1, o.2.1⟩
  have hp : h 468 a1 = (inf T).2.2.2 := n.2.2.2.2
  have mr := MK_r m
  have hcd : (inf T).1 = 2 → h 470 a1 = (inf T).2.2.1 := fun z => (n.2.2.1 z).2
  unfold gX14_mean_
  refine OK_jg (by (first | assumption | omega | ((try dsimp only [jt2, jt3, jt4]); first | omega | (simp (disch := omega) only [jst_eq, jst_ne, jst_ni, jst_o, jI_i, jcpy_out, w32_id, jdiv_nn, jshr_k, jand_255] <;> first | done | omega | assumption)) | (intros; simp (disch := omega) only [jst_eq, jst_ne, jst_ni, jst_o, jI_i, jcpy_out, w32_id, jdiv_nn, *] <;> first | done | omega) | (intros; simp (disch := omega) only [jst_eq, jst_ne, jst_ni, jst_o, jI_i, jcpy_out, w32_id, jdiv_nn] at * <;> first | done | omega | assumption) | (intros; first | rfl | (exfalso; omega) | ((repeat' apply And.intro) <;> first | assumption | rfl | omega | trivial)))) ?_ -- o1
  refine OK_if (fun c1 => ?_) (fun c1 => ?_)
  · skip
    try simp (disch := omega) only [jst_eq, jst_ne, jst_ni, jI_i, jcmp_lt, jcmp_gt, w32_id, jcpy_out, Sum.elim_inl, Sum.elim_inr, jt2, jt3, jt4, jt5, jt6, jt7, jt8] at c1
    have s0 : (inf T).1 = 0 := sr.2.1.mp c1
    refine OK_some ?_
    try dsimp only [Sum.elim_inl, Sum.elim_inr, jt2, jt3, jt4, jt5, jt6, jt7, jt8]
    (refine posN_lf q (by omega) (by rw [(n.1 s0).2.1]; unfold kdE kdT kdI; rw [if_pos s0]) m (by unfold fiE fkI; rw [if_neg (by omega), if_neg (by omega), if_neg (by omega)]; omega) (by rw [if_neg (by omega)]; omega) (fun _ _ _ _ => rfl) (fun _ => ⟨by rw [(n.1 s0).2.1]; unfold kdE kdT kdI; rw [if_pos s0], fun _ => (n.1 s0).2.2, fun z => by omega⟩)) -- o2 e1
  · skip
    try simp (disch := omega) only [jst_eq, jst_ne, jst_ni, jI_i, jcmp_lt, jcmp_gt, w32_id, jcpy_out, Sum.elim_inl, Sum.elim_inr, jt2, jt3, jt4, jt5, jt6, jt7, jt8] at c1
    refine OK_if (fun c2 => ?_) (fun c2 => ?_)
    · skip
      try simp (disch := omega) only [jst_eq, jst_ne, jst_ni, jI_i, jcmp_lt, jcmp_gt, w32_id, jcpy_out, Sum.elim_inl, Sum.elim_inr, jt2, jt3, jt4, jt5, jt6, jt7, jt8] at c2
      have s3 : (inf T).1 = 3 := sr.2.2.2.mp c2
      have fi3 : fiE E (inf T) 0 (h 454 35) = if 3 ≤ h 454 35 then (inf T).2.2.2 * 8 + 5 else 1000000 := by { unfold fiE fkI; rw [if_neg (by omega), if_neg (by omega), if_pos s3] }
      have k3 : kdE E T = 0 := by { unfold kdE kdT kdI; rw [if_neg (by omega), if_neg (by omega), if_neg (by omega)] }
      have n3 := (n.2.2.2.1 s3).2
      refine OK_jl ?_
      generalize e3 : jst h 454 35 (w32 (h 454 35 + 1)) = h3 at *
      have fj : ∀ a s, ¬ (a = 454 ∧ s = 35) → h3 a s = h a s := fun a s y => by { rw [← e3]; exact jst_o y }
      have hT1 : hlT T = 1 := by { rw [okN_vr q (by omega)]; show (if (inf T).1 = 3 then (1 : Int) else 0) = 1; rw [if_pos s3] }
      have c35 : h3 454 35 = h 454 35 + 1 := by { rw [← e3, jst_eq, w32_id (by omega) (by omega)] }
      have m2 : MI h3 := MI_fr (fj _ _ (by omega)) (fj _ _ (by omega)) m
      have mk : MK h3 = MK h := MK_fr (fj _ _ (by omega)) (fj _ _ (by omega))
      have h46 : h3 468 a1 = (inf T).2.2.2 := by { rw [fj _ _ (by omega)]; exact hp }
      refine OK_if (fun c3 => ?_) (fun c3 => ?_)
      · skip
        try simp (disch := omega) only [jst_eq, jst_ne, jst_ni, jI_i, jcmp_lt, jcmp_gt, w32_id, jcpy_out, Sum.elim_inl, Sum.elim_inr, jt2, jt3, jt4, jt5, jt6, jt7, jt8] at c3
        refine OK_some ?_
        try dsimp only [Sum.elim_inl, Sum.elim_inr, jt2, jt3, jt4, jt5, jt6, jt7, jt8]
        exact posN_lf q (by omega) (by rw [k3]; rfl) m2 (by rw [mk, fi3, if_neg (by omega)]; omega) (by rw [if_pos s3]; exact c35) (fun a s y1 y2 => fj _ _ (by omega)) (fun _ => ⟨by rw [fj _ _ (by omega), k3, n3]; rfl, fun z => by omega, fun z => by omega⟩) -- o3 e2
      · skip
        try simp (disch := omega) only [jst_eq, jst_ne, jst_ni, jI_i, jcmp_lt, jcmp_gt, w32_id, jcpy_out, Sum.elim_inl, Sum.elim_inr, jt2, jt3, jt4, jt5, jt6, jt7, jt8] at c3
        refine OK_jb (vX14_note _ _ (by (first | assumption | omega | ((try dsimp only [jt2, jt3, jt4]); first | omega | (simp (disch := omega) only [jst_eq, jst_ne, jst_ni, jst_o, jI_i, jcpy_out, w32_id, jdiv_nn, jshr_k, jand_255] <;> first | done | omega | assumption)) | (intros; simp (disch := omega) only [jst_eq, jst_ne, jst_ni, jst_o, jI_i, jcpy_out, w32_id, jdiv_nn, *] <;> first | done | omega) | (intros; simp (disch := omega) only [jst_eq, jst_ne, jst_ni, jst_o, jI_i, jcpy_out, w32_id, jdiv_nn] at * <;> first | done | omega | assumption) | (intros; first | rfl | (exfalso; omega) | ((repeat' apply And.intro) <;> first | assumption | rfl | omega | trivial)))) (by (first | assumption | omega | ((try dsimp only [jt2, jt3, jt4]); first | omega | (simp (disch := omega) only [jst_eq, jst_ne, jst_ni, jst_o, jI_i, jcpy_out, w32_id, jdiv_nn, jshr_k, jand_255] <;> first | done | omega | assumption)) | (intros; simp (disch := omega) only [jst_eq, jst_ne, jst_ni, jst_o, jI_i, jcpy_out, w32_id, jdiv_nn, *] <;> first | done | omega) | (intros; simp (disch := omega) only [jst_eq, jst_ne, jst_ni, jst_o, jI_i, jcpy_out, w32_id, jdiv_nn] at * <;> first | done | omega | assumption) | (intros; first | rfl | (exfalso; omega) | ((repeat' apply And.intro) <;> first | assumption | rfl | omega | trivial))))) (fun h6 r1 => ?_)
        try dsimp only [Sum.elim_inl, Sum.elim_inr, jt2, jt3, jt4, jt5, jt6, jt7, jt8] at r1
        obtain ⟨m1, k1, fr1⟩ := r1
        try simp (disch := omega) only [jst_eq, jst_ne, jst_ni, jI_i, jcmp_lt, jcmp_gt, w32_id, jcpy_out, Sum.elim_inl, Sum.elim_inr, jt2, jt3, jt4, jt5, jt6, jt7, jt8] at m1
        try simp (disch := omega) only [jst_eq, jst_ne, jst_ni, jI_i, jcmp_lt, jcmp_gt, w32_id, jcpy_out, Sum.elim_inl, Sum.elim_inr, jt2, jt3, jt4, jt5, jt6, jt7, jt8] at k1
        try simp (disch := omega) only [jst_eq, jst_ne, jst_ni, jI_i, jcmp_lt, jcmp_gt, w32_id, jcpy_out, Sum.elim_inl, Sum.elim_inr, jt2, jt3, jt4, jt5, jt6, jt7, jt8] at fr1
        refine OK_some ?_
        try dsimp only [Sum.elim_inl, Sum.elim_inr, jt2, jt3, jt4, jt5, jt6, jt7, jt8]
        exact posN_lf q (by omega) (by rw [k3]; rfl) m1 (by rw [k1, mk, h46, fi3, if_pos (by omega)]) (by rw [if_pos s3, fr1 _ _ (by omega)]; exact c35) (fun a s y1 y2 => by rw [fr1 _ _ (by omega)]; exact fj _ _ (by omega)) (fun _ => ⟨by rw [fr1 _ _ (by omega), fj _ _ (by omega), k3, n3]; rfl, fun z => by omega, fun z => by omega⟩) -- o6 e3
    · skip
      try simp (disch := omega) only [jst_eq, jst_ne, jst_ni, jI_i, jcmp_lt, jcmp_gt, w32_id, jcpy_out, Sum.elim_inl, Sum.elim_inr, jt2, jt3, jt4, jt5, jt6, jt7, jt8] at c2
      refine OK_if (fun c4 => ?_) (fun c4 => ?_)
      · skip
        try simp (disch := omega) only [jst_eq, jst_ne, jst_ni, jI_i, jcmp_lt, jcmp_gt, w32_id, jcpy_out, Sum.elim_inl, Sum.elim_inr, jt2, jt3, jt4, jt5, jt6, jt7, jt8] at c4
        have s1 : (inf T).1 = 1 := sr.2.2.1.mp c4
        have w1 := (n.2.1 s1).2
        have fi1 : fiE E (inf T) 0 (h 454 35) = if mky E.2.1.1 E.2.1.2.1 (inf T).2.2.1 < 0 then (inf T).2.2.2 * 8 + 2 else 1000000 := by { unfold fiE fkI; rw [if_pos s1] }
        have k1' : kdE E T = if mky E.2.1.1 E.2.1.2.1 (inf T).2.2.1 < 0 then -1 else E.2.1.2.2 (mky E.2.1.1 E.2.1.2.1 (inf T).2.2.1) := by { unfold kdE kdT kdI; rw [if_neg (by omega), if_pos s1] }
        refine OK_jb (vX14_nameAt (E := E) _ (by (first | assumption | omega | ((try dsimp only [jt2, jt3, jt4]); first | omega | (simp (disch := omega) only [jst_eq, jst_ne, jst_ni, jst_o, jI_i, jcpy_out, w32_id, jdiv_nn, jshr_k, jand_255] <;> first | done | omega | assumption)) | (intros; simp (disch := omega) only [jst_eq, jst_ne, jst_ni, jst_o, jI_i, jcpy_out, w32_id, jdiv_nn, *] <;> first | done | omega) | (intros; simp (disch := omega) only [jst_eq, jst_ne, jst_ni, jst_o, jI_i, jcpy_out, w32_id, jdiv_nn] at * <;> first | done | omega | assumption) | (intros; first | rfl | (exfalso; omega) | ((repeat' apply And.intro) <;> first | assumption | rfl | omega | trivial))))) (fun v9 r2 => ?_)
        try dsimp only [Sum.elim_inl, Sum.elim_inr, jt2, jt3, jt4, jt5, jt6, jt7, jt8] at r2
        have v2 := r2
        clear r2
        try simp (disch := omega) only [jst_eq, jst_ne, jst_ni, jI_i, jcmp_lt, jcmp_gt, w32_id, jcpy_out, Sum.elim_inl, Sum.elim_inr, jt2, jt3, jt4, jt5, jt6, jt7, jt8] at v2
        refine OK_if (fun c5 => ?_) (fun c5 => ?_)
        · skip
          try simp (disch := omega) only [jst_eq, jst_ne, jst_ni, jI_i, jcmp_lt, jcmp_gt, w32_id, jcpy_out, Sum.elim_inl, Sum.elim_inr, jt2, jt3, jt4, jt5, jt6, jt7, jt8] at c5
          have v1' : v9 = mky E.2.1.1 E.2.1.2.1 (inf T).2.2.1 := by { rw [v2.1, w1] }
          have nP3 := ev2.2.2.1
          have v3 : v9 < 3 ∧ v9 < E.2.1.1 := by { have := fA_0 (c := E.2.1.2.1) (w := (inf T).2.2.1) (n := E.2.1.1); unfold mky at v1'; omega }
          have pk := (ev2.2.2.2 v9 c5 v3.2).2.1
          refine OK_jl ?_
          refine OK_jg (by (first | assumption | omega | ((try dsimp only [jt2, jt3, jt4]); first | omega | (simp (disch := omega) only [jst_eq, jst_ne, jst_ni, jst_o, jI_i, jcpy_out, w32_id, jdiv_nn, jshr_k, jand_255] <;> first | done | omega | assumption)) | (intros; simp (disch := omega) only [jst_eq, jst_ne, jst_ni, jst_o, jI_i, jcpy_out, w32_id, jdiv_nn, *] <;> first | done | omega) | (intros; simp (disch := omega) only [jst_eq, jst_ne, jst_ni, jst_o, jI_i, jcpy_out, w32_id, jdiv_nn] at * <;> first | done | omega | assumption) | (intros; first | rfl | (exfalso; omega) | ((repeat' apply And.intro) <;> first | assumption | rfl | omega | trivial)))) ?_ -- o8
          refine OK_jl ?_
          have q1 : jst h 462 a1 v9 475 v9 = h 475 v9 := jst_o (by omega)
          rw [q1]
          generalize e12 : jst (jst h 462 a1 v9) 461 a1 (h 475 v9) = h12 at *
          have fj : ∀ a s, ¬ (a = 461 ∧ s = a1) → ¬ (a = 462 ∧ s = a1) → h12 a s = h a s := fun a s y y2 => by { rw [← e12, jst_o y]; exact jst_o y2 }
          have c61 : h12 461 a1 = h 475 v9 := by { rw [← e12]; exact jst_eq }
          have c62 : h12 462 a1 = v9 := by { rw [← e12, jst_o (by omega)]; exact jst_eq }
          refine OK_some ?_
          try dsimp only [Sum.elim_inl, Sum.elim_inr, jt2, jt3, jt4, jt5, jt6, jt7, jt8]
          exact posN_lf q (by omega) (by rw [c61, pk, k1', if_neg (by omega), v1']) (MI_fr (fj _ _ (by omega) (by omega)) (fj _ _ (by omega) (by omega)) m) (by rw [MK_fr (fj _ _ (by omega) (by omega)) (fj _ _ (by omega) (by omega)), fi1, if_neg (by omega)]; omega) (by rw [if_neg (by omega), fj _ _ (by omega) (by omega)]; omega) (fun a s y1 y2 => fj _ _ (by omega) (by omega)) (fun _ => ⟨by rw [c61, pk, k1', if_neg (by omega), v1'], fun z => by omega, fun _ => by rw [c62, v1']⟩) -- o9 e4
        · skip
          try simp (disch := omega) only [jst_eq, jst_ne, jst_ni, jI_i, jcmp_lt, jcmp_gt, w32_id, jcpy_out, Sum.elim_inl, Sum.elim_inr, jt2, jt3, jt4, jt5, jt6, jt7, jt8] at c5
          have v1' : mky E.2.1.1 E.2.1.2.1 (inf T).2.2.1 < 0 := by { rw [← w1, ← v2.1]; omega }
          refine OK_jb (vX14_note _ _ (by (first | assumption | omega | ((try dsimp only [jt2, jt3, jt4]); first | omega | (simp (disch := omega) only [jst_eq, jst_ne, jst_ni, jst_o, jI_i, jcpy_out, w32_id, jdiv_nn, jshr_k, jand_255] <;> first | done | omega | assumption)) | (intros; simp (disch := omega) only [jst_eq, jst_ne, jst_ni, jst_o, jI_i, jcpy_out, w32_id, jdiv_nn, *] <;> first | done | omega) | (intros; simp (disch := omega) only [jst_eq, jst_ne, jst_ni, jst_o, jI_i, jcpy_out, w32_id, jdiv_nn] at * <;> first | done | omega | assumption) | (intros; first | rfl | (exfalso; omega) | ((repeat' apply And.intro) <;> first | assumption | rfl | omega | trivial)))) (by (first | assumption | omega | ((try dsimp only [jt2, jt3, jt4]); first | omega | (simp (disch := omega) only [jst_eq, jst_ne, jst_ni, jst_o, jI_i, jcpy_out, w32_id, jdiv_nn, jshr_k, jand_255] <;> first | done | omega | assumption)) | (intros; simp (disch := omega) only [jst_eq, jst_ne, jst_ni, jst_o, jI_i, jcpy_out, w32_id, jdiv_nn, *] <;> first | done | omega) | (intros; simp (disch := omega) only [jst_eq, jst_ne, jst_ni, jst_o, jI_i, jcpy_out, w32_id, jdiv_nn] at * <;> first | done | omega | assumption) | (intros; first | rfl | (exfalso; omega) | ((repeat' apply And.intro) <;> first | assumption | rfl | omega | trivial))))) (fun h14 r3 => ?_)
          try dsimp only [Sum.elim_inl, Sum.elim_inr, jt2, jt3, jt4, jt5, jt6, jt7, jt8] at r3
          obtain ⟨m3, k3, fr3⟩ := r3
          try simp (disch := omega) only [jst_eq, jst_ne, jst_ni, jI_i, jcmp_lt, jcmp_gt, w32_id, jcpy_out, Sum.elim_inl, Sum.elim_inr, jt2, jt3, jt4, jt5, jt6, jt7, jt8] at m3
          try simp (disch := omega) only [jst_eq, jst_ne, jst_ni, jI_i, jcmp_lt, jcmp_gt, w32_id, jcpy_out, Sum.elim_inl, Sum.elim_inr, jt2, jt3, jt4, jt5, jt6, jt7, jt8] at k3
          try simp (disch := omega) only [jst_eq, jst_ne, jst_ni, jI_i, jcmp_lt, jcmp_gt, w32_id, jcpy_out, Sum.elim_inl, Sum.elim_inr, jt2, jt3, jt4, jt5, jt6, jt7, jt8] at fr3
          refine OK_some ?_
          try dsimp only [Sum.elim_inl, Sum.elim_inr, jt2, jt3, jt4, jt5, jt6, jt7, jt8]
          exact posN_lf q (by omega) (by rw [k1', if_pos v1']; rfl) m3 (by rw [k3, hp, fi1, if_pos v1']) (by rw [if_neg (by omega), fr3 _ _ (by omega)]; omega) (fun a s y1 y2 => fr3 _ _ (by omega)) (fun big => by rw [fi1, if_pos v1'] at big; omega) -- o12 e5
      · skip
        try simp (disch := omega) only [jst_eq, jst_ne, jst_ni, jI_i, jcmp_lt, jcmp_gt, w32_id, jcpy_out, Sum.elim_inl, Sum.elim_inr, jt2, jt3, jt4, jt5, jt6, jt7, jt8] at c4
        have s2 : (inf T).1 = 2 := by { have := o.2.2.2; have := sr.2.1; have := sr.2.2.1; have := sr.2.2.2; omega }
        have w2 := hcd s2
        have fa := fA_0 (c := E.1.2.1) (w := (inf T).2.2.1) (n := E.1.1)
        have er : eRs E (inf T).2.2.1 = if E.2.2.1 = 1 ∧ (inf T).2.2.1 = 6 then -2 else fA E.1.2.1 (inf T).2.2.1 E.1.1.toNat 0 := rfl
        refine OK_if (fun c6 => ?_) (fun c6 => ?_)
        · skip
          try simp (disch := omega) only [jst_eq, jst_ne, jst_ni, jI_i, jcmp_lt, jcmp_gt, w32_id, jcpy_out, Sum.elim_inl, Sum.elim_inr, jt2, jt3, jt4, jt5, jt6, jt7, jt8] at c6
          have l0 : E.2.2.1 = 0 := by { rcases ev.2.2 with z | z; { exact z.2 }; { omega } }
          have er2 : 0 = if eRs E (inf T).2.2.1 = -2 then (1 : Int) else 0 := by { rw [if_neg (fun y => by rw [if_neg (fun z => by omega)] at er; omega)] }
          refine OK_mono (vX14_mean_j145 (E := E) (T := T) (k := k) _ _ _ (by (first | assumption | omega | ((try dsimp only [jt2, jt3, jt4]); first | omega | (simp (disch := omega) only [jst_eq, jst_ne, jst_ni, jst_o, jI_i, jcpy_out, w32_id, jdiv_nn, jshr_k, jand_255] <;> first | done | omega | assumption)) | (intros; simp (disch := omega) only [jst_eq, jst_ne, jst_ni, jst_o, jI_i, jcpy_out, w32_id, jdiv_nn, *] <;> first | done | omega) | (intros; simp (disch := omega) only [jst_eq, jst_ne, jst_ni, jst_o, jI_i, jcpy_out, w32_id, jdiv_nn] at * <;> first | done | omega | assumption) | (intros; first | rfl | (exfalso; omega) | ((repeat' apply And.intro) <;> first | assumption | rfl | omega | trivial)))) (by (first | assumption | omega | ((try dsimp only [jt2, jt3, jt4]); first | omega | (simp (disch := omega) only [jst_eq, jst_ne, jst_ni, jst_o, jI_i, jcpy_out, w32_id, jdiv_nn, jshr_k, jand_255] <;> first | done | omega | assumption)) | (intros; simp (disch := omega) only [jst_eq, jst_ne, jst_ni, jst_o, jI_i, jcpy_out, w32_id, jdiv_nn, *] <;> first | done | omega) | (intros; simp (disch := omega) only [jst_eq, jst_ne, jst_ni, jst_o, jI_i, jcpy_out, w32_id, jdiv_nn] at * <;> first | done | omega | assumption) | (intros; first | rfl | (exfalso; omega) | ((repeat' apply And.intro) <;> first | assumption | rfl | omega | trivial)))) (by (first | assumption | omega | ((try dsimp only [jt2, jt3, jt4]); first | omega | (simp (disch := omega) only [jst_eq, jst_ne, jst_ni, jst_o, jI_i, jcpy_out, w32_id, jdiv_nn, jshr_k, jand_255] <;> first | done | omega | assumption)) | (intros; simp (disch := omega) only [jst_eq, jst_ne, jst_ni, jst_o, jI_i, jcpy_out, w32_id, jdiv_nn, *] <;> first | done | omega) | (intros; simp (disch := omega) only [jst_eq, jst_ne, jst_ni, jst_o, jI_i, jcpy_out, w32_id, jdiv_nn] at * <;> first | done | omega | assumption) | (intros; first | rfl | (exfalso; omega) | ((repeat' apply And.intro) <;> first | assumption | rfl | omega | trivial)))) (by (first | assumption | omega | ((try dsimp only [jt2, jt3, jt4]); first | omega | (simp (disch := omega) only [jst_eq, jst_ne, jst_ni, jst_o, jI_i, jcpy_out, w32_id, jdiv_nn, jshr_k, jand_255] <;> first | done | omega | assumption)) | (intros; simp (disch := omega) only [jst_eq, jst_ne, jst_ni, jst_o, jI_i, jcpy_out, w32_id, jdiv_nn, *] <;> first | done | omega) | (intros; simp (disch := omega) only [jst_eq, jst_ne, jst_ni, jst_o, jI_i, jcpy_out, w32_id, jdiv_nn] at * <;> first | done | omega | assumption) | (intros; first | rfl | (exfalso; omega) | ((repeat' apply And.intro) <;> first | assumption | rfl | omega | trivial)))) (by (first | assumption | omega | ((try dsimp only [jt2, jt3, jt4]); first | omega | (simp (disch := omega) only [jst_eq, jst_ne, jst_ni, jst_o, jI_i, jcpy_out, w32_id, jdiv_nn, jshr_k, jand_255] <;> first | done | omega | assumption)) | (intros; simp (disch := omega) only [jst_eq, jst_ne, jst_ni, jst_o, jI_i, jcpy_out, w32_id, jdiv_nn, *] <;> first | done | omega) | (intros; simp (disch := omega) only [jst_eq, jst_ne, jst_ni, jst_o, jI_i, jcpy_out, w32_id, jdiv_nn] at * <;> first | done | omega | assumption) | (intros; first | rfl | (exfalso; omega) | ((repeat' apply And.intro) <;> first | assumption | rfl | omega | trivial)))) (by (first | assumption | omega | ((try dsimp only [jt2, jt3, jt4]); first | omega | (simp (disch := omega) only [jst_eq, jst_ne, jst_ni, jst_o, jI_i, jcpy_out, w32_id, jdiv_nn, jshr_k, jand_255] <;> first | done | omega | assumption)) | (intros; simp (disch := omega) only [jst_eq, jst_ne, jst_ni, jst_o, jI_i, jcpy_out, w32_id, jdiv_nn, *] <;> first | done | omega) | (intros; simp (disch := omega) only [jst_eq, jst_ne, jst_ni, jst_o, jI_i, jcpy_out, w32_id, jdiv_nn] at * <;> first | done | omega | assumption) | (intros; first | rfl | (exfalso; omega) | ((repeat' apply And.intro) <;> first | assumption | rfl | omega | trivial)))) (by (first | assumption | omega | ((try dsimp only [jt2, jt3, jt4]); first | omega | (simp (disch := omega) only [jst_eq, jst_ne, jst_ni, jst_o, jI_i, jcpy_out, w32_id, jdiv_nn, jshr_k, jand_255] <;> first | done | omega | assumption)) | (intros; simp (disch := omega) only [jst_eq, jst_ne, jst_ni, jst_o, jI_i, jcpy_out, w32_id, jdiv_nn, *] <;> first | done | omega) | (intros; simp (disch := omega) only [jst_eq, jst_ne, jst_ni, jst_o, jI_i, jcpy_out, w32_id, jdiv_nn] at * <;> first | done | omega | assumption) | (intros; first | rfl | (exfalso; omega) | ((repeat' apply And.intro) <;> first | assumption | rfl | omega | trivial))))) (fun r r4 => ?_)
          obtain ⟨y1, y2⟩ := r
          try dsimp only [Sum.elim_inl, Sum.elim_inr, jt2, jt3, jt4, jt5, jt6, jt7, jt8] at r4
          have pn4 := r4
          clear r4
          try simp (disch := omega) only [jst_eq, jst_ne, jst_ni, jI_i, jcmp_lt, jcmp_gt, w32_id, jcpy_out, Sum.elim_inl, Sum.elim_inr, jt2, jt3, jt4, jt5, jt6, jt7, jt8] at pn4
          try dsimp only [Sum.elim_inl, Sum.elim_inr, jt2, jt3, jt4, jt5, jt6, jt7, jt8]
          (first | assumption | omega | ((try dsimp only [jt2, jt3, jt4]); first | omega | (simp (disch := omega) only [jst_eq, jst_ne, jst_ni, jst_o, jI_i, jcpy_out, w32_id, jdiv_nn, jshr_k, jand_255] <;> first | done | omega | assumption)) | (intros; simp (disch := omega) only [jst_eq, jst_ne, jst_ni, jst_o, jI_i, jcpy_out, w32_id, jdiv_nn, *] <;> first | done | omega) | (intros; simp (disch := omega) only [jst_eq, jst_ne, jst_ni, jst_o, jI_i, jcpy_out, w32_id, jdiv_nn] at * <;> first | done | omega | assumption) | (intros; first | rfl | (exfalso; omega) | ((repeat' apply And.intro) <;> first | assumption | rfl | omega | trivial))) -- o20 e6
        · skip
          try simp (disch := omega) only [jst_eq, jst_ne, jst_ni, jI_i, jcmp_lt, jcmp_gt, w32_id, jcpy_out, Sum.elim_inl, Sum.elim_inr, jt2, jt3, jt4, jt5, jt6, jt7, jt8] at c6
          have l1 : E.2.2.1 = 1 := by { rcases ev.2.2 with z | z; { exact absurd z.1 c6 }; { exact z.2.1 } }
          refine OK_if (fun c7 => ?_) (fun c7 => ?_)
          · skip
            try simp (disch := omega) only [jst_eq, jst_ne, jst_ni, jI_i, jcmp_lt, jcmp_gt, w32_id, jcpy_out, Sum.elim_inl, Sum.elim_inr, jt2, jt3, jt4, jt5, jt6, jt7, jt8] at c7
            have w6 := jcmp_eq.mp c7
            have er2 : 1 = if eRs E (inf T).2.2.1 = -2 then (1 : Int) else 0 := by { rw [if_pos (by rw [er, if_pos ⟨l1, by omega⟩])] }
            refine OK_mono (vX14_mean_j145 (E := E) (T := T) (k := k) _ _ _ (by (first | assumption | omega | ((try dsimp only [jt2, jt3, jt4]); first | omega | (simp (disch := omega) only [jst_eq, jst_ne, jst_ni, jst_o, jI_i, jcpy_out, w32_id, jdiv_nn, jshr_k, jand_255] <;> first | done | omega | assumption)) | (intros; simp (disch := omega) only [jst_eq, jst_ne, jst_ni, jst_o, jI_i, jcpy_out, w32_id, jdiv_nn, *] <;> first | done | omega) | (intros; simp (disch := omega) only [jst_eq, jst_ne, jst_ni, jst_o, jI_i, jcpy_out, w32_id, jdiv_nn] at * <;> first | done | omega | assumption) | (intros; first | rfl | (exfalso; omega) | ((repeat' apply And.intro) <;> first | assumption | rfl | omega | trivial)))) (by (first | assumption | omega | ((try dsimp only [jt2, jt3, jt4]); first | omega | (simp (disch := omega) only [jst_eq, jst_ne, jst_ni, jst_o, jI_i, jcpy_out, w32_id, jdiv_nn, jshr_k, jand_255] <;> first | done | omega | assumption)) | (intros; simp (disch := omega) only [jst_eq, jst_ne, jst_ni, jst_o, jI_i, jcpy_out, w32_id, jdiv_nn, *] <;> first | done | omega) | (intros; simp (disch := omega) only [jst_eq, jst_ne, jst_ni, jst_o, jI_i, jcpy_out, w32_id, jdiv_nn] at * <;> first | done | omega | assumption) | (intros; first | rfl | (exfalso; omega) | ((repeat' apply And.intro) <;> first | assumption | rfl | omega | trivial)))) (by (first | assumption | omega | ((try dsimp only [jt2, jt3, jt4]); first | omega | (simp (disch := omega) only [jst_eq, jst_ne, jst_ni, jst_o, jI_i, jcpy_out, w32_id, jdiv_nn, jshr_k, jand_255] <;> first | done | omega | assumption)) | (intros; simp (disch := omega) only [jst_eq, jst_ne, jst_ni, jst_o, jI_i, jcpy_out, w32_id, jdiv_nn, *] <;> first | done | omega) | (intros; simp (disch := omega) only [jst_eq, jst_ne, jst_ni, jst_o, jI_i, jcpy_out, w32_id, jdiv_nn] at * <;> first | done | omega | assumption) | (intros; first | rfl | (exfalso; omega) | ((repeat' apply And.intro) <;> first | assumption | rfl | omega | trivial)))) (by (first | assumption | omega | ((try dsimp only [jt2, jt3, jt4]); first | omega | (simp (disch := omega) only [jst_eq, jst_ne, jst_ni, jst_o, jI_i, jcpy_out, w32_id, jdiv_nn, jshr_k, jand_255] <;> first | done | omega | assumption)) | (intros; simp (disch := omega) only [jst_eq, jst_ne, jst_ni, jst_o, jI_i, jcpy_out, w32_id, jdiv_nn, *] <;> first | done | omega) | (intros; simp (disch := omega) only [jst_eq, jst_ne, jst_ni, jst_o, jI_i, jcpy_out, w32_id, jdiv_nn] at * <;> first | done | omega | assumption) | (intros; first | rfl | (exfalso; omega) | ((repeat' apply And.intro) <;> first | assumption | rfl | omega | trivial)))) (by (first | assumption | omega | ((try dsimp only [jt2, jt3, jt4]); first | omega | (simp (disch := omega) only [jst_eq, jst_ne, jst_ni, jst_o, jI_i, jcpy_out, w32_id, jdiv_nn, jshr_k, jand_255] <;> first | done | omega | assumption)) | (intros; simp (disch := omega) only [jst_eq, jst_ne, jst_ni, jst_o, jI_i, jcpy_out, w32_id, jdiv_nn, *] <;> first | done | omega) | (intros; simp (disch := omega) only [jst_eq, jst_ne, jst_ni, jst_o, jI_i, jcpy_out, w32_id, jdiv_nn] at * <;> first | done | omega | assumption) | (intros; first | rfl | (exfalso; omega) | ((repeat' apply And.intro) <;> first | assumption | rfl | omega | trivial)))) (by (first | assumption | omega | ((try dsimp only [jt2, jt3, jt4]); first | omega | (simp (disch := omega) only [jst_eq, jst_ne, jst_ni, jst_o, jI_i, jcpy_out, w32_id, jdiv_nn, jshr_k, jand_255] <;> first | done | omega | assumption)) | (intros; simp (disch := omega) only [jst_eq, jst_ne, jst_ni, jst_o, jI_i, jcpy_out, w32_id, jdiv_nn, *] <;> first | done | omega) | (intros; simp (disch := omega) only [jst_eq, jst_ne, jst_ni, jst_o, jI_i, jcpy_out, w32_id, jdiv_nn] at * <;> first | done | omega | assumption) | (intros; first | rfl | (exfalso; omega) | ((repeat' apply And.intro) <;> first | assumption | rfl | omega | trivial)))) (by (first | assumption | omega | ((try dsimp only [jt2, jt3, jt4]); first | omega | (simp (disch := omega) only [jst_eq, jst_ne, jst_ni, jst_o, jI_i, jcpy_out, w32_id, jdiv_nn, jshr_k, jand_255] <;> first | done | omega | assumption)) | (intros; simp (disch := omega) only [jst_eq, jst_ne, jst_ni, jst_o, jI_i, jcpy_out, w32_id, jdiv_nn, *] <;> first | done | omega) | (intros; simp (disch := omega) only [jst_eq, jst_ne, jst_ni, jst_o, jI_i, jcpy_out, w32_id, jdiv_nn] at * <;> first | done | omega | assumption) | (intros; first | rfl | (exfalso; omega) | ((repeat' apply And.intro) <;> first | assumption | rfl | omega | trivial))))) (fun r r5 => ?_)
            obtain ⟨y3, y4⟩ := r
            try dsimp only [Sum.elim_inl, Sum.elim_inr, jt2, jt3, jt4, jt5, jt6, jt7, jt8] at r5
            have pn5 := r5
            clear r5
            try simp (disch := omega) only [jst_eq, jst_ne, jst_ni, jI_i, jcmp_lt, jcmp_gt, w32_id, jcpy_out, Sum.elim_inl, Sum.elim_inr, jt2, jt3, jt4, jt5, jt6, jt7, jt8] at pn5
            try dsimp only [Sum.elim_inl, Sum.elim_inr, jt2, jt3, jt4, jt5, jt6, jt7, jt8]
            (first | assumption | omega | ((try dsimp only [jt2, jt3, jt4]); first | omega | (simp (disch := omega) only [jst_eq, jst_ne, jst_ni, jst_o, jI_i, jcpy_out, w32_id, jdiv_nn, jshr_k, jand_255] <;> first | done | omega | assumption)) | (intros; simp (disch := omega) only [jst_eq, jst_ne, jst_ni, jst_o, jI_i, jcpy_out, w32_id, jdiv_nn, *] <;> first | done | omega) | (intros; simp (disch := omega) only [jst_eq, jst_ne, jst_ni, jst_o, jI_i, jcpy_out, w32_id, jdiv_nn] at * <;> first | done | omega | assumption) | (intros; first | rfl | (exfalso; omega) | ((repeat' apply And.intro) <;> first | assumption | rfl | omega | trivial))) -- o28 e7
          · skip
            try simp (disch := omega) only [jst_eq, jst_ne, jst_ni, jI_i, jcmp_lt, jcmp_gt, w32_id, jcpy_out, Sum.elim_inl, Sum.elim_inr, jt2, jt3, jt4, jt5, jt6, jt7, jt8] at c7
            have w6 : h 470 a1 ≠ 6 := fun y => c7 (jcmp_eq.mpr y)
            have er2 : 0 = if eRs E (inf T).2.2.1 = -2 then (1 : Int) else 0 := by { rw [if_neg (fun y => by rw [if_neg (fun z => by omega)] at er; omega)] }
            refine OK_mono (vX14_mean_j145 (E := E) (T := T) (k := k) _ _ _ (by (first | assumption | omega | ((try dsimp only [jt2, jt3, jt4]); first | omega | (simp (disch := omega) only [jst_eq, jst_ne, jst_ni, jst_o, jI_i, jcpy_out, w32_id, jdiv_nn, jshr_k, jand_255] <;> first | done | omega | assumption)) | (intros; simp (disch := omega) only [jst_eq, jst_ne, jst_ni, jst_o, jI_i, jcpy_out, w32_id, jdiv_nn, *] <;> first | done | omega) | (intros; simp (disch := omega) only [jst_eq, jst_ne, jst_ni, jst_o, jI_i, jcpy_out, w32_id, jdiv_nn] at * <;> first | done | omega | assumption) | (intros; first | rfl | (exfalso; omega) | ((repeat' apply And.intro) <;> first | assumption | rfl | omega | trivial)))) (by (first | assumption | omega | ((try dsimp only [jt2, jt3, jt4]); first | omega | (simp (disch := omega) only [jst_eq, jst_ne, jst_ni, jst_o, jI_i, jcpy_out, w32_id, jdiv_nn, jshr_k, jand_255] <;> first | done | omega | assumption)) | (intros; simp (disch := omega) only [jst_eq, jst_ne, jst_ni, jst_o, jI_i, jcpy_out, w32_id, jdiv_nn, *] <;> first | done | omega) | (intros; simp (disch := omega) only [jst_eq, jst_ne, jst_ni, jst_o, jI_i, jcpy_out, w32_id, jdiv_nn] at * <;> first | done | omega | assumption) | (intros; first | rfl | (exfalso; omega) | ((repeat' apply And.intro) <;> first | assumption | rfl | omega | trivial)))) (by (first | assumption | omega | ((try dsimp only [jt2, jt3, jt4]); first | omega | (simp (disch := omega) only [jst_eq, jst_ne, jst_ni, jst_o, jI_i, jcpy_out, w32_id, jdiv_nn, jshr_k, jand_255] <;> first | done | omega | assumption)) | (intros; simp (disch := omega) only [jst_eq, jst_ne, jst_ni, jst_o, jI_i, jcpy_out, w32_id, jdiv_nn, *] <;> first | done | omega) | (intros; simp (disch := omega) only [jst_eq, jst_ne, jst_ni, jst_o, jI_i, jcpy_out, w32_id, jdiv_nn] at * <;> first | done | omega | assumption) | (intros; first | rfl | (exfalso; omega) | ((repeat' apply And.intro) <;> first | assumption | rfl | omega | trivial)))) (by (first | assumption | omega | ((try dsimp only [jt2, jt3, jt4]); first | omega | (simp (disch := omega) only [jst_eq, jst_ne, jst_ni, jst_o, jI_i, jcpy_out, w32_id, jdiv_nn, jshr_k, jand_255] <;> first | done | omega | assumption)) | (intros; simp (disch := omega) only [jst_eq, jst_ne, jst_ni, jst_o, jI_i, jcpy_out, w32_id, jdiv_nn, *] <;> first | done | omega) | (intros; simp (disch := omega) only [jst_eq, jst_ne, jst_ni, jst_o, jI_i, jcpy_out, w32_id, jdiv_nn] at * <;> first | done | omega | assumption) | (intros; first | rfl | (exfalso; omega) | ((repeat' apply And.intro) <;> first | assumption | rfl | omega | trivial)))) (by (first | assumption | omega | ((try dsimp only [jt2, jt3, jt4]); first | omega | (simp (disch := omega) only [jst_eq, jst_ne, jst_ni, jst_o, jI_i, jcpy_out, w32_id, jdiv_nn, jshr_k, jand_255] <;> first | done | omega | assumption)) | (intros; simp (disch := omega) only [jst_eq, jst_ne, jst_ni, jst_o, jI_i, jcpy_out, w32_id, jdiv_nn, *] <;> first | done | omega) | (intros; simp (disch := omega) only [jst_eq, jst_ne, jst_ni, jst_o, jI_i, jcpy_out, w32_id, jdiv_nn] at * <;> first | done | omega | assumption) | (intros; first | rfl | (exfalso; omega) | ((repeat' apply And.intro) <;> first | assumption | rfl | omega | trivial)))) (by (first | assumption | omega | ((try dsimp only [jt2, jt3, jt4]); first | omega | (simp (disch := omega) only [jst_eq, jst_ne, jst_ni, jst_o, jI_i, jcpy_out, w32_id, jdiv_nn, jshr_k, jand_255] <;> first | done | omega | assumption)) | (intros; simp (disch := omega) only [jst_eq, jst_ne, jst_ni, jst_o, jI_i, jcpy_out, w32_id, jdiv_nn, *] <;> first | done | omega) | (intros; simp (disch := omega) only [jst_eq, jst_ne, jst_ni, jst_o, jI_i, jcpy_out, w32_id, jdiv_nn] at * <;> first | done | omega | assumption) | (intros; first | rfl | (exfalso; omega) | ((repeat' apply And.intro) <;> first | assumption | rfl | omega | trivial)))) (by (first | assumption | omega | ((try dsimp only [jt2, jt3, jt4]); first | omega | (simp (disch := omega) only [jst_eq, jst_ne, jst_ni, jst_o, jI_i, jcpy_out, w32_id, jdiv_nn, jshr_k, jand_255] <;> first | done | omega | assumption)) | (intros; simp (disch := omega) only [jst_eq, jst_ne, jst_ni, jst_o, jI_i, jcpy_out, w32_id, jdiv_nn, *] <;> first | done | omega) | (intros; simp (disch := omega) only [jst_eq, jst_ne, jst_ni, jst_o, jI_i, jcpy_out, w32_id, jdiv_nn] at * <;> first | done | omega | assumption) | (intros; first | rfl | (exfalso; omega) | ((repeat' apply And.intro) <;> first | assumption | rfl | omega | trivial))))) (fun r r6 => ?_)
            obtain ⟨y5, y6⟩ := r
            try dsimp only [Sum.elim_inl, Sum.elim_inr, jt2, jt3, jt4, jt5, jt6, jt7, jt8] at r6
            have pn6 := r6
            clear r6
            try simp (disch := omega) only [jst_eq, jst_ne, jst_ni, jI_i, jcmp_lt, jcmp_gt, w32_id, jcpy_out, Sum.elim_inl, Sum.elim_inr, jt2, jt3, jt4, jt5, jt6, jt7, jt8] at pn6
            try dsimp only [Sum.elim_inl, Sum.elim_inr, jt2, jt3, jt4, jt5, jt6, jt7, jt8]
            (first | assumption | omega | ((try dsimp only [jt2, jt3, jt4]); first | omega | (simp (disch := omega) only [jst_eq, jst_ne, jst_ni, jst_o, jI_i, jcpy_out, w32_id, jdiv_nn, jshr_k, jand_255] <;> first | done | omega | assumption)) | (intros; simp (disch := omega) only [jst_eq, jst_ne, jst_ni, jst_o, jI_i, jcpy_out, w32_id, jdiv_nn, *] <;> first | done | omega) | (intros; simp (disch := omega) only [jst_eq, jst_ne, jst_ni, jst_o, jI_i, jcpy_out, w32_id, jdiv_nn] at * <;> first | done | omega | assumption) | (intros; first | rfl | (exfalso; omega) | ((repeat' apply And.intro) <;> first | assumption | rfl | omega | trivial))) -- o36 e8
theorem CMN_D {E : EV} {x : Int} : ∀ (D : Nat) (k : Int), k + 1 ≤ D → CMN (gX14_meanD D) E x k
  | 0, k, l => fun d h T _ _ _ q => by have := q.2.2.2.2.2; have := dpT_0 T; omega
  | D + 1, k, l => fun d h T e m hc q =>
    OK_mono (vX14_mean_ d x (k := k - 1) (CMN_D D (k - 1) (by omega)) e ⟨q.1, q.2.1, q.2.2.1, q.2.2.2.1, q.2.2.2.2.1, by have := q.2.2.2.2.2; omega⟩ m hc) (fun r z => z)
theorem vX14_mean (a1 a2 : Int) {h : AH} {E : EV} {T : TR} (ev : evM h a2 E) (q : okN h T a1 30) (m : MI h) (hc : 0 ≤ h 454 35 ∧ h 454 35 + hlT T ≤ 4000) : OK (gX14_mean a1 a2 h) (fun r => jt2 r fun v h' => posN E T a1 h v h') :=
  CMN_D 40 30 (by decide) a1 h T ev m hc q

