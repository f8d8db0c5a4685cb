/-! m: levels up to a price -/
def fN (X : Int) (h h' : AH) : Prop := ∀ a s, ¬ (a = 454 ∧ (s = 17 ∨ s = 20 ∨ s = 21 ∨ s = 22 ∨ s = 40)) → ¬ (460 ≤ a ∧ a ≤ 469 ∧ a ≠ 464 ∧ 8500 ≤ s ∧ s < 8800) → ¬ (a = 464 ∧ 25500 ≤ s ∧ s < 26400) → ¬ (a = 754 ∧ 0 ≤ s) → ¬ (X + 12 ≤ a ∧ a ≤ X + 138 ∧ 0 ≤ s) → ¬ (a = X ∧ (s = 20 ∨ s = 26 ∨ s = 27)) → h' a s = h a s
theorem fN_r {X : Int} (h : AH) : fN X h h := fun _ _ _ _ _ _ _ _ => rfl
theorem fN_t {X : Int} {h h1 h2 : AH} (a : fN X h h1) (b : fN X h1 h2) : fN X h h2 := fun x s y1 y2 y3 y4 y5 y6 => (b x s y1 y2 y3 y4 y5 y6).trans (a x s y1 y2 y3 y4 y5 y6)
theorem fM_N {X : Int} {h h' : AH} (f : fM X h h') : fN X h h' := fun a s y1 y2 y3 y4 y5 _ => f a s y1 y2 y3 y4 y5
theorem seM_N {X : Int} {h h' : AH} {E : EV} {Rf : Int → TR} {W : Int → Int → Int → VW} {A : AD} {pts tp : Int} (g : seM h E Rf W A pts tp) (e : X = h 454 38) (f : fN X h h') (w : h' 454 21 = -1 ∧ b20 h') : seM h' E Rf W A pts tp := by
  subst e
  obtain ⟨⟨g1, g2, g3, g4⟩, g5, ⟨g6, g7, g8, g9⟩, g10, g11⟩ := g
  have xx : h 454 38 = 476 ∨ h 454 38 = 615 := g1
  have e : h' 454 38 = h 454 38 := f _ _ (by omega) (by omega) (by omega) (by omega) (by omega) (by omega)
  have fx : ∀ s, s < 20 → h' (h 454 38) s = h (h 454 38) s := fun s _ => f _ _ (by omega) (by omega) (by omega) (by omega) (by omega) (by omega)
  refine ⟨⟨by rw [e]; exact g1, ownsM_fr g2 (f _ _ (by omega) (by omega) (by omega) (by omega) (by omega) (by omega)) (fun a s a0 a1 => f _ _ (by omega) (by omega) (by omega) (by omega) (by omega) (by omega)) ⟨fun a s a0 a1 a2 a3 a4 => f _ _ (by omega) (by omega) (by omega) (by omega) (by omega) (by omega), fun s s0 s1 => f _ _ (by omega) (by omega) (by omega) (by omega) (by omega) (by omega)⟩, g3, g4⟩, w, ⟨?_, fun k k0 k1 => ?_, ?_, g9⟩, by rw [e, fx _ (by decide)]; exact g10, g11⟩
  · obtain ⟨p1, p2, p3, p4, p5, p6, p7, p8⟩ := g6
    refine ⟨by rw [e]; exact p1, by rw [e, fx _ (by decide)]; exact p2, p3, p4, by rw [e, fx _ (by decide)]; exact p5, p6, p7, fun p k p0 p1 k0 k1 => ?_⟩
    rw [e, f _ _ (by omega) (by omega) (by omega) (by omega) (by omega) (by omega)]
    exact p8 p k p0 p1 k0 k1
  · rw [e, f _ _ (by omega) (by omega) (by omega) (by omega) (by omega) (by omega)]; exact g7 k k0 k1
  · obtain ⟨p1, p2, p3, p4⟩ := g8
    unfold pcM
    rw [e, fx _ (by decide)]
    refine ⟨p1, p2, p3, fun k k0 k1 => ?_⟩
    have c := p4 k k0 k1
    rw [f (h 454 38 + 3) _ (by omega) (by omega) (by omega) (by omega) (by omega) (by omega), f (h 454 38 + 4) _ (by omega) (by omega) (by omega) (by omega) (by omega) (by omega), f (h 454 38 + 2) _ (by omega) (by omega) (by omega) (by omega) (by omega) (by omega)]
    refine ⟨c.1, c.2.1, ?_⟩
    rcases c.2.2 with y | y
    · rw [f 460 _ (by omega) (by omega) (by omega) (by omega) (by omega) (by omega), f 461 _ (by omega) (by omega) (by omega) (by omega) (by omega) (by omega), f 462 _ (by omega) (by omega) (by omega) (by omega) (by omega) (by omega), f 465 _ (by omega) (by omega) (by omega) (by omega) (by omega) (by omega), f 466 _ (by omega) (by omega) (by omega) (by omega) (by omega) (by omega)]
      exact Or.inl y
    · exact Or.inr y
/-- m's table is kept where no cell of it is written -/
theorem XM_X {h h' : AH} {E : EV} {A : AD} {pts tp : Int} {T : TB} (x : XM h E A pts tp T) (tl : 8500 ≤ tp ∧ tp ≤ 8650) (f : ∀ a s, ¬ (a = 454 ∧ s ≠ 38) → ¬ (a = h 454 38 ∧ (s = 20 ∨ s = 26 ∨ s = 27)) → ¬ (a = 754) → ¬ (a = 315) → ¬ (780 ≤ a) → h' a s = h a s) : XM h' E A pts tp T := by
  obtain ⟨x1, ⟨t1, t2, t3, t4, t6, t7, t8⟩, x3, x4⟩ := x
  have xx : h 454 38 = 476 ∨ h 454 38 = 615 := t1
  have e : h' 454 38 = h 454 38 := f _ _ (by omega) (by omega) (by omega) (by omega) (by omega)
  have FN : ∀ a s, 460 ≤ a → a ≤ 469 → h' a s = h a s := fun a s a0 a1 => f _ _ (by omega) (by omega) (by omega) (by omega) (by omega)
  refine ⟨x1, ⟨by rw [e]; exact t1, by rw [e, f _ _ (by omega) (by omega) (by omega) (by omega) (by omega)]; exact t2, t3, t4, t6, t7, fun a a0 a1 => ?_⟩, ?_, fun a a0 a1 => ?_⟩
  · obtain ⟨c1, c2, c3, c4⟩ := t8 a a0 a1
    rw [e]
    refine ⟨?_, ?_, ?_, fun p p0 p1 => ?_⟩
    · rw [f _ _ (by omega) (by omega) (by omega) (by omega) (by omega)]; exact c1
    · rw [f _ _ (by omega) (by omega) (by omega) (by omega) (by omega)]; exact c2
    · rw [f _ _ (by omega) (by omega) (by omega) (by omega) (by omega)]; exact c3
    · rw [f _ _ (by omega) (by omega) (by omega) (by omega) (by omega)]; exact c4 p p0 p1
  · unfold hsN
    rw [e]
    intro a a0 a1
    rw [f _ _ (by omega) (by omega) (by omega) (by omega) (by omega)]
    exact x3 a a0 a1
  · obtain ⟨c1, c2, c3, c4⟩ := x4 a a0 a1
    exact ⟨c1, c2, by rw [FN _ _ (by decide) (by decide)]; exact c3, ndC_f (fun a a0 a1 a2 => FN _ _ a0 a1) (fun s s0 s1 => FN _ _ (by decide) (by decide)) c4⟩
/-- m's search, where it stands -/
def GSm (h : AH) (E : EV) (W : Int → Int → Int → VW) (A : AD) (pts tp : Int) (d : Nat) (fl : Int) : Prop := RSd E W pts A d fl ∧ h (h 454 38) 26 = d + fl ∧ h (h 454 38) 27 = (if fl = 1 then (d : Int) + 1 else 100) ∧ ∃ T, XM h E A pts tp T ∧ h (h 454 38) 20 = T.1 ∧ eQ (LV E W pts A d) (d + 1) T ∧ (fl = 0 → T = LV E W pts A d) ∧ soT T
theorem SB_eQ {E : EV} {W : Int → Int → Int → VW} {pts : Int} {A : AD} {T0 T : TB} {q B : Int} (s : SB E W pts A T0 q T B) : eQ T0 q T := ⟨s.1, fun a a0 a1 => (s.2.1 a a0 a1).1⟩
theorem vX14_findMore_j96 (a1 : Int) {h : AH} {E : EV} {Rf : Int → TR} {W : Int → Int → Int → VW} {A : AD} {pts tp : Int} {d : Nat} (lm : LM h E Rf W A pts tp (LV E W pts A d) a1) (qm : QM h E W A pts tp (LV E W pts A d) a1 (l1 pts A (LV E W pts A d) a1) (kyO (A.1 + 0) (op3 (-1) (-1) (-1)))) (rs : RSd E W pts A d 0 ∧ a1 = (d : Int) + 1 ∧ d < 12) (k : h (h 454 38) 27 = 100) : OK (gX14_findMore_j96 a1 h) (fun h' => (GSm h' E W A pts tp (d + 1) 0 ∨ GSm h' E W A pts tp d 1) ∧ (fN (h 454 38) h h' ∧ seM h' E Rf W A pts tp)) := by
  have xx : h 454 38 = 476 ∨ h 454 38 = 615 := lm.1.1.1
  unfold gX14_findMore_j96
  refine OK_jb (vX14_findMore_l98 (E := E) (Rf := Rf) (W := W) (A := A) (pts := pts) (tp := tp) (T0 := LV E W pts A d) _ _ (by exact lm) (by exact qm) (by rfl)) (fun o5 r1 => ?_)
  try dsimp only [Sum.elim_inl, Sum.elim_inr, jt2, jt3, jt4, jt5, jt6, jt7, jt8] at r1
  obtain ⟨qm1, fr1, sm1⟩ := r1
  try simp (disch := omega) only [jst_eq, jst_ne, jst_ni, jI_i, jcmp_lt, jcmp_gt, w32_id, jcpy_out, Sum.elim_inl, Sum.elim_inr, jt2, jt3, jt4, jt5, jt6, jt7, jt8] at qm1
  try simp (disch := omega) only [jst_eq, jst_ne, jst_ni, jI_i, jcmp_lt, jcmp_gt, w32_id, jcpy_out, Sum.elim_inl, Sum.elim_inr, jt2, jt3, jt4, jt5, jt6, jt7, jt8] at fr1
  try simp (disch := omega) only [jst_eq, jst_ne, jst_ni, jI_i, jcmp_lt, jcmp_gt, w32_id, jcpy_out, Sum.elim_inl, Sum.elim_inr, jt2, jt3, jt4, jt5, jt6, jt7, jt8] at sm1
  obtain ⟨B, T, sb, xm, nT, cs⟩ := qm1
  have e38 : o5 454 38 = h 454 38 := fr1 _ _ (by omega) (by omega) (by omega) (by omega) (by omega)
  have k27 : o5 (h 454 38) 27 = 100 := by { rw [fr1 _ _ (by omega) (by omega) (by omega) (by omega) (by omega)]; exact k }
  have tpr := sm1.2.2.2.2
  have LE : levT E W pts A (LV E W pts A d) a1 = LV E W pts A (d + 1) := by { rw [rs.2.1]; rfl }
  rw [LE] at cs
  have eq0 := SB_eQ sb
  have so := SB_so lm.2.1.1 sb
  rw [rs.2.1] at eq0
  rw [e38]
  refine OK_jg (by (first | assumption | omega | ((try dsimp only [jt2, jt3, jt4]); first | omega | (simp (disch := omega) only [jst_eq, jst_ne, jst_ni, jst_o, jI_i, jcpy_out, w32_id, jdiv_nn, jshr_k, jand_255] <;> first | done | omega | assumption)) | (intros; simp (disch := omega) only [jst_eq, jst_ne, jst_ni, jst_o, jI_i, jcpy_out, w32_id, jdiv_nn, *] <;> first | done | omega) | (intros; simp (disch := omega) only [jst_eq, jst_ne, jst_ni, jst_o, jI_i, jcpy_out, w32_id, jdiv_nn] at * <;> first | done | omega | assumption) | (intros; first | rfl | (exfalso; omega) | ((repeat' apply And.intro) <;> first | assumption | rfl | omega | trivial)))) ?_ -- o4
  refine OK_jl ?_
  have F7 : ∀ a s, ¬ (a = h 454 38 ∧ s = 20) → jst o5 (h 454 38) 20 (o5 454 40) a s = o5 a s := fun a s y => jst_o y
  have K7 : jst o5 (h 454 38) 20 (o5 454 40) (h 454 38) 20 = T.1 := by { rw [jst_eq]; exact nT }
  generalize e7 : jst o5 (h 454 38) 20 (o5 454 40) = hq at *
  have r7 : hq 454 38 = h 454 38 := by { rw [F7 _ _ (by omega)]; exact e38 }
  rw [r7]
  refine OK_jg (by (first | assumption | omega | ((try dsimp only [jt2, jt3, jt4]); first | omega | (simp (disch := omega) only [jst_eq, jst_ne, jst_ni, jst_o, jI_i, jcpy_out, w32_id, jdiv_nn, jshr_k, jand_255] <;> first | done | omega | assumption)) | (intros; simp (disch := omega) only [jst_eq, jst_ne, jst_ni, jst_o, jI_i, jcpy_out, w32_id, jdiv_nn, *] <;> first | done | omega) | (intros; simp (disch := omega) only [jst_eq, jst_ne, jst_ni, jst_o, jI_i, jcpy_out, w32_id, jdiv_nn] at * <;> first | done | omega | assumption) | (intros; first | rfl | (exfalso; omega) | ((repeat' apply And.intro) <;> first | assumption | rfl | omega | trivial)))) ?_ -- o5
  refine OK_jl ?_
  have F8 : ∀ a s, ¬ (a = h 454 38 ∧ s = 26) → jst hq (h 454 38) 26 a1 a s = hq a s := fun a s y => jst_o y
  have K8 : jst hq (h 454 38) 26 a1 (h 454 38) 26 = a1 := jst_eq
  generalize e8 : jst hq (h 454 38) 26 a1 = hr at *
  have r8 : hr 454 38 = h 454 38 := by { rw [F8 _ _ (by omega)]; exact r7 }
  have n8 : hr (h 454 38) 20 = T.1 := by { rw [F8 _ _ (by omega)]; exact K7 }
  have k8 : hr (h 454 38) 27 = 100 := by { rw [F8 _ _ (by omega), F7 _ _ (by omega)]; exact k27 }
  rw [r8]
  have FX : ∀ a s, ¬ (a = h 454 38 ∧ (s = 20 ∨ s = 26 ∨ s = 27)) → hr a s = o5 a s := fun a s y => by { rw [F8 _ _ (by omega), F7 _ _ (by omega)] }
  have FNN : fN (h 454 38) h hr := fun a s y1 y2 y3 y4 y5 y6 => by { rw [FX a s y6]; exact fr1 a s y1 y2 y3 y4 y5 }
  have SM : seM hr E Rf W A pts tp := seM_N lm.1 rfl FNN ⟨by rw [FX _ _ (by omega)]; exact sm1.2.1.1, by unfold b20; rw [FX _ _ (by omega)]; exact sm1.2.1.2⟩
  have XM8 : XM hr E A pts tp T := XM_X xm (by omega) (fun a s _ y2 _ _ _ => FX a s (by rw [e38] at y2; exact y2))
  refine OK_jg (by (first | assumption | omega | ((try dsimp only [jt2, jt3, jt4]); first | omega | (simp (disch := omega) only [jst_eq, jst_ne, jst_ni, jst_o, jI_i, jcpy_out, w32_id, jdiv_nn, jshr_k, jand_255] <;> first | done | omega | assumption)) | (intros; simp (disch := omega) only [jst_eq, jst_ne, jst_ni, jst_o, jI_i, jcpy_out, w32_id, jdiv_nn, *] <;> first | done | omega) | (intros; simp (disch := omega) only [jst_eq, jst_ne, jst_ni, jst_o, jI_i, jcpy_out, w32_id, jdiv_nn] at * <;> first | done | omega | assumption) | (intros; first | rfl | (exfalso; omega) | ((repeat' apply And.intro) <;> first | assumption | rfl | omega | trivial)))) ?_ -- o6
  refine OK_if (fun c1 => ?_) (fun c1 => ?_)
  · skip
    try simp (disch := omega) only [jst_eq, jst_ne, jst_ni, jI_i, jcmp_lt, jcmp_gt, w32_id, jcpy_out, Sum.elim_inl, Sum.elim_inr, jt2, jt3, jt4, jt5, jt6, jt7, jt8] at c1
    refine OK_some ?_
    try dsimp only [Sum.elim_inl, Sum.elim_inr, jt2, jt3, jt4, jt5, jt6, jt7, jt8]
    try dsimp only [Sum.elim_inl, Sum.elim_inr, jt2, jt3, jt4, jt5, jt6, jt7, jt8]
    refine ⟨?_, ?_⟩
    · (refine Or.inl ⟨⟨fun m l => ?_, by omega, Or.inl rfl⟩, ?_, ?_, T, XM8, ?_, ?_, fun _ => ?_, so⟩; { by_cases y : m ≤ d; { exact rs.1.1 m y }; { rw [show m = d + 1 by omega]; rcases cs with z | z; { exact z.2 }; { omega } } }; { rw [r8, K8]; omega }; { rw [r8, k8]; rfl }; { rw [r8]; exact n8 }; { rcases cs with z | z; { rw [z.1]; exact eQ_r _ _ }; { omega } }; { rcases cs with z | z; { exact z.1 }; { omega } }) -- o7 e1.1
    · exact ⟨FNN, SM⟩ -- o8 e1.2
  · skip
    try simp (disch := omega) only [jst_eq, jst_ne, jst_ni, jI_i, jcmp_lt, jcmp_gt, w32_id, jcpy_out, Sum.elim_inl, Sum.elim_inr, jt2, jt3, jt4, jt5, jt6, jt7, jt8] at c1
    refine OK_if (fun c2 => ?_) (fun c2 => ?_)
    · skip
      try simp (disch := omega) only [jst_eq, jst_ne, jst_ni, jI_i, jcmp_lt, jcmp_gt, w32_id, jcpy_out, Sum.elim_inl, Sum.elim_inr, jt2, jt3, jt4, jt5, jt6, jt7, jt8] at c2
      refine OK_jl ?_
      have F9 : ∀ a s, ¬ (a = h 454 38 ∧ s = 27) → jst hr (h 454 38) 27 a1 a s = hr a s := fun a s y => jst_o y
      have K9 : jst hr (h 454 38) 27 a1 (h 454 38) 27 = a1 := jst_eq
      generalize e9 : jst hr (h 454 38) 27 a1 = ht at *
      have r9 : ht 454 38 = h 454 38 := by { rw [F9 _ _ (by omega)]; exact r8 }
      have FN9 : fN (h 454 38) h ht := fun a s y1 y2 y3 y4 y5 y6 => by { rw [F9 a s (by omega)]; exact FNN a s y1 y2 y3 y4 y5 y6 }
      refine OK_some ?_
      try dsimp only [Sum.elim_inl, Sum.elim_inr, jt2, jt3, jt4, jt5, jt6, jt7, jt8]
      try dsimp only [Sum.elim_inl, Sum.elim_inr, jt2, jt3, jt4, jt5, jt6, jt7, jt8]
      refine ⟨?_, ?_⟩
      · (refine Or.inr ⟨⟨rs.1.1, by omega, Or.inr ⟨rfl, rs.2.2, ?_⟩⟩, ?_, ?_, T, ?_, ?_, eq0, fun z => ?_, so⟩; { rcases cs with z | z; { rw [← z.1]; omega }; { exact z.2 } }; { rw [r9, F9 _ _ (by omega), K8]; omega }; { rw [r9, K9]; exact rs.2.1 }; { exact XM_X XM8 (by omega) (fun a s _ y2 _ _ _ => F9 a s (by rw [r8] at y2; omega)) }; { rw [r9, F9 _ _ (by omega)]; exact n8 }; { omega }) -- o9 e2.1
      · exact ⟨FN9, seM_N lm.1 rfl FN9 ⟨by rw [F9 _ _ (by omega)]; exact SM.2.1.1, by unfold b20; rw [F9 _ _ (by omega)]; exact SM.2.1.2⟩⟩ -- o10 e2.2
    · skip
      try simp (disch := omega) only [jst_eq, jst_ne, jst_ni, jI_i, jcmp_lt, jcmp_gt, w32_id, jcpy_out, Sum.elim_inl, Sum.elim_inr, jt2, jt3, jt4, jt5, jt6, jt7, jt8] at c2
      refine OK_some ?_
      try dsimp only [Sum.elim_inl, Sum.elim_inr, jt2, jt3, jt4, jt5, jt6, jt7, jt8]
      try dsimp only [Sum.elim_inl, Sum.elim_inr, jt2, jt3, jt4, jt5, jt6, jt7, jt8]
      refine ⟨?_, ?_⟩
      · (first | assumption | omega | ((try dsimp only [jt2, jt3, jt4]); first | omega | (simp (disch := omega) only [jst_eq, jst_ne, jst_ni, jst_o, jI_i, jcpy_out, w32_id, jdiv_nn, jshr_k, jand_255] <;> first | done | omega | assumption)) | (intros; simp (disch := omega) only [jst_eq, jst_ne, jst_ni, jst_o, jI_i, jcpy_out, w32_id, jdiv_nn, *] <;> first | done | omega) | (intros; simp (disch := omega) only [jst_eq, jst_ne, jst_ni, jst_o, jI_i, jcpy_out, w32_id, jdiv_nn] at * <;> first | done | omega | assumption) | (intros; first | rfl | (exfalso; omega) | ((repeat' apply And.intro) <;> first | assumption | rfl | omega | trivial))) -- o11 e3.1
      · (first | assumption | omega | ((try dsimp only [jt2, jt3, jt4]); first | omega | (simp (disch := omega) only [jst_eq, jst_ne, jst_ni, jst_o, jI_i, jcpy_out, w32_id, jdiv_nn, jshr_k, jand_255] <;> first | done | omega | assumption)) | (intros; simp (disch := omega) only [jst_eq, jst_ne, jst_ni, jst_o, jI_i, jcpy_out, w32_id, jdiv_nn, *] <;> first | done | omega) | (intros; simp (disch := omega) only [jst_eq, jst_ne, jst_ni, jst_o, jI_i, jcpy_out, w32_id, jdiv_nn] at * <;> first | done | omega | assumption) | (intros; first | rfl | (exfalso; omega) | ((repeat' apply And.intro) <;> first | assumption | rfl | omega | trivial))) -- o12 e3.2
theorem vX14_findMore {h : AH} {E : EV} {Rf : Int → TR} {W : Int → Int → Int → VW} {A : AD} {pts tp : Int} {d : Nat} (g : seM h E Rf W A pts tp) (va : VA E A pts) (gs : GSm h E W A pts tp d 0 ∧ d < 12) : OK (gX14_findMore h) (fun h' => (GSm h' E W A pts tp (d + 1) 0 ∨ GSm h' E W A pts tp d 1) ∧ (fN (h 454 38) h h' ∧ seM h' E Rf W A pts tp)) := by
  obtain ⟨⟨rs, k26, k27, T, xm, n20, eq0, e0, so0⟩, d12⟩ := gs
  have Te := e0 rfl
  subst Te
  have k27 : h (h 454 38) 27 = 100 := k27
  have xx : h 454 38 = 476 ∨ h 454 38 = 615 := g.1.1
  have pk := g.2.2.1.1
  have pg := PG_LV g.1.2.1.2.1 (wOK_ty g.1.2.2.1) va (by have := pk.2.2.1; omega) g.2.2.1.2.2.1.2.1 rs.1 d12
  have w1 : w32 (h (h 454 38) 26 + 1) = (d : Int) + 1 := by { rw [k26, w32_id (by omega) (by omega)]; omega }
  unfold gX14_findMore
  refine OK_jg (by (first | assumption | omega | ((try dsimp only [jt2, jt3, jt4]); first | omega | (simp (disch := omega) only [jst_eq, jst_ne, jst_ni, jst_o, jI_i, jcpy_out, w32_id, jdiv_nn, jshr_k, jand_255] <;> first | done | omega | assumption)) | (intros; simp (disch := omega) only [jst_eq, jst_ne, jst_ni, jst_o, jI_i, jcpy_out, w32_id, jdiv_nn, *] <;> first | done | omega) | (intros; simp (disch := omega) only [jst_eq, jst_ne, jst_ni, jst_o, jI_i, jcpy_out, w32_id, jdiv_nn] at * <;> first | done | omega | assumption) | (intros; first | rfl | (exfalso; omega) | ((repeat' apply And.intro) <;> first | assumption | rfl | omega | trivial)))) ?_ -- o1
  refine OK_jlx (fun x1 ex1 => ?_)
  try simp (disch := omega) only [jst_eq, jst_ne, jst_ni, jI_i, jcmp_lt, jcmp_gt, w32_id, jcpy_out, Sum.elim_inl, Sum.elim_inr, jt2, jt3, jt4, jt5, jt6, jt7, jt8] at ex1
  have x1e : x1 = (d : Int) + 1 := by { rw [← w1]; first | assumption | omega }
  subst x1e
  refine OK_jl ?_
  have F2 : ∀ a s, ¬ (a = 454 ∧ s = 40) → jst h 454 40 (h (h 454 38) 20) a s = h a s := fun a s y => jst_o y
  have K2 : jst h 454 40 (h (h 454 38) 20) 454 40 = (LV E W pts A d).1 := by { rw [jst_eq]; exact n20 }
  generalize e2 : jst h 454 40 (h (h 454 38) 20) = hq at *
  have FM : fM (h 454 38) h hq := fun a s y1 y2 y3 y4 y5 => F2 a s (by omega)
  have S2 := seM_M g rfl FM ⟨by rw [F2 _ _ (by omega)]; exact g.2.1.1, by unfold b20; rw [F2 _ _ (by omega)]; exact g.2.1.2⟩
  have r2 : hq 454 38 = h 454 38 := F2 _ _ (by omega)
  have LM2 : LM hq E Rf W A pts tp (LV E W pts A d) ((d : Int) + 1) := ⟨S2, ⟨pg.2.1, pg.2.2.2.2⟩, by rw [r2, F2 _ _ (by omega)]; exact n20, pg.2.2.2.1, va, pg.2.2.1⟩
  have Q2 : QM hq E W A pts tp (LV E W pts A d) ((d : Int) + 1) (LV E W pts A d) (kyO 0 (op3 (-1) (-1) (-1))) := ⟨_, SB_0 pg.2.1.2.2.2.1 _, XM_X xm (by have := g.2.2.2.2; omega) (fun a s y1 _ _ _ _ => F2 a s (by omega)), K2, Or.inl ⟨rfl, pg.2.2.1⟩⟩
  refine OK_jb (vX14_findMore_l23 (E := E) (Rf := Rf) (W := W) (A := A) (pts := pts) (tp := tp) (T0 := LV E W pts A d) _ _ (by exact LM2) (by exact Q2) (by rfl)) (fun o3 r1 => ?_)
  try dsimp only [Sum.elim_inl, Sum.elim_inr, jt2, jt3, jt4, jt5, jt6, jt7, jt8] at r1
  obtain ⟨qm1, fr1, sm1⟩ := r1
  try simp (disch := omega) only [jst_eq, jst_ne, jst_ni, jI_i, jcmp_lt, jcmp_gt, w32_id, jcpy_out, Sum.elim_inl, Sum.elim_inr, jt2, jt3, jt4, jt5, jt6, jt7, jt8] at qm1
  try simp (disch := omega) only [jst_eq, jst_ne, jst_ni, jI_i, jcmp_lt, jcmp_gt, w32_id, jcpy_out, Sum.elim_inl, Sum.elim_inr, jt2, jt3, jt4, jt5, jt6, jt7, jt8] at fr1
  try simp (disch := omega) only [jst_eq, jst_ne, jst_ni, jI_i, jcmp_lt, jcmp_gt, w32_id, jcpy_out, Sum.elim_inl, Sum.elim_inr, jt2, jt3, jt4, jt5, jt6, jt7, jt8] at sm1
  rw [r2] at fr1
  have r3 : o3 454 38 = h 454 38 := by { rw [fr1 _ _ (by omega) (by omega) (by omega) (by omega) (by omega)]; exact r2 }
  refine OK_mono (vX14_findMore_j96 (E := E) (Rf := Rf) (W := W) (A := A) (pts := pts) (tp := tp) (d := d) _ (by exact LM_M LM2 r2.symm fr1 sm1) (by exact qm1) (by exact ⟨rs, rfl, d12⟩) (by (rw [r3, fr1 _ _ (by omega) (by omega) (by omega) (by omega) (by omega), F2 _ _ (by omega)]; exact k27))) (fun r r2 => ?_)
  try dsimp only [Sum.elim_inl, Sum.elim_inr, jt2, jt3, jt4, jt5, jt6, jt7, jt8] at r2
  obtain ⟨gs2, fs2⟩ := r2
  try simp (disch := omega) only [jst_eq, jst_ne, jst_ni, jI_i, jcmp_lt, jcmp_gt, w32_id, jcpy_out, Sum.elim_inl, Sum.elim_inr, jt2, jt3, jt4, jt5, jt6, jt7, jt8] at gs2
  try simp (disch := omega) only [jst_eq, jst_ne, jst_ni, jI_i, jcmp_lt, jcmp_gt, w32_id, jcpy_out, Sum.elim_inl, Sum.elim_inr, jt2, jt3, jt4, jt5, jt6, jt7, jt8] at fs2
  try dsimp only [Sum.elim_inl, Sum.elim_inr, jt2, jt3, jt4, jt5, jt6, jt7, jt8]
  try dsimp only [Sum.elim_inl, Sum.elim_inr, jt2, jt3, jt4, jt5, jt6, jt7, jt8]
  refine ⟨?_, ?_⟩
  · (first | assumption | omega | ((try dsimp only [jt2, jt3, jt4]); first | omega | (simp (disch := omega) only [jst_eq, jst_ne, jst_ni, jst_o, jI_i, jcpy_out, w32_id, jdiv_nn, jshr_k, jand_255] <;> first | done | omega | assumption)) | (intros; simp (disch := omega) only [jst_eq, jst_ne, jst_ni, jst_o, jI_i, jcpy_out, w32_id, jdiv_nn, *] <;> first | done | omega) | (intros; simp (disch := omega) only [jst_eq, jst_ne, jst_ni, jst_o, jI_i, jcpy_out, w32_id, jdiv_nn] at * <;> first | done | omega | assumption) | (intros; first | rfl | (exfalso; omega) | ((repeat' apply And.intro) <;> first | assumption | rfl | omega | trivial))) -- o9 e1.1
  · (rw [r3] at fs2; exact ⟨fN_t (fM_N FM) (fN_t (fM_N fr1) fs2.1), fs2.2⟩) -- o10 e1.2
def gsM (h : AH) (E : EV) (W : Int → Int → Int → VW) (A : AD) (pts tp : Int) (d : Nat) (fl p : Int) : Prop := ∃ (e : Nat) (f : Int), d ≤ e ∧ ((f = fl ∧ ((e : Int) = d ∨ (fl = 0 ∧ (e : Int) ≤ p))) ∨ (fl = 0 ∧ f = 1 ∧ (e : Int) < p)) ∧ GSm h E W A pts tp e f
theorem vX14_reaches_l0 (i1 : Int) {h0 : AH} {E : EV} {Rf : Int → TR} {W : Int → Int → Int → VW} {A : AD} {pts tp : Int} {d : Nat} {fl : Int} (g : seM h0 E Rf W A pts tp) (va : VA E A pts) (p12 : i1 ≤ 12) (gs : GSm h0 E W A pts tp d fl) : OK (gX14_reaches_l0 i1 h0) (fun h' => (∃ (e : Nat) (f : Int), rch d fl i1 e f ∧ GSm h' E W A pts tp e f) ∧ (fN (h0 454 38) h0 h') ∧ (seM h' E Rf W A pts tp)) := by
  unfold gX14_reaches_l0
  refine OK_jit (I := (fun (h : AH) => (gsM h E W A pts tp d fl i1) ∧ (fN (h0 454 38) h0 h) ∧ (seM h E Rf W A pts tp))) (m := (fun (h : AH) => (13 - h (h 454 38) 26).toNat)) ?_ ?_
  · intro h hs
    try dsimp only at hs
    obtain ⟨q0, fr, sm⟩ := hs
    unfold gX14_reaches_b0
    obtain ⟨e, f, e0, e1, gq⟩ := q0
    have GQ := gq
    obtain ⟨rs, k26, k27, gx⟩ := gq
    have x0 : h0 454 38 = 476 ∨ h0 454 38 = 615 := g.1.1
    have e38 : h 454 38 = h0 454 38 := fr _ _ (by omega) (by omega) (by omega) (by omega) (by omega) (by omega)
    have f01 : f = 0 ∨ f = 1 := by { rcases rs.2.2 with r | r; { exact Or.inl r }; { exact Or.inr r.1 } }
    have e12 : (e : Int) + f ≤ 12 := by { have := rs.2.1; rcases rs.2.2 with r | r; { omega }; { omega } }
    refine OK_jg (by (first | (exact sm.1.1) | (exact GN) | (exact fN_t fr fs1.1) | (exact fs1.2) | (first | assumption | omega | ((try dsimp only [jt2, jt3, jt4]); first | omega | (simp (disch := omega) only [jst_eq, jst_ne, jst_ni, jst_o, jI_i, jcpy_out, w32_id, jdiv_nn, jshr_k, jand_255] <;> first | done | omega | assumption)) | (intros; simp (disch := omega) only [jst_eq, jst_ne, jst_ni, jst_o, jI_i, jcpy_out, w32_id, jdiv_nn, *] <;> first | done | omega) | (intros; simp (disch := omega) only [jst_eq, jst_ne, jst_ni, jst_o, jI_i, jcpy_out, w32_id, jdiv_nn] at * <;> first | done | omega | assumption) | (intros; first | rfl | (exfalso; omega) | ((repeat' apply And.intro) <;> first | assumption | rfl | omega | trivial))))) ?_ -- o1
    refine OK_if (fun c1 => ?_) (fun c1 => ?_)
    · skip
      try simp (disch := omega) only [jst_eq, jst_ne, jst_ni, jI_i, jcmp_lt, jcmp_gt, w32_id, jcpy_out, Sum.elim_inl, Sum.elim_inr, jt2, jt3, jt4, jt5, jt6, jt7, jt8] at c1
      refine OK_ir ?_
      try dsimp only [Sum.elim_inl, Sum.elim_inr, jt2, jt3, jt4, jt5, jt6, jt7, jt8]
      refine ⟨?_, ?_, ?_⟩
      · (refine ⟨e, f, ⟨e0, ?_⟩, GQ⟩; rcases f01 with z | z; { rcases e1 with y | y; { exact Or.inr (Or.inl ⟨by omega, z, by omega⟩) }; { omega } }; { rcases e1 with y | y; { rcases y.2 with w | w; { exact Or.inl ⟨by omega, by omega, z⟩ }; { omega } }; { exact Or.inr (Or.inr y) } }) -- o2 e1.1
      · (first | (exact sm.1.1) | (exact GN) | (exact fN_t fr fs1.1) | (exact fs1.2) | (first | assumption | omega | ((try dsimp only [jt2, jt3, jt4]); first | omega | (simp (disch := omega) only [jst_eq, jst_ne, jst_ni, jst_o, jI_i, jcpy_out, w32_id, jdiv_nn, jshr_k, jand_255] <;> first | done | omega | assumption)) | (intros; simp (disch := omega) only [jst_eq, jst_ne, jst_ni, jst_o, jI_i, jcpy_out, w32_id, jdiv_nn, *] <;> first | done | omega) | (intros; simp (disch := omega) only [jst_eq, jst_ne, jst_ni, jst_o, jI_i, jcpy_out, w32_id, jdiv_nn] at * <;> first | done | omega | assumption) | (intros; first | rfl | (exfalso; omega) | ((repeat' apply And.intro) <;> first | assumption | rfl | omega | trivial)))) -- o3 e1.2
      · (first | (exact sm.1.1) | (exact GN) | (exact fN_t fr fs1.1) | (exact fs1.2) | (first | assumption | omega | ((try dsimp only [jt2, jt3, jt4]); first | omega | (simp (disch := omega) only [jst_eq, jst_ne, jst_ni, jst_o, jI_i, jcpy_out, w32_id, jdiv_nn, jshr_k, jand_255] <;> first | done | omega | assumption)) | (intros; simp (disch := omega) only [jst_eq, jst_ne, jst_ni, jst_o, jI_i, jcpy_out, w32_id, jdiv_nn, *] <;> first | done | omega) | (intros; simp (disch := omega) only [jst_eq, jst_ne, jst_ni, jst_o, jI_i, jcpy_out, w32_id, jdiv_nn] at * <;> first | done | omega | assumption) | (intros; first | rfl | (exfalso; omega) | ((repeat' apply And.intro) <;> first | assumption | rfl | omega | trivial)))) -- o4 e1.3
    · skip
      try simp (disch := omega) only [jst_eq, jst_ne, jst_ni, jI_i, jcmp_lt, jcmp_gt, w32_id, jcpy_out, Sum.elim_inl, Sum.elim_inr, jt2, jt3, jt4, jt5, jt6, jt7, jt8] at c1
      refine OK_if (fun c2 => ?_) (fun c2 => ?_)
      · skip
        try simp (disch := omega) only [jst_eq, jst_ne, jst_ni, jI_i, jcmp_lt, jcmp_gt, w32_id, jcpy_out, Sum.elim_inl, Sum.elim_inr, jt2, jt3, jt4, jt5, jt6, jt7, jt8] at c2
        have f0 : f = 0 := by { rcases f01 with z | z; { exact z }; { rw [if_pos z] at k27; omega } }
        rw [f0] at GQ
        refine OK_jb (vX14_findMore (E := E) (Rf := Rf) (W := W) (A := A) (pts := pts) (tp := tp) (d := e) (by exact sm) (by exact va) (by exact ⟨GQ, by omega⟩)) (fun h7 r1 => ?_)
        try dsimp only [Sum.elim_inl, Sum.elim_inr, jt2, jt3, jt4, jt5, jt6, jt7, jt8] at r1
        obtain ⟨gs1, fs1⟩ := r1
        try simp (disch := omega) only [jst_eq, jst_ne, jst_ni, jI_i, jcmp_lt, jcmp_gt, w32_id, jcpy_out, Sum.elim_inl, Sum.elim_inr, jt2, jt3, jt4, jt5, jt6, jt7, jt8] at gs1
        try simp (disch := omega) only [jst_eq, jst_ne, jst_ni, jI_i, jcmp_lt, jcmp_gt, w32_id, jcpy_out, Sum.elim_inl, Sum.elim_inr, jt2, jt3, jt4, jt5, jt6, jt7, jt8] at fs1
        have GN : gsM h7 E W A pts tp d fl i1 := by { rcases gs1 with r | r; { exact ⟨e + 1, 0, by omega, Or.inl ⟨by omega, Or.inr ⟨by omega, by omega⟩⟩, r⟩ }; { exact ⟨e, 1, e0, Or.inr ⟨by omega, rfl, by omega⟩, r⟩ } }
        have M7 : h7 (h7 454 38) 26 = (e : Int) + 1 := by { rcases gs1 with r | r; { rw [r.2.1]; omega }; { exact r.2.1 } }
        rw [e38] at fs1
        refine OK_il ?_ ?_
        · try dsimp only [Sum.elim_inl, Sum.elim_inr, jt2, jt3, jt4, jt5, jt6, jt7, jt8]
          refine ⟨?_, ?_, ?_⟩
          · (first | (exact sm.1.1) | (exact GN) | (exact fN_t fr fs1.1) | (exact fs1.2) | (first | assumption | omega | ((try dsimp only [jt2, jt3, jt4]); first | omega | (simp (disch := omega) only [jst_eq, jst_ne, jst_ni, jst_o, jI_i, jcpy_out, w32_id, jdiv_nn, jshr_k, jand_255] <;> first | done | omega | assumption)) | (intros; simp (disch := omega) only [jst_eq, jst_ne, jst_ni, jst_o, jI_i, jcpy_out, w32_id, jdiv_nn, *] <;> first | done | omega) | (intros; simp (disch := omega) only [jst_eq, jst_ne, jst_ni, jst_o, jI_i, jcpy_out, w32_id, jdiv_nn] at * <;> first | done | omega | assumption) | (intros; first | rfl | (exfalso; omega) | ((repeat' apply And.intro) <;> first | assumption | rfl | omega | trivial)))) -- o8 e2i.1
          · (first | (exact sm.1.1) | (exact GN) | (exact fN_t fr fs1.1) | (exact fs1.2) | (first | assumption | omega | ((try dsimp only [jt2, jt3, jt4]); first | omega | (simp (disch := omega) only [jst_eq, jst_ne, jst_ni, jst_o, jI_i, jcpy_out, w32_id, jdiv_nn, jshr_k, jand_255] <;> first | done | omega | assumption)) | (intros; simp (disch := omega) only [jst_eq, jst_ne, jst_ni, jst_o, jI_i, jcpy_out, w32_id, jdiv_nn, *] <;> first | done | omega) | (intros; simp (disch := omega) only [jst_eq, jst_ne, jst_ni, jst_o, jI_i, jcpy_out, w32_id, jdiv_nn] at * <;> first | done | omega | assumption) | (intros; first | rfl | (exfalso; omega) | ((repeat' apply And.intro) <;> first | assumption | rfl | omega | trivial)))) -- o9 e2i.2
          · (first | (exact sm.1.1) | (exact GN) | (exact fN_t fr fs1.1) | (exact fs1.2) | (first | assumption | omega | ((try dsimp only [jt2, jt3, jt4]); first | omega | (simp (disch := omega) only [jst_eq, jst_ne, jst_ni, jst_o, jI_i, jcpy_out, w32_id, jdiv_nn, jshr_k, jand_255] <;> first | done | omega | assumption)) | (intros; simp (disch := omega) only [jst_eq, jst_ne, jst_ni, jst_o, jI_i, jcpy_out, w32_id, jdiv_nn, *] <;> first | done | omega) | (intros; simp (disch := omega) only [jst_eq, jst_ne, jst_ni, jst_o, jI_i, jcpy_out, w32_id, jdiv_nn] at * <;> first | done | omega | assumption) | (intros; first | rfl | (exfalso; omega) | ((repeat' apply And.intro) <;> first | assumption | rfl | omega | trivial)))) -- o10 e2i.3
        · (first | (exact sm.1.1) | (exact GN) | (exact fN_t fr fs1.1) | (exact fs1.2) | (first | assumption | omega | ((try dsimp only [jt2, jt3, jt4]); first | omega | (simp (disch := omega) only [jst_eq, jst_ne, jst_ni, jst_o, jI_i, jcpy_out, w32_id, jdiv_nn, jshr_k, jand_255] <;> first | done | omega | assumption)) | (intros; simp (disch := omega) only [jst_eq, jst_ne, jst_ni, jst_o, jI_i, jcpy_out, w32_id, jdiv_nn, *] <;> first | done | omega) | (intros; simp (disch := omega) only [jst_eq, jst_ne, jst_ni, jst_o, jI_i, jcpy_out, w32_id, jdiv_nn] at * <;> first | done | omega | assumption) | (intros; first | rfl | (exfalso; omega) | ((repeat' apply And.intro) <;> first | assumption | rfl | omega | trivial)))) -- o11 e2m
      · skip
        try simp (disch := omega) only [jst_eq, jst_ne, jst_ni, jI_i, jcmp_lt, jcmp_gt, w32_id, jcpy_out, Sum.elim_inl, Sum.elim_inr, jt2, jt3, jt4, jt5, jt6, jt7, jt8] at c2
        refine OK_ir ?_
        try dsimp only [Sum.elim_inl, Sum.elim_inr, jt2, jt3, jt4, jt5, jt6, jt7, jt8]
        refine ⟨?_, ?_, ?_⟩
        · (refine ⟨e, f, ⟨e0, ?_⟩, GQ⟩; rcases f01 with z | z; { rw [if_neg (by omega)] at k27; omega }; { rcases e1 with y | y; { rcases y.2 with w | w; { exact Or.inl ⟨by omega, by omega, z⟩ }; { omega } }; { exact Or.inr (Or.inr y) } }) -- o12 e3.1
        · (first | (exact sm.1.1) | (exact GN) | (exact fN_t fr fs1.1) | (exact fs1.2) | (first | assumption | omega | ((try dsimp only [jt2, jt3, jt4]); first | omega | (simp (disch := omega) only [jst_eq, jst_ne, jst_ni, jst_o, jI_i, jcpy_out, w32_id, jdiv_nn, jshr_k, jand_255] <;> first | done | omega | assumption)) | (intros; simp (disch := omega) only [jst_eq, jst_ne, jst_ni, jst_o, jI_i, jcpy_out, w32_id, jdiv_nn, *] <;> first | done | omega) | (intros; simp (disch := omega) only [jst_eq, jst_ne, jst_ni, jst_o, jI_i, jcpy_out, w32_id, jdiv_nn] at * <;> first | done | omega | assumption) | (intros; first | rfl | (exfalso; omega) | ((repeat' apply And.intro) <;> first | assumption | rfl | omega | trivial)))) -- o13 e3.2
        · (first | (exact sm.1.1) | (exact GN) | (exact fN_t fr fs1.1) | (exact fs1.2) | (first | assumption | omega | ((try dsimp only [jt2, jt3, jt4]); first | omega | (simp (disch := omega) only [jst_eq, jst_ne, jst_ni, jst_o, jI_i, jcpy_out, w32_id, jdiv_nn, jshr_k, jand_255] <;> first | done | omega | assumption)) | (intros; simp (disch := omega) only [jst_eq, jst_ne, jst_ni, jst_o, jI_i, jcpy_out, w32_id, jdiv_nn, *] <;> first | done | omega) | (intros; simp (disch := omega) only [jst_eq, jst_ne, jst_ni, jst_o, jI_i, jcpy_out, w32_id, jdiv_nn] at * <;> first | done | omega | assumption) | (intros; first | rfl | (exfalso; omega) | ((repeat' apply And.intro) <;> first | assumption | rfl | omega | trivial)))) -- o14 e3.3
  · try dsimp only [Sum.elim_inl, Sum.elim_inr, jt2, jt3, jt4, jt5, jt6, jt7, jt8]
    refine ⟨?_, ?_, ?_⟩
    · exact ⟨d, fl, Nat.le_refl _, Or.inl ⟨rfl, Or.inl rfl⟩, gs⟩ -- o15 init.1
    · exact fN_r _ -- o16 init.2
    · exact g -- o17 init.3
theorem vX14_reaches (a1 : Int) {h : AH} {E : EV} {Rf : Int → TR} {W : Int → Int → Int → VW} {A : AD} {pts tp : Int} {d : Nat} {fl : Int} (g : seM h E Rf W A pts tp) (va : VA E A pts) (p12 : a1 ≤ 12) (gs : GSm h E W A pts tp d fl) : OK (gX14_reaches a1 h) (fun r => jt2 r fun v h' => (∃ (e : Nat) (f : Int), rch d fl a1 e f ∧ GSm h' E W A pts tp e f ∧ ((v = 0 ∧ (e : Int) < a1) ∨ (v = 1 ∧ a1 ≤ (e : Int)))) ∧ (fN (h 454 38) h h') ∧ (seM h' E Rf W A pts tp)) := by
  unfold gX14_reaches
  refine OK_jb (vX14_reaches_l0 (E := E) (Rf := Rf) (W := W) (A := A) (pts := pts) (tp := tp) (d := d) (fl := fl) _ (by (first | assumption | omega | ((try dsimp only [jt2, jt3, jt4]); first | omega | (simp (disch := omega) only [jst_eq, jst_ne, jst_ni, jst_o, jI_i, jcpy_out, w32_id, jdiv_nn, jshr_k, jand_255] <;> first | done | omega | assumption)) | (intros; simp (disch := omega) only [jst_eq, jst_ne, jst_ni, jst_o, jI_i, jcpy_out, w32_id, jdiv_nn, *] <;> first | done | omega) | (intros; simp (disch := omega) only [jst_eq, jst_ne, jst_ni, jst_o, jI_i, jcpy_out, w32_id, jdiv_nn] at * <;> first | done | omega | assumption) | (intros; first | rfl | (exfalso; omega) | ((repeat' apply And.intro) <;> first | assumption | rfl | omega | trivial)))) (by (first | assumption | omega | ((try dsimp only [jt2, jt3, jt4]); first | omega | (simp (disch := omega) only [jst_eq, jst_ne, jst_ni, jst_o, jI_i, jcpy_out, w32_id, jdiv_nn, jshr_k, jand_255] <;> first | done | omega | assumption)) | (intros; simp (disch := omega) only [jst_eq, jst_ne, jst_ni, jst_o, jI_i, jcpy_out, w32_id, jdiv_nn, *] <;> first | done | omega) | (intros; simp (disch := omega) only [jst_eq, jst_ne, jst_ni, jst_o, jI_i, jcpy_out, w32_id, jdiv_nn] at * <;> first | done | omega | assumption) | (intros; first | rfl | (exfalso; omega) | ((repeat' apply And.intro) <;> first | assumption | rfl | omega | trivial)))) (by (first | assumption | omega | ((try dsimp only [jt2, jt3, jt4]); first | omega | (simp (disch := omega) only [jst_eq, jst_ne, jst_ni, jst_o, jI_i, jcpy_out, w32_id, jdiv_nn, jshr_k, jand_255] <;> first | done | omega | assumption)) | (intros; simp (disch := omega) only [jst_eq, jst_ne, jst_ni, jst_o, jI_i, jcpy_out, w32_id, jdiv_nn, *] <;> first | done | omega) | (intros; simp (disch := omega) only [jst_eq, jst_ne, jst_ni, jst_o, jI_i, jcpy_out, w32_id, jdiv_nn] at * <;> first | done | omega | assumption) | (intros; first | rfl | (exfalso; omega) | ((repeat' apply And.intro) <;> first | assumption | rfl | omega | trivial)))) (by (first | assumption | omega | ((try dsimp only [jt2, jt3, jt4]); first | omega | (simp (disch := omega) only [jst_eq, jst_ne, jst_ni, jst_o, jI_i, jcpy_out, w32_id, jdiv_nn, jshr_k, jand_255] <;> first | done | omega | assumption)) | (intros; simp (disch := omega) only [jst_eq, jst_ne, jst_ni, jst_o, jI_i, jcpy_out, w32_id, jdiv_nn, *] <;> first | done | omega) | (intros; simp (disch := omega) only [jst_eq, jst_ne, jst_ni, jst_o, jI_i, jcpy_out, w32_id, jdiv_nn] at * <;> first | done | omega | assumption) | (intros; first | rfl | (exfalso; omega) | ((repeat' apply And.intro) <;> first | assumption | rfl | omega | trivial))))) (fun o1 r1 => ?_)
  try dsimp only [Sum.elim_inl, Sum.elim_inr, jt2, jt3, jt4, jt5, jt6, jt7, jt8] at r1
  obtain ⟨gr1, fr1, sm1⟩ := r1
  try simp (disch := omega) only [jst_eq, jst_ne, jst_ni, jI_i, jcmp_lt, jcmp_gt, w32_id, jcpy_out, Sum.elim_inl, Sum.elim_inr, jt2, jt3, jt4, jt5, jt6, jt7, jt8] at gr1
  try simp (disch := omega) only [jst_eq, jst_ne, jst_ni, jI_i, jcmp_lt, jcmp_gt, w32_id, jcpy_out, Sum.elim_inl, Sum.elim_inr, jt2, jt3, jt4, jt5, jt6, jt7, jt8] at fr1
  try simp (disch := omega) only [jst_eq, jst_ne, jst_ni, jI_i, jcmp_lt, jcmp_gt, w32_id, jcpy_out, Sum.elim_inl, Sum.elim_inr, jt2, jt3, jt4, jt5, jt6, jt7, jt8] at sm1
  obtain ⟨e, f, r1, r2⟩ := gr1
  have k27 := r2.2.2.1
  have e12 := r2.1.2.1
  have f01 : f = 0 ∨ f = 1 := by { rcases r2.1.2.2 with r | r; { exact Or.inl r }; { exact Or.inr r.1 } }
  have V : (f = 1 ∧ o1 (o1 454 38) 27 = (e : Int) + 1) ∨ (f = 0 ∧ o1 (o1 454 38) 27 = 100 ∧ a1 ≤ (e : Int)) := by { rcases f01 with z | z; { rw [if_neg (by omega)] at k27; have := r1.2; exact Or.inr ⟨z, k27, by omega⟩ }; { rw [if_pos z] at k27; exact Or.inl ⟨z, k27⟩ } }
  have x16 : isX16 (o1 454 38) := sm1.1.1
  unfold gX14_reaches_j30
  refine OK_jg (by (first | assumption | omega | ((try dsimp only [jt2, jt3, jt4]); first | omega | (simp (disch := omega) only [jst_eq, jst_ne, jst_ni, jst_o, jI_i, jcpy_out, w32_id, jdiv_nn, jshr_k, jand_255] <;> first | done | omega | assumption)) | (intros; simp (disch := omega) only [jst_eq, jst_ne, jst_ni, jst_o, jI_i, jcpy_out, w32_id, jdiv_nn, *] <;> first | done | omega) | (intros; simp (disch := omega) only [jst_eq, jst_ne, jst_ni, jst_o, jI_i, jcpy_out, w32_id, jdiv_nn] at * <;> first | done | omega | assumption) | (intros; first | rfl | (exfalso; omega) | ((repeat' apply And.intro) <;> first | assumption | rfl | omega | trivial)))) ?_ -- o5
  refine OK_if (fun c1 => ?_) (fun c1 => ?_)
  · skip
    try simp (disch := omega) only [jst_eq, jst_ne, jst_ni, jI_i, jcmp_lt, jcmp_gt, w32_id, jcpy_out, Sum.elim_inl, Sum.elim_inr, jt2, jt3, jt4, jt5, jt6, jt7, jt8] at c1
    refine OK_some ?_
    try dsimp only [Sum.elim_inl, Sum.elim_inr, jt2, jt3, jt4, jt5, jt6, jt7, jt8]
    try dsimp only [Sum.elim_inl, Sum.elim_inr, jt2, jt3, jt4, jt5, jt6, jt7, jt8]
    refine ⟨?_, ?_, ?_⟩
    · exact ⟨e, f, r1, r2, Or.inl ⟨rfl, by omega⟩⟩ -- o6 e1.1
    · (first | assumption | omega | ((try dsimp only [jt2, jt3, jt4]); first | omega | (simp (disch := omega) only [jst_eq, jst_ne, jst_ni, jst_o, jI_i, jcpy_out, w32_id, jdiv_nn, jshr_k, jand_255] <;> first | done | omega | assumption)) | (intros; simp (disch := omega) only [jst_eq, jst_ne, jst_ni, jst_o, jI_i, jcpy_out, w32_id, jdiv_nn, *] <;> first | done | omega) | (intros; simp (disch := omega) only [jst_eq, jst_ne, jst_ni, jst_o, jI_i, jcpy_out, w32_id, jdiv_nn] at * <;> first | done | omega | assumption) | (intros; first | rfl | (exfalso; omega) | ((repeat' apply And.intro) <;> first | assumption | rfl | omega | trivial))) -- o7 e1.2
    · (first | assumption | omega | ((try dsimp only [jt2, jt3, jt4]); first | omega | (simp (disch := omega) only [jst_eq, jst_ne, jst_ni, jst_o, jI_i, jcpy_out, w32_id, jdiv_nn, jshr_k, jand_255] <;> first | done | omega | assumption)) | (intros; simp (disch := omega) only [jst_eq, jst_ne, jst_ni, jst_o, jI_i, jcpy_out, w32_id, jdiv_nn, *] <;> first | done | omega) | (intros; simp (disch := omega) only [jst_eq, jst_ne, jst_ni, jst_o, jI_i, jcpy_out, w32_id, jdiv_nn] at * <;> first | done | omega | assumption) | (intros; first | rfl | (exfalso; omega) | ((repeat' apply And.intro) <;> first | assumption | rfl | omega | trivial))) -- o8 e1.3
  · skip
    try simp (disch := omega) only [jst_eq, jst_ne, jst_ni, jI_i, jcmp_lt, jcmp_gt, w32_id, jcpy_out, Sum.elim_inl, Sum.elim_inr, jt2, jt3, jt4, jt5, jt6, jt7, jt8] at c1
    refine OK_some ?_
    try dsimp only [Sum.elim_inl, Sum.elim_inr, jt2, jt3, jt4, jt5, jt6, jt7, jt8]
    try dsimp only [Sum.elim_inl, Sum.elim_inr, jt2, jt3, jt4, jt5, jt6, jt7, jt8]
    refine ⟨?_, ?_, ?_⟩
    · exact ⟨e, f, r1, r2, Or.inr ⟨rfl, by omega⟩⟩ -- o9 e2.1
    · (first | assumption | omega | ((try dsimp only [jt2, jt3, jt4]); first | omega | (simp (disch := omega) only [jst_eq, jst_ne, jst_ni, jst_o, jI_i, jcpy_out, w32_id, jdiv_nn, jshr_k, jand_255] <;> first | done | omega | assumption)) | (intros; simp (disch := omega) only [jst_eq, jst_ne, jst_ni, jst_o, jI_i, jcpy_out, w32_id, jdiv_nn, *] <;> first | done | omega) | (intros; simp (disch := omega) only [jst_eq, jst_ne, jst_ni, jst_o, jI_i, jcpy_out, w32_id, jdiv_nn] at * <;> first | done | omega | assumption) | (intros; first | rfl | (exfalso; omega) | ((repeat' apply And.intro) <;> first | assumption | rfl | omega | trivial))) -- o10 e2.2
    · (first | assumption | omega | ((try dsimp only [jt2, jt3, jt4]); first | omega | (simp (disch := omega) only [jst_eq, jst_ne, jst_ni, jst_o, jI_i, jcpy_out, w32_id, jdiv_nn, jshr_k, jand_255] <;> first | done | omega | assumption)) | (intros; simp (disch := omega) only [jst_eq, jst_ne, jst_ni, jst_o, jI_i, jcpy_out, w32_id, jdiv_nn, *] <;> first | done | omega) | (intros; simp (disch := omega) only [jst_eq, jst_ne, jst_ni, jst_o, jI_i, jcpy_out, w32_id, jdiv_nn] at * <;> first | done | omega | assumption) | (intros; first | rfl | (exfalso; omega) | ((repeat' apply And.intro) <;> first | assumption | rfl | omega | trivial))) -- o11 e2.3

