/-! m: the search's state while its table grows; what is accepted -/
def b20 (h : AH) : Prop := -9223372036854775808 ≤ h 454 20 ∧ h 454 20 < 9223372036854775808
def seM (h : AH) (E : EV) (Rf : Int → TR) (W : Int → Int → Int → VW) (A : AD) (pts tp : Int) : Prop := (isX16 (h 454 38) ∧ ownsM h E Rf ∧ wOK E Rf W ∧ E.2.2.1 = 0) ∧ (h 454 21 = -1 ∧ b20 h) ∧ (pkM h A.1 A.2.1 A.2.2.1 pts ∧ (∀ k, 0 ≤ k → k < A.1 → h (h 454 38 + 1) k = kch (A.2.1 k)) ∧ pcM h A ∧ dpA A) ∧ h (h 454 38) 1 = tp ∧ (tp = 8500 ∨ tp = 8650)
theorem seM_en {h : AH} {E : EV} {Rf : Int → TR} {W : Int → Int → Int → VW} {A : AD} {pts tp : Int} (g : seM h E Rf W A pts tp) (f : Int → Int → Int → Int) : enuM h E Rf W f (-1) := by
  obtain ⟨⟨g1, ⟨o1, o2, o3, o4, o5⟩, g3, g4⟩, _⟩ := g
  exact enuM_of o1 o2 g3 (fun z => by omega) o3 o4 o5.2.1 (by omega)
/-- what the growing of m's table may change: the search's node, all -/
def fT (t : Int) (h h' : AH) : Prop := ∀ a s, ¬ (a = 454 ∧ (s = 17 ∨ s = 20 ∨ s = 21 ∨ s = 22)) → ¬ (460 ≤ a ∧ a ≤ 469 ∧ a ≠ 464 ∧ s = t) → ¬ (a = 464 ∧ 3 * t ≤ s ∧ s < 3 * t + 3) → ¬ (a = 754 ∧ 0 ≤ s) → h' a s = h a s
def fM (X : Int) (h h' : AH) : Prop := ∀ a s, ¬ (a = 454 ∧ (s = 17 ∨ s = 20 ∨ s = 21 ∨ s = 22 ∨ s = 40)) → ¬ (460 ≤ a ∧ a ≤ 469 ∧ a ≠ 464 ∧ 8500 ≤ s ∧ s < 8800) → ¬ (a = 464 ∧ 25500 ≤ s ∧ s < 26400) → ¬ (a = 754 ∧ 0 ≤ s) → ¬ (X + 12 ≤ a ∧ a ≤ X + 138 ∧ 0 ≤ s) → h' a s = h a s
theorem fM_r {X : Int} (h : AH) : fM X h h := fun _ _ _ _ _ _ _ => rfl
theorem fM_t {X : Int} {h h1 h2 : AH} (a : fM X h h1) (b : fM X h1 h2) : fM X h h2 := fun x s y1 y2 y3 y4 y5 => (b x s y1 y2 y3 y4 y5).trans (a x s y1 y2 y3 y4 y5)
theorem fT_M {X t : Int} {h h' : AH} (l : 8500 ≤ t ∧ t < 8800) (f : fT t h h') : fM X h h' := fun a s y1 y2 y3 y4 _ => f a s (by omega) (by omega) (by omega) y4
theorem fQ_M {X N pts : Int} {h h' : AH} (n : 0 ≤ N ∧ N ≤ 120) (f : frQ X N pts h h') : fM X h h' := fun a s y1 y2 y3 y4 y5 => f a s (by omega) (by omega) (by omega)
theorem fT_t {t : Int} {h h1 h2 : AH} (a : fT t h h1) (b : fT t h1 h2) : fT t h h2 := fun x s y1 y2 y3 y4 => (b x s y1 y2 y3 y4).trans (a x s y1 y2 y3 y4)
theorem seM_M {X : Int} {h h' : AH} {E : EV} {Rf : Int → TR} {W : Int → Int → Int → VW} {A : AD} {pts tp : Int} (g : seM h E Rf W A pts tp) (e : X = h 454 38) (f : fM X h h') (w : h' 454 21 = -1 ∧ b20 h') : seM h' E Rf W A pts tp := by
  subst e
  obtain ⟨⟨g1, g2, g3, g4⟩, g5, ⟨g6, g7, g8, g9⟩, g10, g11⟩ := g
  have xx : h 454 38 = 476 ∨ h 454 38 = 615 := g1
  have e : h' 454 38 = h 454 38 := f _ _ (by omega) (by omega) (by omega) (by omega) (by omega)
  have fx : ∀ s, h' (h 454 38) s = h (h 454 38) s := fun s => f _ _ (by omega) (by omega) (by omega) (by omega) (by omega)
  refine ⟨⟨by rw [e]; exact g1, ownsM_fr g2 (f _ _ (by omega) (by omega) (by omega) (by omega) (by omega)) (fun a s a0 a1 => f _ _ (by omega) (by omega) (by omega) (by omega) (by omega)) ⟨fun a s a0 a1 a2 a3 a4 => f _ _ (by omega) (by omega) (by omega) (by omega) (by omega), fun s s0 s1 => f _ _ (by omega) (by omega) (by omega) (by omega) (by omega)⟩, g3, g4⟩, w, ⟨?_, fun k k0 k1 => ?_, ?_, g9⟩, by rw [e, fx]; exact g10, g11⟩
  · obtain ⟨p1, p2, p3, p4, p5, p6, p7, p8⟩ := g6
    refine ⟨by rw [e]; exact p1, by rw [e, fx]; exact p2, p3, p4, by rw [e, fx]; exact p5, p6, p7, fun p k p0 p1 k0 k1 => ?_⟩
    rw [e, f _ _ (by omega) (by omega) (by omega) (by omega) (by omega)]
    exact p8 p k p0 p1 k0 k1
  · rw [e, f _ _ (by omega) (by omega) (by omega) (by omega) (by omega)]; exact g7 k k0 k1
  · obtain ⟨p1, p2, p3, p4⟩ := g8
    unfold pcM
    rw [e, fx]
    refine ⟨p1, p2, p3, fun k k0 k1 => ?_⟩
    have c := p4 k k0 k1
    rw [f (h 454 38 + 3) _ (by omega) (by omega) (by omega) (by omega) (by omega), f (h 454 38 + 4) _ (by omega) (by omega) (by omega) (by omega) (by omega), f (h 454 38 + 2) _ (by omega) (by omega) (by omega) (by omega) (by omega)]
    refine ⟨c.1, c.2.1, ?_⟩
    rcases c.2.2 with y | y
    · rw [f 460 _ (by omega) (by omega) (by omega) (by omega) (by omega), f 461 _ (by omega) (by omega) (by omega) (by omega) (by omega), f 462 _ (by omega) (by omega) (by omega) (by omega) (by omega), f 465 _ (by omega) (by omega) (by omega) (by omega) (by omega), f 466 _ (by omega) (by omega) (by omega) (by omega) (by omega)]
      exact Or.inl y
    · exact Or.inr y
/-- m's table, with its terms -/
def XM (h : AH) (E : EV) (A : AD) (pts tp : Int) (T : TB) : Prop := T.1 ≤ 121 ∧ tbN h T.1 T.2.1 T.2.2.1 (fun a => tp + a) T.2.2.2.2.2 pts ∧ hsN h T.1 T.2.2.2.2.2 pts ∧ ∀ a, 0 ≤ a → a < T.1 → (0 ≤ T.2.1 a ∧ T.2.1 a ≤ 2) ∧ (0 ≤ T.2.2.1 a ∧ T.2.2.1 a ≤ 12) ∧ h 461 (tp + a) = kch (T.2.1 a) ∧ ndC h E A T tp T.1 (tp + a) (T.2.2.1 a) (T.2.2.2.1 a) (T.2.2.2.2.1 a)
theorem hdC_f {h h' : AH} {E : EV} {A : AD} {t d n : Int} (f : ∀ a, 460 ≤ a → a ≤ 463 → h' a t = h a t) (x : hdC h E A t d n) : hdC h' E A t d n := by
  unfold hdC
  rw [f 460 (by decide) (by decide), f 461 (by decide) (by decide), f 462 (by decide) (by decide), f 463 (by decide) (by decide)]
  exact x
theorem ndC_f {h h' : AH} {E : EV} {A : AD} {T : TB} {tp N t w d : Int} {o : Int → Int} (f : ∀ a, 460 ≤ a → a ≤ 469 → a ≠ 464 → h' a t = h a t) (k : ∀ s, 3 * t ≤ s → s < 3 * t + 3 → h' 464 s = h 464 s) (x : ndC h E A T tp N t w d o) : ndC h' E A T tp N t w d o := by
  obtain ⟨x1, x2, x3, x4, x5⟩ := x
  have nr := nkO_r o
  exact ⟨⟨by rw [f _ (by decide) (by decide) (by decide)]; exact x1.1, by rw [f _ (by decide) (by decide) (by decide)]; exact x1.2⟩, by rw [f _ (by decide) (by decide) (by decide)]; exact x2, fun i i0 i1 => by rw [k _ (by omega) (by omega)]; exact x3 i i0 i1, hdC_f (fun a a0 a1 => f a a0 (by omega) (by omega)) x4, x5⟩
theorem ndC_e {h : AH} {E : EV} {A : AD} {T T' : TB} {tp N N' t w d : Int} {o : Int → Int} (e : extT T T') (n : N ≤ T.1) (n' : N ≤ N') (x : ndC h E A T tp N t w d o) : ndC h E A T' tp N' t w d o := by
  obtain ⟨x1, x2, x3, x4, x5⟩ := x
  refine ⟨x1, x2, fun i i0 i1 => ?_, x4, x5⟩
  have c := x3 i i0 i1
  exact ⟨c.1, c.2.1, by omega, by rw [(e.2 _ c.2.1 (by omega)).2.1]; exact c.2.2.2⟩
theorem tbN_o {h h' : AH} {N pts : Int} {kd wt nd : Int → Int} {vl : Int → Int → Int} (x : h' 454 38 = h 454 38) (f : ∀ a s, 476 ≤ a → a < 754 → h' a s = h a s) (t : tbN h N kd wt nd vl pts) : tbN h' N kd wt nd vl pts := by
  obtain ⟨t1, t2, t3, t4, t6, t7, t8⟩ := t
  have xx : h 454 38 = 476 ∨ h 454 38 = 615 := t1
  unfold tbN
  rw [x]
  refine ⟨t1, by rw [f _ _ (by omega) (by omega)]; exact t2, t3, t4, t6, t7, fun a a0 a1 => ?_⟩
  obtain ⟨c1, c2, c3, c4⟩ := t8 a a0 a1
  refine ⟨?_, ?_, ?_, fun p p0 p1 => ?_⟩
  · rw [f _ _ (by omega) (by omega)]; exact c1
  · rw [f _ _ (by omega) (by omega)]; exact c2
  · rw [f _ _ (by omega) (by omega)]; exact c3
  · rw [f _ _ (by omega) (by omega)]; exact c4 p p0 p1
theorem hsN_o {h h' : AH} {N pts : Int} {vl : Int → Int → Int} (xx : h 454 38 = 476 ∨ h 454 38 = 615) (x : h' 454 38 = h 454 38) (f : ∀ a s, 476 ≤ a → a < 754 → h' a s = h a s) (t : hsN h N vl pts) : hsN h' N vl pts := by
  unfold hsN
  rw [x]
  intro a a0 a1
  rw [f _ _ (by omega) (by omega)]
  exact t a a0 a1
theorem XM_T {h h' : AH} {E : EV} {A : AD} {pts tp t : Int} {T : TB} (x : XM h E A pts tp T) (l : tp + T.1 ≤ t) (f : fT t h h') : XM h' E A pts tp T := by
  obtain ⟨x1, x2, x3, x4⟩ := x
  have e : h' 454 38 = h 454 38 := f _ _ (by omega) (by omega) (by omega) (by omega)
  have g : ∀ a s, 476 ≤ a → a < 754 → h' a s = h a s := fun a s a0 a1 => f _ _ (by omega) (by omega) (by omega) (by omega)
  refine ⟨x1, tbN_o e g x2, hsN_o x2.1 e g x3, fun a a0 a1 => ?_⟩
  obtain ⟨c1, c2, c3, c4⟩ := x4 a a0 a1
  exact ⟨c1, c2, by rw [f _ _ (by omega) (by omega) (by omega) (by omega)]; exact c3, ndC_f (fun a a0 a1 a2 => f _ _ (by omega) (by omega) (by omega) (by omega)) (fun s s0 s1 => f _ _ (by omega) (by omega) (by omega) (by omega)) c4⟩
/-- the table so far, of what is offered: no more than 121 are kept -/
def QM (h : AH) (E : EV) (W : Int → Int → Int → VW) (A : AD) (pts tp : Int) (T0 : TB) (q : Int) (F : TB) (B : Int) : Prop := ∃ T, SB E W pts A T0 q T B ∧ XM h E A pts tp T ∧ h 454 40 = T.1 ∧ ((T = F ∧ F.1 ≤ 120) ∨ (T.1 = 121 ∧ 120 < F.1))
theorem QM_m {h : AH} {E : EV} {W : Int → Int → Int → VW} {A : AD} {pts tp : Int} {T0 : TB} {q : Int} {F : TB} {B B' : Int} (x : QM h E W A pts tp T0 q F B) (b : B ≤ B') : QM h E W A pts tp T0 q F B' := by
  obtain ⟨T, s, r⟩ := x
  exact ⟨T, SB_m s b, r⟩
theorem QM_T {h h' : AH} {E : EV} {W : Int → Int → Int → VW} {A : AD} {pts tp : Int} {T0 : TB} {q : Int} {F : TB} {B t : Int} (x : QM h E W A pts tp T0 q F B) (e : t = tp + h 454 40) (f : fT t h h') : QM h' E W A pts tp T0 q F B := by
  obtain ⟨T, s, x, n, r⟩ := x
  exact ⟨T, s, XM_T x (by omega) f, by rw [f _ _ (by omega) (by omega) (by omega) (by omega)]; exact n, r⟩
theorem SB_so {E : EV} {W : Int → Int → Int → VW} {pts : Int} {A : AD} {T0 T : TB} {q B : Int} (g : GT E W pts A (q - 1) T0) (s : SB E W pts A T0 q T B) : soT T := by
  intro a b a0 ab b1
  by_cases y : b < T0.1
  · have e1 := s.1.2 a a0 (by omega)
    have e2 := s.1.2 b (by omega) y
    rw [e1.2.1, e1.2.2.1, e1.2.2.2.1, e2.2.1, e2.2.2.1, e2.2.2.2.1]
    exact g.2.2.1 a b a0 ab y
  · have c := s.2.1 b (by omega) b1
    by_cases z : a < T0.1
    · have e1 := s.1.2 a a0 z
      have := (g.2.1 a a0 z).2.1
      exact Or.inl (by rw [e1.2.1, c.1]; omega)
    · have d := s.2.1 a (by omega) (by omega)
      exact Or.inr ⟨by rw [c.1, d.1], s.2.2.1 a b (by omega) ab b1⟩
theorem XM_add {h h' : AH} {E : EV} {A : AD} {pts tp k q d t : Int} {o u : Int → Int} {T : TB} (x : XM h E A pts tp T) (tl : 8500 ≤ tp ∧ tp ≤ 8650) (n : T.1 ≤ 120) (kk : 0 ≤ k ∧ k ≤ 2) (qq : 0 ≤ q ∧ q ≤ 12) (te : t = tp + T.1) (hk : h 461 t = kch k) (nd : ndC h E A T tp T.1 t q d o) (fq : frQ (h 454 38) T.1 pts h h') (ad : tbN h' (T.1 + 1) (up1 T.2.1 T.1 k) (up1 T.2.2.1 T.1 q) (up1 (fun a => tp + a) T.1 t) (up1 T.2.2.2.2.2 T.1 u) pts ∧ hsN h' (T.1 + 1) (up1 T.2.2.2.2.2 T.1 u) pts) : XM h' E A pts tp (addT T k q d o u) := by
  obtain ⟨x1, x2, x3, x4⟩ := x
  have xx : h 454 38 = 476 ∨ h 454 38 = 615 := x2.1
  have ex := extT_add T k q d o u
  have t0 := x2.2.2.2.2.1
  have un : up1 (fun a => tp + a) T.1 t = fun a => tp + a := by
    funext a
    by_cases y : a = T.1
    · rw [y, up1_e]; exact te
    · rw [up1_o y]
  have a1 := ad.1
  rw [un] at a1
  refine ⟨by show T.1 + 1 ≤ 121; omega, a1, ad.2, fun a a0 al => ?_⟩
  have al2 : a < T.1 + 1 := al
  have FN : ∀ a s, 460 ≤ a → a ≤ 469 → h' a s = h a s := fun a s a0 a1 => fq _ _ (by omega) (by omega) (by omega)
  by_cases y : a = T.1
  · rw [y]
    have r1 : (addT T k q d o u).2.1 T.1 = k := up1_e
    have r2 : (addT T k q d o u).2.2.1 T.1 = q := up1_e
    have r3 : (addT T k q d o u).2.2.2.1 T.1 = d := up1_e
    have r4 : (addT T k q d o u).2.2.2.2.1 T.1 = o := up1_e
    rw [r1, r2, r3, r4, ← te]
    refine ⟨kk, qq, by rw [FN _ _ (by decide) (by decide)]; exact hk, ?_⟩
    exact ndC_e ex (Int.le_refl _) (by show T.1 ≤ T.1 + 1; omega) (ndC_f (fun a a0 a1 a2 => FN _ _ a0 a1) (fun s _ _ => FN _ _ (by decide) (by decide)) nd)
  · have p := ex.2 a a0 (by omega)
    rw [p.1, p.2.1, p.2.2.1, p.2.2.2.1]
    obtain ⟨c1, c2, c3, c4⟩ := x4 a a0 (by omega)
    exact ⟨c1, c2, by rw [FN _ _ (by decide) (by decide)]; exact c3, ndC_e ex (Int.le_refl _) (by show T.1 ≤ T.1 + 1; omega) (ndC_f (fun a a0 a1 a2 => FN _ _ a0 a1) (fun s _ _ => FN _ _ (by decide) (by decide)) c4)⟩
theorem vX14_accept_j42 (a1 : Int) (a2 : Int) {h : AH} {E : EV} {Rf : Int → TR} {W : Int → Int → Int → VW} {A : AD} {pts tp q d B : Int} {o : Int → Int} {T0 T : TB} (g : seM h E Rf W A pts tp) (sb : SB E W pts A T0 q T B) (gt : GT E W pts A (q - 1) T0 ∧ 1 ≤ q ∧ q ≤ 12) (xm : XM h E A pts tp T) (n0 : h (h 454 38) 20 = T0.1) (nd : a1 = tp + h 454 40 ∧ h 454 40 = T.1 ∧ ndC h E A T tp T.1 a1 q d o ∧ B ≤ kyO d o) (v2 : a2 < T.1) : OK (gX14_accept_j42 a1 a2 h) (fun h' => h' = h) := by
  have tpr := g.2.2.2.2
  have so := SB_so gt.1 sb
  have xx : h 454 38 = 476 ∨ h 454 38 = 615 := g.1.1
  have g3 := g.2.2.1.1
  have x1 := xm.1
  have t00 := gt.1.1
  have l0 := sb.1.1
  unfold gX14_accept_j42
  refine OK_jg (by (first | assumption | omega | ((try dsimp only [jt2, jt3, jt4]); first | omega | (simp (disch := omega) only [jst_eq, jst_ne, jst_ni, jst_o, jI_i, jcpy_out, w32_id, jdiv_nn, jshr_k, jand_255] <;> first | done | omega | assumption)) | (intros; simp (disch := omega) only [jst_eq, jst_ne, jst_ni, jst_o, jI_i, jcpy_out, w32_id, jdiv_nn, *] <;> first | done | omega) | (intros; simp (disch := omega) only [jst_eq, jst_ne, jst_ni, jst_o, jI_i, jcpy_out, w32_id, jdiv_nn] at * <;> first | done | omega | assumption) | (intros; first | rfl | (exfalso; omega) | ((repeat' apply And.intro) <;> first | assumption | rfl | omega | trivial)))) ?_ -- o1
  refine OK_if (fun c1 => ?_) (fun c1 => ?_)
  · skip
    try simp (disch := omega) only [jst_eq, jst_ne, jst_ni, jI_i, jcmp_lt, jcmp_gt, w32_id, jcpy_out, Sum.elim_inl, Sum.elim_inr, jt2, jt3, jt4, jt5, jt6, jt7, jt8] at c1
    refine OK_some ?_
    try dsimp only [Sum.elim_inl, Sum.elim_inr, jt2, jt3, jt4, jt5, jt6, jt7, jt8]
    all_goals rfl -- o2 e1
  · skip
    try simp (disch := omega) only [jst_eq, jst_ne, jst_ni, jI_i, jcmp_lt, jcmp_gt, w32_id, jcpy_out, Sum.elim_inl, Sum.elim_inr, jt2, jt3, jt4, jt5, jt6, jt7, jt8] at c1
    have C := xm.2.1.2.2.2.2.2.2 a2 (by omega) v2
    have D := xm.2.2.2 a2 (by omega) v2
    have S := sb.2.1 a2 (by omega) v2
    have c3 := C.2.2.1
    refine OK_jg (by (first | assumption | omega | ((try dsimp only [jt2, jt3, jt4]); first | omega | (simp (disch := omega) only [jst_eq, jst_ne, jst_ni, jst_o, jI_i, jcpy_out, w32_id, jdiv_nn, jshr_k, jand_255] <;> first | done | omega | assumption)) | (intros; simp (disch := omega) only [jst_eq, jst_ne, jst_ni, jst_o, jI_i, jcpy_out, w32_id, jdiv_nn, *] <;> first | done | omega) | (intros; simp (disch := omega) only [jst_eq, jst_ne, jst_ni, jst_o, jI_i, jcpy_out, w32_id, jdiv_nn] at * <;> first | done | omega | assumption) | (intros; first | rfl | (exfalso; omega) | ((repeat' apply And.intro) <;> first | assumption | rfl | omega | trivial)))) ?_ -- o3
    refine OK_jb (vX14_order (E := E) (A := A) (T := T) (tp := tp) (w := q) (d := d) (w' := T.2.2.1 a2) (d' := T.2.2.2.1 a2) (o := o) (o' := T.2.2.2.2.1 a2) _ _ (by exact ⟨g.1.1, g.2.2.1.2.2.1, g.2.2.1.2.2.2, by have := g3.2.2.1; omega, g3.2.2.2.1⟩) (by omega) (by exact so) (by exact fun a a0 a1 => by (have z := xm.2.2.2 a a0 a1; exact ⟨z.2.1.1, by omega, z.2.2.2⟩)) (by (rw [c3]; dsimp only; omega)) (by exact nd.2.2.1) (by (rw [c3]; exact D.2.2.2))) (fun v9 r1 => ?_)
    try dsimp only [Sum.elim_inl, Sum.elim_inr, jt2, jt3, jt4, jt5, jt6, jt7, jt8] at r1
    have sg1 := r1
    clear r1
    try simp (disch := omega) only [jst_eq, jst_ne, jst_ni, jI_i, jcmp_lt, jcmp_gt, w32_id, jcpy_out, Sum.elim_inl, Sum.elim_inr, jt2, jt3, jt4, jt5, jt6, jt7, jt8] at sg1
    refine OK_if (fun c2 => ?_) (fun c2 => ?_)
    · skip
      try simp (disch := omega) only [jst_eq, jst_ne, jst_ni, jI_i, jcmp_lt, jcmp_gt, w32_id, jcpy_out, Sum.elim_inl, Sum.elim_inr, jt2, jt3, jt4, jt5, jt6, jt7, jt8] at c2
      refine OK_some ?_
      try dsimp only [Sum.elim_inl, Sum.elim_inr, jt2, jt3, jt4, jt5, jt6, jt7, jt8]
      all_goals rfl -- o11 e2
    · skip
      try simp (disch := omega) only [jst_eq, jst_ne, jst_ni, jI_i, jcmp_lt, jcmp_gt, w32_id, jcpy_out, Sum.elim_inl, Sum.elim_inr, jt2, jt3, jt4, jt5, jt6, jt7, jt8] at c2
      exfalso
      (have z : (v9 < 0 ∧ cL q d o (T.2.2.1 a2) (T.2.2.2.1 a2) (T.2.2.2.2.1 a2)) ∨ (v9 = 0 ∧ q = T.2.2.1 a2 ∧ kyO d o = kyO (T.2.2.2.1 a2) (T.2.2.2.2.1 a2)) ∨ (0 < v9 ∧ cL (T.2.2.1 a2) (T.2.2.2.1 a2) (T.2.2.2.2.1 a2) q d o) := (by first | exact sg1 | assumption); unfold cL at z; have := S.1; have := S.2.2; have := nd.2.2.2; omega)
theorem vX14_accept (a1 : Int) {h : AH} {E : EV} {Rf : Int → TR} {W : Int → Int → Int → VW} {A : AD} {pts tp q k d B : Int} {o u : Int → Int} {T0 F : TB} (g : seM h E Rf W A pts tp) (qm : QM h E W A pts tp T0 q F B) (gt : GT E W pts A (q - 1) T0 ∧ 1 ≤ q ∧ q ≤ 12) (n0 : h (h 454 38) 20 = T0.1) (nd : a1 = tp + h 454 40 ∧ h 461 a1 = kch k ∧ (0 ≤ k ∧ k ≤ 2) ∧ ndC h E A T0 tp T0.1 a1 q d o ∧ B ≤ kyO d o) (lg : lgO E W pts A T0 T0.1 q k d o u) (cc : ∀ p, 0 ≤ p → p < pts → h 754 p = u p) : OK (gX14_accept a1 h) (fun h' => (QM h' E W A pts tp T0 q (stepT pts F k q d o u) (kyO d o + 1)) ∧ (fM (h 454 38) h h' ∧ seM h' E Rf W A pts tp)) := by
  obtain ⟨T, sb, xm, nT, cs⟩ := qm
  have tpr := g.2.2.2.2
  have x1 := xm.1
  have xx : h 454 38 = 476 ∨ h 454 38 = 615 := g.1.1
  have t00 := gt.1.1
  have l0 := sb.1.1
  have ND := ndC_e (N' := T.1) sb.1 (Int.le_refl _) sb.1.1 nd.2.2.2.1
  unfold gX14_accept
  refine OK_jg (by (first | (exact g) | (exact sb) | (exact gt) | (exact xm) | (exact ⟨nd.1, nT, ND, nd.2.2.2.2⟩) | ((rcases IX with y | y <;> omega)) | (first | assumption | omega | ((try dsimp only [jt2, jt3, jt4]); first | omega | (simp (disch := omega) only [jst_eq, jst_ne, jst_ni, jst_o, jI_i, jcpy_out, w32_id, jdiv_nn, jshr_k, jand_255] <;> first | done | omega | assumption)) | (intros; simp (disch := omega) only [jst_eq, jst_ne, jst_ni, jst_o, jI_i, jcpy_out, w32_id, jdiv_nn, *] <;> first | done | omega) | (intros; simp (disch := omega) only [jst_eq, jst_ne, jst_ni, jst_o, jI_i, jcpy_out, w32_id, jdiv_nn] at * <;> first | done | omega | assumption) | (intros; first | rfl | (exfalso; omega) | ((repeat' apply And.intro) <;> first | assumption | rfl | omega | trivial))))) ?_ -- o1
  refine OK_jb (vX14_indexOf (N := T.1) (pts := pts) (k := k) (kd := T.2.1) (wt := T.2.2.1) (nd := fun a => tp + a) (vl := T.2.2.2.2.2) (u := u) _ _ (by exact xm.2.1) (by exact xm.2.2.1) (by exact ⟨fun a a0 a1 => (xm.2.2.2 a a0 a1).1, nd.2.2.1⟩) (by exact cc) (by exact ⟨nd.2.1, nT⟩)) (fun v2 r1 => ?_)
  try dsimp only [Sum.elim_inl, Sum.elim_inr, jt2, jt3, jt4, jt5, jt6, jt7, jt8] at r1
  have ix1 := r1
  clear r1
  try simp (disch := omega) only [jst_eq, jst_ne, jst_ni, jI_i, jcmp_lt, jcmp_gt, w32_id, jcpy_out, Sum.elim_inl, Sum.elim_inr, jt2, jt3, jt4, jt5, jt6, jt7, jt8] at ix1
  have IX : (0 ≤ v2 ∧ v2 < T.1 ∧ T.2.1 v2 = k ∧ eqV pts (T.2.2.2.2.2 v2) u) ∨ (v2 = -1 ∧ ∀ o, 0 ≤ o → o < T.1 → ¬ (T.2.1 o = k ∧ eqV pts (T.2.2.2.2.2 o) u)) := by first | exact ix1 | assumption
  refine OK_if (fun c1 => ?_) (fun c1 => ?_)
  · skip
    try simp (disch := omega) only [jst_eq, jst_ne, jst_ni, jI_i, jcmp_lt, jcmp_gt, w32_id, jcpy_out, Sum.elim_inl, Sum.elim_inr, jt2, jt3, jt4, jt5, jt6, jt7, jt8] at c1
    have ST : T = F → stepT pts F k q d o u = F := fun y => stepT_h (by rw [← y]; rcases IX with z | z; { exact ⟨v2, z⟩ }; { omega })
    have R1 : QM h E W A pts tp T0 q (stepT pts F k q d o u) (kyO d o + 1) := ⟨T, SB_m sb (by omega), xm, nT, by { rcases cs with z | z; { rw [ST z.1]; exact Or.inl z }; { exact Or.inr ⟨z.1, by have := (extT_s pts F k q d o u).1; omega⟩ } }⟩
    refine OK_mono (vX14_accept_j42 (E := E) (Rf := Rf) (W := W) (A := A) (pts := pts) (tp := tp) (q := q) (d := d) (B := B) (o := o) (T0 := T0) (T := T) _ _ (by (first | (exact g) | (exact sb) | (exact gt) | (exact xm) | (exact ⟨nd.1, nT, ND, nd.2.2.2.2⟩) | ((rcases IX with y | y <;> omega)) | (first | assumption | omega | ((try dsimp only [jt2, jt3, jt4]); first | omega | (simp (disch := omega) only [jst_eq, jst_ne, jst_ni, jst_o, jI_i, jcpy_out, w32_id, jdiv_nn, jshr_k, jand_255] <;> first | done | omega | assumption)) | (intros; simp (disch := omega) only [jst_eq, jst_ne, jst_ni, jst_o, jI_i, jcpy_out, w32_id, jdiv_nn, *] <;> first | done | omega) | (intros; simp (disch := omega) only [jst_eq, jst_ne, jst_ni, jst_o, jI_i, jcpy_out, w32_id, jdiv_nn] at * <;> first | done | omega | assumption) | (intros; first | rfl | (exfalso; omega) | ((repeat' apply And.intro) <;> first | assumption | rfl | omega | trivial))))) (by (first | (exact g) | (exact sb) | (exact gt) | (exact xm) | (exact ⟨nd.1, nT, ND, nd.2.2.2.2⟩) | ((rcases IX with y | y <;> omega)) | (first | assumption | omega | ((try dsimp only [jt2, jt3, jt4]); first | omega | (simp (disch := omega) only [jst_eq, jst_ne, jst_ni, jst_o, jI_i, jcpy_out, w32_id, jdiv_nn, jshr_k, jand_255] <;> first | done | omega | assumption)) | (intros; simp (disch := omega) only [jst_eq, jst_ne, jst_ni, jst_o, jI_i, jcpy_out, w32_id, jdiv_nn, *] <;> first | done | omega) | (intros; simp (disch := omega) only [jst_eq, jst_ne, jst_ni, jst_o, jI_i, jcpy_out, w32_id, jdiv_nn] at * <;> first | done | omega | assumption) | (intros; first | rfl | (exfalso; omega) | ((repeat' apply And.intro) <;> first | assumption | rfl | omega | trivial))))) (by (first | (exact g) | (exact sb) | (exact gt) | (exact xm) | (exact ⟨nd.1, nT, ND, nd.2.2.2.2⟩) | ((rcases IX with y | y <;> omega)) | (first | assumption | omega | ((try dsimp only [jt2, jt3, jt4]); first | omega | (simp (disch := omega) only [jst_eq, jst_ne, jst_ni, jst_o, jI_i, jcpy_out, w32_id, jdiv_nn, jshr_k, jand_255] <;> first | done | omega | assumption)) | (intros; simp (disch := omega) only [jst_eq, jst_ne, jst_ni, jst_o, jI_i, jcpy_out, w32_id, jdiv_nn, *] <;> first | done | omega) | (intros; simp (disch := omega) only [jst_eq, jst_ne, jst_ni, jst_o, jI_i, jcpy_out, w32_id, jdiv_nn] at * <;> first | done | omega | assumption) | (intros; first | rfl | (exfalso; omega) | ((repeat' apply And.intro) <;> first | assumption | rfl | omega | trivial))))) (by (first | (exact g) | (exact sb) | (exact gt) | (exact xm) | (exact ⟨nd.1, nT, ND, nd.2.2.2.2⟩) | ((rcases IX with y | y <;> omega)) | (first | assumption | omega | ((try dsimp only [jt2, jt3, jt4]); first | omega | (simp (disch := omega) only [jst_eq, jst_ne, jst_ni, jst_o, jI_i, jcpy_out, w32_id, jdiv_nn, jshr_k, jand_255] <;> first | done | omega | assumption)) | (intros; simp (disch := omega) only [jst_eq, jst_ne, jst_ni, jst_o, jI_i, jcpy_out, w32_id, jdiv_nn, *] <;> first | done | omega) | (intros; simp (disch := omega) only [jst_eq, jst_ne, jst_ni, jst_o, jI_i, jcpy_out, w32_id, jdiv_nn] at * <;> first | done | omega | assumption) | (intros; first | rfl | (exfalso; omega) | ((repeat' apply And.intro) <;> first | assumption | rfl | omega | trivial))))) (by (first | (exact g) | (exact sb) | (exact gt) | (exact xm) | (exact ⟨nd.1, nT, ND, nd.2.2.2.2⟩) | ((rcases IX with y | y <;> omega)) | (first | assumption | omega | ((try dsimp only [jt2, jt3, jt4]); first | omega | (simp (disch := omega) only [jst_eq, jst_ne, jst_ni, jst_o, jI_i, jcpy_out, w32_id, jdiv_nn, jshr_k, jand_255] <;> first | done | omega | assumption)) | (intros; simp (disch := omega) only [jst_eq, jst_ne, jst_ni, jst_o, jI_i, jcpy_out, w32_id, jdiv_nn, *] <;> first | done | omega) | (intros; simp (disch := omega) only [jst_eq, jst_ne, jst_ni, jst_o, jI_i, jcpy_out, w32_id, jdiv_nn] at * <;> first | done | omega | assumption) | (intros; first | rfl | (exfalso; omega) | ((repeat' apply And.intro) <;> first | assumption | rfl | omega | trivial))))) (by (first | (exact g) | (exact sb) | (exact gt) | (exact xm) | (exact ⟨nd.1, nT, ND, nd.2.2.2.2⟩) | ((rcases IX with y | y <;> omega)) | (first | assumption | omega | ((try dsimp only [jt2, jt3, jt4]); first | omega | (simp (disch := omega) only [jst_eq, jst_ne, jst_ni, jst_o, jI_i, jcpy_out, w32_id, jdiv_nn, jshr_k, jand_255] <;> first | done | omega | assumption)) | (intros; simp (disch := omega) only [jst_eq, jst_ne, jst_ni, jst_o, jI_i, jcpy_out, w32_id, jdiv_nn, *] <;> first | done | omega) | (intros; simp (disch := omega) only [jst_eq, jst_ne, jst_ni, jst_o, jI_i, jcpy_out, w32_id, jdiv_nn] at * <;> first | done | omega | assumption) | (intros; first | rfl | (exfalso; omega) | ((repeat' apply And.intro) <;> first | assumption | rfl | omega | trivial))))) (by (first | (exact g) | (exact sb) | (exact gt) | (exact xm) | (exact ⟨nd.1, nT, ND, nd.2.2.2.2⟩) | ((rcases IX with y | y <;> omega)) | (first | assumption | omega | ((try dsimp only [jt2, jt3, jt4]); first | omega | (simp (disch := omega) only [jst_eq, jst_ne, jst_ni, jst_o, jI_i, jcpy_out, w32_id, jdiv_nn, jshr_k, jand_255] <;> first | done | omega | assumption)) | (intros; simp (disch := omega) only [jst_eq, jst_ne, jst_ni, jst_o, jI_i, jcpy_out, w32_id, jdiv_nn, *] <;> first | done | omega) | (intros; simp (disch := omega) only [jst_eq, jst_ne, jst_ni, jst_o, jI_i, jcpy_out, w32_id, jdiv_nn] at * <;> first | done | omega | assumption) | (intros; first | rfl | (exfalso; omega) | ((repeat' apply And.intro) <;> first | assumption | rfl | omega | trivial)))))) (fun r r2 => ?_)
    try dsimp only [Sum.elim_inl, Sum.elim_inr, jt2, jt3, jt4, jt5, jt6, jt7, jt8] at r2
    have same2 := r2
    clear r2
    try simp (disch := omega) only [jst_eq, jst_ne, jst_ni, jI_i, jcmp_lt, jcmp_gt, w32_id, jcpy_out, Sum.elim_inl, Sum.elim_inr, jt2, jt3, jt4, jt5, jt6, jt7, jt8] at same2
    try dsimp only [Sum.elim_inl, Sum.elim_inr, jt2, jt3, jt4, jt5, jt6, jt7, jt8]
    try dsimp only [Sum.elim_inl, Sum.elim_inr, jt2, jt3, jt4, jt5, jt6, jt7, jt8]
    refine ⟨?_, ?_⟩
    · (first | rw [same2] | rw [same3]); exact R1 -- o14 e1.1
    · (first | rw [same2] | rw [same3]); exact ⟨fM_r _, g⟩ -- o15 e1.2
  · skip
    try simp (disch := omega) only [jst_eq, jst_ne, jst_ni, jI_i, jcmp_lt, jcmp_gt, w32_id, jcpy_out, Sum.elim_inl, Sum.elim_inr, jt2, jt3, jt4, jt5, jt6, jt7, jt8] at c1
    refine OK_if (fun c2 => ?_) (fun c2 => ?_)
    · skip
      try simp (disch := omega) only [jst_eq, jst_ne, jst_ni, jI_i, jcmp_lt, jcmp_gt, w32_id, jcpy_out, Sum.elim_inl, Sum.elim_inr, jt2, jt3, jt4, jt5, jt6, jt7, jt8] at c2
      have R1 : QM h E W A pts tp T0 q (stepT pts F k q d o u) (kyO d o + 1) := ⟨T, SB_m sb (by omega), xm, nT, by { rcases cs with z | z; { have e9 : T.1 = F.1 := (by rw [z.1]); have f9 := z.2; omega }; { exact Or.inr ⟨z.1, by have := (extT_s pts F k q d o u).1; omega⟩ } }⟩
      refine OK_mono (vX14_accept_j42 (E := E) (Rf := Rf) (W := W) (A := A) (pts := pts) (tp := tp) (q := q) (d := d) (B := B) (o := o) (T0 := T0) (T := T) _ _ (by (first | (exact g) | (exact sb) | (exact gt) | (exact xm) | (exact ⟨nd.1, nT, ND, nd.2.2.2.2⟩) | ((rcases IX with y | y <;> omega)) | (first | assumption | omega | ((try dsimp only [jt2, jt3, jt4]); first | omega | (simp (disch := omega) only [jst_eq, jst_ne, jst_ni, jst_o, jI_i, jcpy_out, w32_id, jdiv_nn, jshr_k, jand_255] <;> first | done | omega | assumption)) | (intros; simp (disch := omega) only [jst_eq, jst_ne, jst_ni, jst_o, jI_i, jcpy_out, w32_id, jdiv_nn, *] <;> first | done | omega) | (intros; simp (disch := omega) only [jst_eq, jst_ne, jst_ni, jst_o, jI_i, jcpy_out, w32_id, jdiv_nn] at * <;> first | done | omega | assumption) | (intros; first | rfl | (exfalso; omega) | ((repeat' apply And.intro) <;> first | assumption | rfl | omega | trivial))))) (by (first | (exact g) | (exact sb) | (exact gt) | (exact xm) | (exact ⟨nd.1, nT, ND, nd.2.2.2.2⟩) | ((rcases IX with y | y <;> omega)) | (first | assumption | omega | ((try dsimp only [jt2, jt3, jt4]); first | omega | (simp (disch := omega) only [jst_eq, jst_ne, jst_ni, jst_o, jI_i, jcpy_out, w32_id, jdiv_nn, jshr_k, jand_255] <;> first | done | omega | assumption)) | (intros; simp (disch := omega) only [jst_eq, jst_ne, jst_ni, jst_o, jI_i, jcpy_out, w32_id, jdiv_nn, *] <;> first | done | omega) | (intros; simp (disch := omega) only [jst_eq, jst_ne, jst_ni, jst_o, jI_i, jcpy_out, w32_id, jdiv_nn] at * <;> first | done | omega | assumption) | (intros; first | rfl | (exfalso; omega) | ((repeat' apply And.intro) <;> first | assumption | rfl | omega | trivial))))) (by (first | (exact g) | (exact sb) | (exact gt) | (exact xm) | (exact ⟨nd.1, nT, ND, nd.2.2.2.2⟩) | ((rcases IX with y | y <;> omega)) | (first | assumption | omega | ((try dsimp only [jt2, jt3, jt4]); first | omega | (simp (disch := omega) only [jst_eq, jst_ne, jst_ni, jst_o, jI_i, jcpy_out, w32_id, jdiv_nn, jshr_k, jand_255] <;> first | done | omega | assumption)) | (intros; simp (disch := omega) only [jst_eq, jst_ne, jst_ni, jst_o, jI_i, jcpy_out, w32_id, jdiv_nn, *] <;> first | done | omega) | (intros; simp (disch := omega) only [jst_eq, jst_ne, jst_ni, jst_o, jI_i, jcpy_out, w32_id, jdiv_nn] at * <;> first | done | omega | assumption) | (intros; first | rfl | (exfalso; omega) | ((repeat' apply And.intro) <;> first | assumption | rfl | omega | trivial))))) (by (first | (exact g) | (exact sb) | (exact gt) | (exact xm) | (exact ⟨nd.1, nT, ND, nd.2.2.2.2⟩) | ((rcases IX with y | y <;> omega)) | (first | assumption | omega | ((try dsimp only [jt2, jt3, jt4]); first | omega | (simp (disch := omega) only [jst_eq, jst_ne, jst_ni, jst_o, jI_i, jcpy_out, w32_id, jdiv_nn, jshr_k, jand_255] <;> first | done | omega | assumption)) | (intros; simp (disch := omega) only [jst_eq, jst_ne, jst_ni, jst_o, jI_i, jcpy_out, w32_id, jdiv_nn, *] <;> first | done | omega) | (intros; simp (disch := omega) only [jst_eq, jst_ne, jst_ni, jst_o, jI_i, jcpy_out, w32_id, jdiv_nn] at * <;> first | done | omega | assumption) | (intros; first | rfl | (exfalso; omega) | ((repeat' apply And.intro) <;> first | assumption | rfl | omega | trivial))))) (by (first | (exact g) | (exact sb) | (exact gt) | (exact xm) | (exact ⟨nd.1, nT, ND, nd.2.2.2.2⟩) | ((rcases IX with y | y <;> omega)) | (first | assumption | omega | ((try dsimp only [jt2, jt3, jt4]); first | omega | (simp (disch := omega) only [jst_eq, jst_ne, jst_ni, jst_o, jI_i, jcpy_out, w32_id, jdiv_nn, jshr_k, jand_255] <;> first | done | omega | assumption)) | (intros; simp (disch := omega) only [jst_eq, jst_ne, jst_ni, jst_o, jI_i, jcpy_out, w32_id, jdiv_nn, *] <;> first | done | omega) | (intros; simp (disch := omega) only [jst_eq, jst_ne, jst_ni, jst_o, jI_i, jcpy_out, w32_id, jdiv_nn] at * <;> first | done | omega | assumption) | (intros; first | rfl | (exfalso; omega) | ((repeat' apply And.intro) <;> first | assumption | rfl | omega | trivial))))) (by (first | (exact g) | (exact sb) | (exact gt) | (exact xm) | (exact ⟨nd.1, nT, ND, nd.2.2.2.2⟩) | ((rcases IX with y | y <;> omega)) | (first | assumption | omega | ((try dsimp only [jt2, jt3, jt4]); first | omega | (simp (disch := omega) only [jst_eq, jst_ne, jst_ni, jst_o, jI_i, jcpy_out, w32_id, jdiv_nn, jshr_k, jand_255] <;> first | done | omega | assumption)) | (intros; simp (disch := omega) only [jst_eq, jst_ne, jst_ni, jst_o, jI_i, jcpy_out, w32_id, jdiv_nn, *] <;> first | done | omega) | (intros; simp (disch := omega) only [jst_eq, jst_ne, jst_ni, jst_o, jI_i, jcpy_out, w32_id, jdiv_nn] at * <;> first | done | omega | assumption) | (intros; first | rfl | (exfalso; omega) | ((repeat' apply And.intro) <;> first | assumption | rfl | omega | trivial))))) (by (first | (exact g) | (exact sb) | (exact gt) | (exact xm) | (exact ⟨nd.1, nT, ND, nd.2.2.2.2⟩) | ((rcases IX with y | y <;> omega)) | (first | assumption | omega | ((try dsimp only [jt2, jt3, jt4]); first | omega | (simp (disch := omega) only [jst_eq, jst_ne, jst_ni, jst_o, jI_i, jcpy_out, w32_id, jdiv_nn, jshr_k, jand_255] <;> first | done | omega | assumption)) | (intros; simp (disch := omega) only [jst_eq, jst_ne, jst_ni, jst_o, jI_i, jcpy_out, w32_id, jdiv_nn, *] <;> first | done | omega) | (intros; simp (disch := omega) only [jst_eq, jst_ne, jst_ni, jst_o, jI_i, jcpy_out, w32_id, jdiv_nn] at * <;> first | done | omega | assumption) | (intros; first | rfl | (exfalso; omega) | ((repeat' apply And.intro) <;> first | assumption | rfl | omega | trivial)))))) (fun r r3 => ?_)
      try dsimp only [Sum.elim_inl, Sum.elim_inr, jt2, jt3, jt4, jt5, jt6, jt7, jt8] at r3
      have same3 := r3
      clear r3
      try simp (disch := omega) only [jst_eq, jst_ne, jst_ni, jI_i, jcmp_lt, jcmp_gt, w32_id, jcpy_out, Sum.elim_inl, Sum.elim_inr, jt2, jt3, jt4, jt5, jt6, jt7, jt8] at same3
      try dsimp only [Sum.elim_inl, Sum.elim_inr, jt2, jt3, jt4, jt5, jt6, jt7, jt8]
      try dsimp only [Sum.elim_inl, Sum.elim_inr, jt2, jt3, jt4, jt5, jt6, jt7, jt8]
      refine ⟨?_, ?_⟩
      · (first | rw [same2] | rw [same3]); exact R1 -- o23 e2.1
      · (first | rw [same2] | rw [same3]); exact ⟨fM_r _, g⟩ -- o24 e2.2
    · skip
      try simp (disch := omega) only [jst_eq, jst_ne, jst_ni, jI_i, jcmp_lt, jcmp_gt, w32_id, jcpy_out, Sum.elim_inl, Sum.elim_inr, jt2, jt3, jt4, jt5, jt6, jt7, jt8] at c2
      refine OK_jb (vX14_put (N := T.1) (pts := pts) (k := k) (kd := T.2.1) (wt := T.2.2.1) (nd := fun a => tp + a) (vl := T.2.2.2.2.2) (u := u) _ _ (by exact xm.2.1) (by exact xm.2.2.1) (by exact ⟨nT, by omega⟩) (by exact cc) (by exact ⟨nd.2.1, by omega, by omega⟩)) (fun h6 r4 => ?_)
      try dsimp only [Sum.elim_inl, Sum.elim_inr, jt2, jt3, jt4, jt5, jt6, jt7, jt8] at r4
      obtain ⟨ad4, fs4⟩ := r4
      try simp (disch := omega) only [jst_eq, jst_ne, jst_ni, jI_i, jcmp_lt, jcmp_gt, w32_id, jcpy_out, Sum.elim_inl, Sum.elim_inr, jt2, jt3, jt4, jt5, jt6, jt7, jt8] at ad4
      try simp (disch := omega) only [jst_eq, jst_ne, jst_ni, jI_i, jcmp_lt, jcmp_gt, w32_id, jcpy_out, Sum.elim_inl, Sum.elim_inr, jt2, jt3, jt4, jt5, jt6, jt7, jt8] at fs4
      have TF : T = F := by { rcases cs with z | z; { exact z.1 }; { omega } }
      have NO : ¬ hasT pts F k u := by { rw [← TF]; rcases IX with z | z; { omega }; { exact hasT_no z.2 } }
      have AD : (tbN h6 (T.1 + 1) (up1 T.2.1 T.1 k) (up1 T.2.2.1 T.1 (h 469 a1)) (up1 (fun a => tp + a) T.1 a1) (up1 T.2.2.2.2.2 T.1 u) pts ∧ hsN h6 (T.1 + 1) (up1 T.2.2.2.2.2 T.1 u) pts) ∧ frQ (h 454 38) T.1 pts h h6 ∧ h6 454 40 = T.1 + 1 := by first | exact ⟨ad4, fs4⟩ | exact ⟨ad3, fs3⟩ | exact ⟨ad2, fs2⟩
      have a469 : h 469 a1 = q := ND.1.1
      rw [a469] at AD
      have F6 := fQ_M (X := h 454 38) ⟨by omega, by omega⟩ AD.2.1
      refine OK_some ?_
      try dsimp only [Sum.elim_inl, Sum.elim_inr, jt2, jt3, jt4, jt5, jt6, jt7, jt8]
      try dsimp only [Sum.elim_inl, Sum.elim_inr, jt2, jt3, jt4, jt5, jt6, jt7, jt8]
      refine ⟨?_, ?_⟩
      · (refine ⟨addT T k q d o u, ?_, XM_add xm (by omega) (by omega) nd.2.2.1 ⟨by omega, by omega⟩ (by omega) nd.2.1 ND AD.2.1 AD.1, AD.2.2, ?_⟩; { have s := SB_s sb t00 lg nd.2.2.2.2; rw [stepT_n (by rw [TF]; exact NO)] at s; exact s }; { rw [stepT_n NO, ← TF]; by_cases z : T.1 + 1 ≤ 120; { exact Or.inl ⟨rfl, z⟩ }; { exact Or.inr ⟨by show T.1 + 1 = 121; omega, by show 120 < T.1 + 1; omega⟩ } }) -- o30 e3.1
      · exact ⟨F6, seM_M g rfl F6 ⟨by rw [AD.2.1 _ _ (by omega) (by omega) (by omega)]; exact g.2.1.1, by unfold b20; rw [AD.2.1 _ _ (by omega) (by omega) (by omega)]; exact g.2.1.2⟩⟩ -- o31 e3.2

