/-! m: what is asked, and what of the heap it stands on -/
def mA (a s : Int) : Prop := (a = 454 ∧ (s = 5 ∨ s = 38)) ∨ (455 ≤ a ∧ a ≤ 459) ∨ (460 ≤ a ∧ a ≤ 469 ∧ a ≠ 464 ∧ ((0 ≤ s ∧ s < 2200) ∨ (5500 ≤ s ∧ s < 6800))) ∨ (a = 464 ∧ ((0 ≤ s ∧ s < 6600) ∨ (16500 ≤ s ∧ s < 20400))) ∨ ((a = 476 ∨ a = 615) ∧ s ≠ 20 ∧ s ≠ 26 ∧ s ≠ 27) ∨ (477 ≤ a ∧ a ≤ 487) ∨ (616 ≤ a ∧ a ≤ 626) ∨ (s < 0 ∧ 476 ≤ a ∧ a ≤ 753)
def agN (h h' : AH) : Prop := ∀ a s, mA a s → h' a s = h a s
theorem agN_r (h : AH) : agN h h := fun _ _ _ => rfl
theorem agN_t {h h1 h2 : AH} (x : agN h h1) (y : agN h1 h2) : agN h h2 := fun a s z => (y a s z).trans (x a s z)
theorem fN_A {X : Int} {h h' : AH} (x : X = 476 ∨ X = 615) (f : fN X h h') : agN h h' := fun a s y => by
  unfold mA at y
  exact f a s (by omega) (by omega) (by omega) (by omega) (by omega) (by omega)
theorem f2021_A {h h' : AH} (f : f2021 h h') : agN h h' := fun a s y => by
  unfold mA at y
  exact f a s (by omega)
/-- the part of m's heap that an ask is, with no state of a search -/
def akC (h : AH) (E : EV) (Rf : Int → TR) (W : Int → Int → Int → VW) (K : AK) (tp : Int) : Prop := (isX16 (h 454 38) ∧ ownsM h E Rf ∧ wOK E Rf W ∧ E.2.2.1 = 0) ∧ (pkM h (kA K).1 (kA K).2.1 (kA K).2.2.1 (kP K) ∧ (∀ k, 0 ≤ k → k < (kA K).1 → h (h 454 38 + 1) k = kch ((kA K).2.1 k)) ∧ pcM h (kA K) ∧ dpA (kA K)) ∧ (h (h 454 38) 1 = tp ∧ (tp = 8500 ∨ tp = 8650)) ∧ mtM h (evF E K) Rf W K.2.2.2.2 (kA K).1 (kA K).2.1 K.1.2.2.1 K.1.2.2.2 (kP K) K.2.1.1 K.2.1.2 K.2.2.1.1 K.2.2.1.2.1 K.2.2.1.2.2.1 K.2.2.1.2.2.2.1 K.2.2.1.2.2.2.2 ∧ h (h 454 38) 4 = kch (kR K) ∧ (∀ a, 0 ≤ a → a ≤ 121 → h (h 454 38 + 17 + a) (-2) = 101 ∧ h (h 454 38 + 17 + a) (-1) = 256) ∧ VA E (kA K) (kP K) ∧ (0 ≤ kR K ∧ kR K ≤ 2)
def akM (h : AH) (E : EV) (Rf : Int → TR) (W : Int → Int → Int → VW) (K : AK) (tp : Int) : Prop := (∀ hh, agN h hh → akC hh E Rf W K tp) ∧ h 454 21 = -1 ∧ b20 h
theorem akM_0 {h : AH} {E : EV} {Rf : Int → TR} {W : Int → Int → Int → VW} {K : AK} {tp : Int} (a : akM h E Rf W K tp) : akC h E Rf W K tp := a.1 h (agN_r h)
theorem akM_n {h h' : AH} {E : EV} {Rf : Int → TR} {W : Int → Int → Int → VW} {K : AK} {tp : Int} (a : akM h E Rf W K tp) (g : agN h h') (w : h' 454 21 = -1 ∧ b20 h') : akM h' E Rf W K tp := ⟨fun hh y => a.1 hh (agN_t g y), w⟩
theorem akM_s {h : AH} {E : EV} {Rf : Int → TR} {W : Int → Int → Int → VW} {K : AK} {tp : Int} (a : akM h E Rf W K tp) : seM h E Rf W (kA K) (kP K) tp := by
  have c := akM_0 a
  exact ⟨c.1, a.2, c.2.1, c.2.2.1⟩
/-- what m's table stands on -/
def tA (a s : Int) : Prop := (a = 454 ∧ s = 38) ∨ ((a = 476 ∨ a = 615) ∧ (s = 18 ∨ s = 20 ∨ s = 26 ∨ s = 27)) ∨ (488 ≤ a ∧ a ≤ 614) ∨ (627 ≤ a ∧ a ≤ 753) ∨ (460 ≤ a ∧ a ≤ 469 ∧ a ≠ 464 ∧ 8500 ≤ s ∧ s < 8800) ∨ (a = 464 ∧ 25500 ≤ s ∧ s < 26400)
def agT (h h' : AH) : Prop := ∀ a s, tA a s → h' a s = h a s
theorem agT_r (h : AH) : agT h h := fun _ _ _ => rfl
theorem agT_t {h h1 h2 : AH} (x : agT h h1) (y : agT h1 h2) : agT h h2 := fun a s z => (y a s z).trans (x a s z)
theorem f2021_T {h h' : AH} (f : f2021 h h') : agT h h' := fun a s y => by
  unfold tA at y
  exact f a s (by omega)
theorem XM_g {h h' : AH} {E : EV} {A : AD} {pts tp : Int} {T : TB} (x : XM h E A pts tp T) (tl : tp = 8500 ∨ tp = 8650) (f : agT h h') : XM h' E A pts tp T := by
  obtain ⟨x1, ⟨t1, t2, t3, t4, t6, t7, t8⟩, x3, x4⟩ := x
  have xx : h 454 38 = 476 ∨ h 454 38 = 615 := t1
  have e : h' 454 38 = h 454 38 := f _ _ (by unfold tA; omega)
  have FX : ∀ a s, (h 454 38 + 12 ≤ a ∧ a ≤ h 454 38 + 138) → h' a s = h a s := fun a s y => f _ _ (by unfold tA; omega)
  have FN : ∀ a s, 460 ≤ a → a ≤ 469 → a ≠ 464 → 8500 ≤ s → s < 8800 → h' a s = h a s := fun a s a0 a1 a2 s0 s1 => f _ _ (by unfold tA; omega)
  have FK : ∀ s, 25500 ≤ s → s < 26400 → h' 464 s = h 464 s := fun s s0 s1 => f _ _ (by unfold tA; omega)
  refine ⟨x1, ⟨by rw [e]; exact t1, by rw [e, f _ _ (by unfold tA; omega)]; exact t2, t3, t4, t6, t7, fun a a0 a1 => ?_⟩, ?_, fun a a0 a1 => ?_⟩
  · obtain ⟨c1, c2, c3, c4⟩ := t8 a a0 a1
    rw [e]
    refine ⟨?_, ?_, ?_, fun p p0 p1 => ?_⟩
    · rw [FX _ _ (by omega)]; exact c1
    · rw [FX _ _ (by omega)]; exact c2
    · rw [FX _ _ (by omega)]; exact c3
    · rw [FX _ _ (by omega)]; exact c4 p p0 p1
  · unfold hsN
    rw [e]
    intro a a0 a1
    rw [FX _ _ (by omega)]
    exact x3 a a0 a1
  · obtain ⟨c1, c2, c3, c4⟩ := x4 a a0 a1
    exact ⟨c1, c2, by rw [FN _ _ (by decide) (by decide) (by decide) (by omega) (by omega)]; exact c3, ndC_f (fun b b0 b1 b2 => FN _ _ b0 b1 b2 (by omega) (by omega)) (fun s s0 s1 => FK _ (by omega) (by omega)) c4⟩
theorem GSm_g {h h' : AH} {E : EV} {W : Int → Int → Int → VW} {A : AD} {pts tp : Int} {d : Nat} {fl : Int} (g : GSm h E W A pts tp d fl) (tl : tp = 8500 ∨ tp = 8650) (f : agT h h') : GSm h' E W A pts tp d fl := by
  obtain ⟨g1, g2, g3, T, x1, x2, x3⟩ := g
  have xx : h 454 38 = 476 ∨ h 454 38 = 615 := x1.2.1.1
  have e : h' 454 38 = h 454 38 := f _ _ (by unfold tA; omega)
  exact ⟨g1, by rw [e, f _ _ (by unfold tA; omega)]; exact g2, by rw [e, f _ _ (by unfold tA; omega)]; exact g3, T, XM_g x1 tl f, by rw [e, f _ _ (by unfold tA; omega)]; exact x2, x3⟩
theorem eQ_lev {E : EV} {W : Int → Int → Int → VW} {pts : Int} {A : AD} {T0 : TB} {q : Int} : eQ T0 q (levT E W pts A T0 q) := eQ_F (fun _ _ e => eQ_Q e) eQ_l1 _
theorem LV_wt {E : EV} {W : Int → Int → Int → VW} {pts : Int} {A : AD} {p : Nat} : ∀ e : Nat, p ≤ e → ∀ a, (LV E W pts A p).1 ≤ a → a < (LV E W pts A e).1 → (p : Int) < (LV E W pts A e).2.2.1 a
  | 0, l, a, a0, a1 => by rw [show p = 0 by omega] at a0; omega
  | e + 1, l, a, a0, a1 => by
    by_cases y : p = e + 1
    · rw [y] at a0; omega
    · have q : eQ (LV E W pts A e) ((e : Int) + 1) (LV E W pts A (e + 1)) := eQ_lev
      have l0 := LV_0 (E := E) (W := W) (pts := pts) (A := A) p
      by_cases z : a < (LV E W pts A e).1
      · rw [(q.1.2 a (by omega) z).2.1]
        exact LV_wt e (by omega) a a0 z
      · rw [q.2 a (by omega) a1]
        omega
/-- m's table, more than the terms up to a price -/
def MT (h : AH) (E : EV) (W : Int → Int → Int → VW) (K : AK) (tp : Int) (p : Nat) (T : TB) : Prop := XM h E (kA K) (kP K) tp T ∧ h (h 454 38) 20 = T.1 ∧ extT (LV E W (kP K) (kA K) p) T ∧ (∀ a, (LV E W (kP K) (kA K) p).1 ≤ a → a < T.1 → (p : Int) < T.2.2.1 a) ∧ (LV E W (kP K) (kA K) p).1 ≤ 120 ∧ tyV (kP K) (LV E W (kP K) (kA K) p) ∧ GT E W (kP K) (kA K) p (LV E W (kP K) (kA K) p) ∧ soT T
theorem MT_g {h h' : AH} {E : EV} {W : Int → Int → Int → VW} {K : AK} {tp : Int} {p : Nat} {T : TB} (x : MT h E W K tp p T) (tl : tp = 8500 ∨ tp = 8650) (f : agT h h') : MT h' E W K tp p T := by
  obtain ⟨x1, x2, x3⟩ := x
  have xx : h 454 38 = 476 ∨ h 454 38 = 615 := x1.2.1.1
  have e : h' 454 38 = h 454 38 := f _ _ (by unfold tA; omega)
  exact ⟨XM_g x1 tl f, by rw [e, f _ _ (by unfold tA; omega)]; exact x2, x3⟩
theorem GSm_T {h : AH} {E : EV} {Rf : Int → TR} {W : Int → Int → Int → VW} {K : AK} {tp : Int} {e p : Nat} {f : Int} (ak : akC h E Rf W K tp) (g : GSm h E W (kA K) (kP K) tp e f) (pe : p ≤ e) : ∃ T, MT h E W K tp p T := by
  obtain ⟨g1, g2, g3, T, t1, t2, t3, t4, t5⟩ := g
  have A1 := ak.2.1.1.2.2.1
  have VAk := ak.2.2.2.2.2.2.1
  have GTp := GT_LV (E := E) (W := W) (pts := kP K) (A := kA K) (ppA_V VAk) (by omega) ak.2.1.2.2.1.2.1 (eoA_V ak.1.2.1.2.1 VAk) p (fun m lt => g1.1 m (by omega))
  have l0 := LV_0 (E := E) (W := W) (pts := kP K) (A := kA K) p
  refine ⟨T, t1, t2, extT_t (ext_LV (E := E) (W := W) (pts := kP K) (A := kA K) (a := p) e pe) t3.1, fun a a0 a1 => ?_, g1.1 p pe, tyV_GT ak.1.2.1.2.1 (wOK_ty ak.1.2.2.1) VAk GTp, GTp, t5⟩
  by_cases y : a < (LV E W (kP K) (kA K) e).1
  · rw [(t3.1.2 a (by omega) y).2.1]
    exact LV_wt e pe a a0 y
  · rw [t3.2 a (by omega) a1]
    omega
/-- m: an ask, and its search -/
def asM (h : AH) (E : EV) (Rf : Int → TR) (W : Int → Int → Int → VW) (K : AK) (tp : Int) : Prop := akM h E Rf W K tp ∧ ∃ (d : Nat) (f : Int), GSm h E W (kA K) (kP K) tp d f
theorem asM_g {h h' : AH} {E : EV} {Rf : Int → TR} {W : Int → Int → Int → VW} {K : AK} {tp : Int} (a : asM h E Rf W K tp) (g : agN h h') (t : agT h h') (w : h' 454 21 = -1 ∧ b20 h') : asM h' E Rf W K tp := by
  obtain ⟨a1, d, f, a2⟩ := a
  exact ⟨akM_n a1 g w, d, f, GSm_g a2 (akM_0 a1).2.2.1.2 t⟩
def fO (h h' : AH) : Prop := ∀ a s, ¬ (a = 454 ∧ (s = 17 ∨ s = 20 ∨ s = 21 ∨ s = 22 ∨ s = 40 ∨ s = 51)) → ¬ (460 ≤ a ∧ a ≤ 469 ∧ a ≠ 464 ∧ 8500 ≤ s ∧ s < 8800) → ¬ (a = 464 ∧ 25500 ≤ s ∧ s < 26400) → ¬ (a = 754 ∧ 0 ≤ s) → ¬ (476 ≤ a ∧ a ≤ 753 ∧ 0 ≤ s) → h' a s = h a s
theorem fO_r (h : AH) : fO h h := fun _ _ _ _ _ _ _ => rfl
theorem fO_t {h h1 h2 : AH} (x : fO h h1) (y : fO h1 h2) : fO h h2 := fun a s z1 z2 z3 z4 z5 => (y a s z1 z2 z3 z4 z5).trans (x a s z1 z2 z3 z4 z5)
theorem fN_O {X : Int} {h h' : AH} (x : X = 476 ∨ X = 615) (f : fN X h h') : fO h h' := fun a s y1 y2 y3 y4 y5 => f a s (by omega) y2 y3 y4 (by omega) (by omega)
theorem f2021_O {h h' : AH} (f : f2021 h h') : fO h h' := fun a s y1 _ _ _ _ => f a s (by omega)
theorem vX14_refusal (a1 : Int) {h : AH} {E : EV} {Rf : Int → TR} {W : Int → Int → Int → VW} {K : AK} {tp : Int} (hd : h 454 54 = 0 ∨ h 454 54 = 1) (ak : ¬ h 454 38 = 0 → asM h E Rf W K tp) : OK (gX14_refusal a1 h) (fun r => jt2 r fun v h' => (rfs (¬ h 454 54 = 0) a1 (¬ h 454 38 = 0) (lvK E W (kP K) (kA K) a1.toNat) v) ∧ (fO h h' ∧ (¬ h 454 38 = 0 → asM h' E Rf W K tp) ∧ (v = 0 → ∃ T, MT h' E W K tp a1.toNat T))) := by
  have F1 : ∀ a s, ¬ (a = 454 ∧ s = 51) → jst h 454 51 0 a s = h a s := fun a s y => jst_o y
  have A1 : agN h (jst h 454 51 0) := fun a s y => by { unfold mA at y; exact F1 a s (by omega) }
  have T1 : agT h (jst h 454 51 0) := fun a s y => by { unfold tA at y; exact F1 a s (by omega) }
  have O1 : fO h (jst h 454 51 0) := fun a s y _ _ _ _ => F1 a s (by omega)
  have e38 : jst h 454 51 0 454 38 = h 454 38 := F1 _ _ (by omega)
  unfold gX14_refusal
  refine OK_jb2 (vX14_isDown (by (first | (exact ⟨O1, fun y => asM_g (ak y) A1 T1 ⟨by rw [F1 _ _ (by omega)]; exact (ak y).1.2.1, by unfold b20; rw [F1 _ _ (by omega)]; exact (ak y).1.2.2⟩, fun y => by omega⟩) | (first | assumption | omega | ((try dsimp only [jt2, jt3, jt4]); first | omega | (simp (disch := omega) only [jst_eq, jst_ne, jst_ni, jst_o, jI_i, jcpy_out, w32_id, jdiv_nn, jshr_k, jand_255] <;> first | done | omega | assumption)) | (intros; simp (disch := omega) only [jst_eq, jst_ne, jst_ni, jst_o, jI_i, jcpy_out, w32_id, jdiv_nn, *] <;> first | done | omega) | (intros; simp (disch := omega) only [jst_eq, jst_ne, jst_ni, jst_o, jI_i, jcpy_out, w32_id, jdiv_nn] at * <;> first | done | omega | assumption) | (intros; first | rfl | (exfalso; omega) | ((repeat' apply And.intro) <;> first | assumption | rfl | omega | trivial)))))) (fun v2 h3 r1 => ?_)
  try dsimp only [Sum.elim_inl, Sum.elim_inr, jt2, jt3, jt4, jt5, jt6, jt7, jt8] at r1
  obtain ⟨dv1, dh1⟩ := r1
  try simp (disch := omega) only [jst_eq, jst_ne, jst_ni, jI_i, jcmp_lt, jcmp_gt, w32_id, jcpy_out, Sum.elim_inl, Sum.elim_inr, jt2, jt3, jt4, jt5, jt6, jt7, jt8] at dv1
  try simp (disch := omega) only [jst_eq, jst_ne, jst_ni, jI_i, jcmp_lt, jcmp_gt, w32_id, jcpy_out, Sum.elim_inl, Sum.elim_inr, jt2, jt3, jt4, jt5, jt6, jt7, jt8] at dh1
  rw [dh1] at *
  refine OK_if (fun c1 => ?_) (fun c1 => ?_)
  · skip
    try simp (disch := omega) only [jst_eq, jst_ne, jst_ni, jI_i, jcmp_lt, jcmp_gt, w32_id, jcpy_out, Sum.elim_inl, Sum.elim_inr, jt2, jt3, jt4, jt5, jt6, jt7, jt8] at c1
    refine OK_jb (vX14_in _ _ _) (fun v6 r2 => ?_)
    try dsimp only [Sum.elim_inl, Sum.elim_inr, jt2, jt3, jt4, jt5, jt6, jt7, jt8] at r2
    have v2 := r2
    clear r2
    try simp (disch := omega) only [jst_eq, jst_ne, jst_ni, jI_i, jcmp_lt, jcmp_gt, w32_id, jcpy_out, Sum.elim_inl, Sum.elim_inr, jt2, jt3, jt4, jt5, jt6, jt7, jt8] at v2
    refine OK_if (fun c2 => ?_) (fun c2 => ?_)
    · skip
      try simp (disch := omega) only [jst_eq, jst_ne, jst_ni, jI_i, jcmp_lt, jcmp_gt, w32_id, jcpy_out, Sum.elim_inl, Sum.elim_inr, jt2, jt3, jt4, jt5, jt6, jt7, jt8] at c2
      refine OK_some ?_
      try dsimp only [Sum.elim_inl, Sum.elim_inr, jt2, jt3, jt4, jt5, jt6, jt7, jt8]
      try dsimp only [Sum.elim_inl, Sum.elim_inr, jt2, jt3, jt4, jt5, jt6, jt7, jt8]
      refine ⟨?_, ?_⟩
      · exact Or.inr (Or.inl ⟨fun y => y (by omega), by omega, rfl⟩) -- o2 e1.1
      · (first | (exact ⟨O1, fun y => asM_g (ak y) A1 T1 ⟨by rw [F1 _ _ (by omega)]; exact (ak y).1.2.1, by unfold b20; rw [F1 _ _ (by omega)]; exact (ak y).1.2.2⟩, fun y => by omega⟩) | (first | assumption | omega | ((try dsimp only [jt2, jt3, jt4]); first | omega | (simp (disch := omega) only [jst_eq, jst_ne, jst_ni, jst_o, jI_i, jcpy_out, w32_id, jdiv_nn, jshr_k, jand_255] <;> first | done | omega | assumption)) | (intros; simp (disch := omega) only [jst_eq, jst_ne, jst_ni, jst_o, jI_i, jcpy_out, w32_id, jdiv_nn, *] <;> first | done | omega) | (intros; simp (disch := omega) only [jst_eq, jst_ne, jst_ni, jst_o, jI_i, jcpy_out, w32_id, jdiv_nn] at * <;> first | done | omega | assumption) | (intros; first | rfl | (exfalso; omega) | ((repeat' apply And.intro) <;> first | assumption | rfl | omega | trivial)))) -- o3 e1.2
    · skip
      try simp (disch := omega) only [jst_eq, jst_ne, jst_ni, jI_i, jcmp_lt, jcmp_gt, w32_id, jcpy_out, Sum.elim_inl, Sum.elim_inr, jt2, jt3, jt4, jt5, jt6, jt7, jt8] at c2
      refine OK_if (fun c3 => ?_) (fun c3 => ?_)
      · skip
        try simp (disch := omega) only [jst_eq, jst_ne, jst_ni, jI_i, jcmp_lt, jcmp_gt, w32_id, jcpy_out, Sum.elim_inl, Sum.elim_inr, jt2, jt3, jt4, jt5, jt6, jt7, jt8] at c3
        refine OK_some ?_
        try dsimp only [Sum.elim_inl, Sum.elim_inr, jt2, jt3, jt4, jt5, jt6, jt7, jt8]
        try dsimp only [Sum.elim_inl, Sum.elim_inr, jt2, jt3, jt4, jt5, jt6, jt7, jt8]
        refine ⟨?_, ?_⟩
        · exact Or.inr (Or.inr (Or.inl ⟨fun y => y (by omega), by omega, fun y => y (by rw [← e38]; exact c3), rfl⟩)) -- o4 e2.1
        · (first | (exact ⟨O1, fun y => asM_g (ak y) A1 T1 ⟨by rw [F1 _ _ (by omega)]; exact (ak y).1.2.1, by unfold b20; rw [F1 _ _ (by omega)]; exact (ak y).1.2.2⟩, fun y => by omega⟩) | (first | assumption | omega | ((try dsimp only [jt2, jt3, jt4]); first | omega | (simp (disch := omega) only [jst_eq, jst_ne, jst_ni, jst_o, jI_i, jcpy_out, w32_id, jdiv_nn, jshr_k, jand_255] <;> first | done | omega | assumption)) | (intros; simp (disch := omega) only [jst_eq, jst_ne, jst_ni, jst_o, jI_i, jcpy_out, w32_id, jdiv_nn, *] <;> first | done | omega) | (intros; simp (disch := omega) only [jst_eq, jst_ne, jst_ni, jst_o, jI_i, jcpy_out, w32_id, jdiv_nn] at * <;> first | done | omega | assumption) | (intros; first | rfl | (exfalso; omega) | ((repeat' apply And.intro) <;> first | assumption | rfl | omega | trivial)))) -- o5 e2.2
      · skip
        try simp (disch := omega) only [jst_eq, jst_ne, jst_ni, jI_i, jcmp_lt, jcmp_gt, w32_id, jcpy_out, Sum.elim_inl, Sum.elim_inr, jt2, jt3, jt4, jt5, jt6, jt7, jt8] at c3
        have hn : ¬ h 454 38 = 0 := by { rw [← e38]; exact c3 }
        have AS := ak hn
        have AS1 := asM_g AS A1 T1 ⟨by rw [F1 _ _ (by omega)]; exact AS.1.2.1, by unfold b20; rw [F1 _ _ (by omega)]; exact AS.1.2.2⟩
        obtain ⟨AKx, d, f0, gs⟩ := AS1
        have p0 : 1 ≤ a1 ∧ a1 ≤ 12 := by omega
        refine OK_jb2 (vX14_reaches (E := E) (Rf := Rf) (W := W) (A := kA K) (pts := kP K) (tp := tp) (d := d) (fl := f0) _ (by exact akM_s AKx) (by exact (akM_0 AKx).2.2.2.2.2.2.1) (by omega) (by exact gs)) (fun v10 h11 r3 => ?_)
        try dsimp only [Sum.elim_inl, Sum.elim_inr, jt2, jt3, jt4, jt5, jt6, jt7, jt8] at r3
        obtain ⟨gr3, fr3, sm3⟩ := r3
        try simp (disch := omega) only [jst_eq, jst_ne, jst_ni, jI_i, jcmp_lt, jcmp_gt, w32_id, jcpy_out, Sum.elim_inl, Sum.elim_inr, jt2, jt3, jt4, jt5, jt6, jt7, jt8] at gr3
        try simp (disch := omega) only [jst_eq, jst_ne, jst_ni, jI_i, jcmp_lt, jcmp_gt, w32_id, jcpy_out, Sum.elim_inl, Sum.elim_inr, jt2, jt3, jt4, jt5, jt6, jt7, jt8] at fr3
        try simp (disch := omega) only [jst_eq, jst_ne, jst_ni, jI_i, jcmp_lt, jcmp_gt, w32_id, jcpy_out, Sum.elim_inl, Sum.elim_inr, jt2, jt3, jt4, jt5, jt6, jt7, jt8] at sm3
        obtain ⟨e, f1, r1, r2, r3⟩ := gr3
        have X0 : jst h 454 51 0 454 38 = 476 ∨ jst h 454 51 0 454 38 = 615 := (akM_0 AKx).1.1
        have AK8 := akM_n AKx (fN_A X0 fr3) sm3.2.1
        have O8 := fO_t O1 (fN_O X0 fr3)
        have ep : ((a1.toNat : Nat) : Int) = a1 := by omega
        rw [← ep] at r1
        have LV8 := rch_lv r2.1 r1
        refine OK_if (fun c4 => ?_) (fun c4 => ?_)
        · skip
          try simp (disch := omega) only [jst_eq, jst_ne, jst_ni, jI_i, jcmp_lt, jcmp_gt, w32_id, jcpy_out, Sum.elim_inl, Sum.elim_inr, jt2, jt3, jt4, jt5, jt6, jt7, jt8] at c4
          refine OK_some ?_
          try dsimp only [Sum.elim_inl, Sum.elim_inr, jt2, jt3, jt4, jt5, jt6, jt7, jt8]
          try dsimp only [Sum.elim_inl, Sum.elim_inr, jt2, jt3, jt4, jt5, jt6, jt7, jt8]
          refine ⟨?_, ?_⟩
          · exact Or.inr (Or.inr (Or.inr (Or.inl ⟨fun y => y (by omega), p0, hn, fun y => by have := LV8.2 y; omega, rfl⟩))) -- o10 e3.1
          · exact ⟨O8, fun _ => ⟨AK8, e, f1, r2⟩, fun y => by omega⟩ -- o11 e3.2
        · skip
          try simp (disch := omega) only [jst_eq, jst_ne, jst_ni, jI_i, jcmp_lt, jcmp_gt, w32_id, jcpy_out, Sum.elim_inl, Sum.elim_inr, jt2, jt3, jt4, jt5, jt6, jt7, jt8] at c4
          refine OK_some ?_
          try dsimp only [Sum.elim_inl, Sum.elim_inr, jt2, jt3, jt4, jt5, jt6, jt7, jt8]
          try dsimp only [Sum.elim_inl, Sum.elim_inr, jt2, jt3, jt4, jt5, jt6, jt7, jt8]
          refine ⟨?_, ?_⟩
          · exact Or.inr (Or.inr (Or.inr (Or.inr ⟨fun y => y (by omega), p0, hn, LV8.1 (by omega), rfl⟩))) -- o12 e4.1
          · exact ⟨O8, fun _ => ⟨AK8, e, f1, r2⟩, fun _ => GSm_T (akM_0 AK8) r2 (by omega)⟩ -- o13 e4.2
  · skip
    try simp (disch := omega) only [jst_eq, jst_ne, jst_ni, jI_i, jcmp_lt, jcmp_gt, w32_id, jcpy_out, Sum.elim_inl, Sum.elim_inr, jt2, jt3, jt4, jt5, jt6, jt7, jt8] at c1
    refine OK_some ?_
    try dsimp only [Sum.elim_inl, Sum.elim_inr, jt2, jt3, jt4, jt5, jt6, jt7, jt8]
    try dsimp only [Sum.elim_inl, Sum.elim_inr, jt2, jt3, jt4, jt5, jt6, jt7, jt8]
    refine ⟨?_, ?_⟩
    · exact Or.inl ⟨by omega, rfl⟩ -- o14 e5.1
    · (first | (exact ⟨O1, fun y => asM_g (ak y) A1 T1 ⟨by rw [F1 _ _ (by omega)]; exact (ak y).1.2.1, by unfold b20; rw [F1 _ _ (by omega)]; exact (ak y).1.2.2⟩, fun y => by omega⟩) | (first | assumption | omega | ((try dsimp only [jt2, jt3, jt4]); first | omega | (simp (disch := omega) only [jst_eq, jst_ne, jst_ni, jst_o, jI_i, jcpy_out, w32_id, jdiv_nn, jshr_k, jand_255] <;> first | done | omega | assumption)) | (intros; simp (disch := omega) only [jst_eq, jst_ne, jst_ni, jst_o, jI_i, jcpy_out, w32_id, jdiv_nn, *] <;> first | done | omega) | (intros; simp (disch := omega) only [jst_eq, jst_ne, jst_ni, jst_o, jI_i, jcpy_out, w32_id, jdiv_nn] at * <;> first | done | omega | assumption) | (intros; first | rfl | (exfalso; omega) | ((repeat' apply And.intro) <;> first | assumption | rfl | omega | trivial)))) -- o15 e5.2
theorem MT_at {h : AH} {E : EV} {W : Int → Int → Int → VW} {K : AK} {tp : Int} {p : Nat} {T : TB} (x : MT h E W K tp p T) {a : Int} (a0 : 0 ≤ a) (a1 : a < (LV E W (kP K) (kA K) p).1) : a < T.1 ∧ T.2.1 a = (LV E W (kP K) (kA K) p).2.1 a ∧ T.2.2.1 a = (LV E W (kP K) (kA K) p).2.2.1 a ∧ (∀ q, T.2.2.2.2.2 a q = QP E W K p a q) := by
  have e := x.2.2.1.2 a a0 a1
  have l := x.2.2.1.1
  exact ⟨by omega, e.1, e.2.1, fun q => by rw [e.2.2.2.2]; rfl⟩
theorem vMM (a1 : Int) {h : AH} {E : EV} {Rf : Int → TR} {W : Int → Int → Int → VW} {K : AK} {tp : Int} {p : Nat} {T : TB} (ak : akM h E Rf W K tp) (xt : MT h E W K tp p T) (a : 0 ≤ a1 ∧ a1 < (LV E W (kP K) (kA K) p).1) : OK (gX14_meets a1 h) (fun r => jt2 r fun v h' => ((v = 1 ∧ MKT E W K p a1) ∨ (v = 0 ∧ ¬ MKT E W K p a1)) ∧ MT h' E W K tp p T ∧ f2021 h h' ∧ akM h' E Rf W K tp) := by
  have c := akM_0 ak
  have ek := evF_k E K
  obtain ⟨l, k1, w1, q1⟩ := MT_at xt a.1 a.2
  have x4 := xt.1.2.2.2 a1 a.1 l
  have ty := tyV_e xt.2.2.1 xt.2.2.2.2.2.1
  have t121 := xt.1.1
  refine OK_mono (vX14_meets (E := evF E K) (Rf := Rf) (W := W) (hl := K.2.2.2.2) (n := (kA K).1) (kf := (kA K).2.1) (wh := K.1.2.2.1) (rv := K.1.2.2.2) (pts := kP K) (rn := K.2.1.1) (ra := K.2.1.2) (ln := K.2.2.1.1) (nn := K.2.2.1.2.1) (lk := K.2.2.1.2.2.1) (LL := K.2.2.1.2.2.2.1) (LR := K.2.2.1.2.2.2.2) (N := T.1) (kd := T.2.1) (wt := T.2.2.1) (nd := fun a => tp + a) (vl := T.2.2.2.2.2) a1 c.2.2.2.1 xt.1.2.1 ⟨a.1, l, x4.1, by rw [ek.2]; exact c.2.2.2.2.1, by rw [ek.2]; exact c.2.2.2.2.2.2.2⟩ (c.2.2.2.2.2.1 a1 a.1 (by omega)) (by rw [ek.2]; intro e p p0 p1; rw [← e]; exact ty a1 p a.1 a.2 p0 p1) ak.2.2) (fun r => ?_)
  obtain ⟨v, h'⟩ := r
  intro z
  obtain ⟨z1, z2, z3⟩ := z
  rw [ek.2] at z1
  refine ⟨?_, MT_g xt c.2.2.1.2 (f2021_T z2.1), z2.1, akM_n ak (f2021_A z2.1) ⟨?_, z2.2⟩⟩
  · have e := xt.2.2.1.2 a1 a.1 a.2
    unfold MKT MKa
    rw [← e.1, ← e.2.2.2.2]
    exact z1
  · rcases z3 with z | z
    · rw [z]; exact ak.2.1
    · exact z
theorem vUp (a1 : Int) {h : AH} {E : EV} {W : Int → Int → Int → VW} {K : AK} {tp : Int} {p : Nat} {T : TB} (xt : MT h E W K tp p T) (ap : a1 = p) : OK (gX14_upTo a1 h) (fun v => v = (LV E W (kP K) (kA K) p).1) := by
  refine OK_mono (vX14_upTo (N := T.1) (kd := T.2.1) (wt := T.2.2.1) (nd := fun a => tp + a) (vl := T.2.2.2.2.2) a1 xt.1.2.1 xt.2.1) (fun v z => ?_)
  obtain ⟨z1, z2, z3, z4⟩ := z
  have l0 := LV_0 (E := E) (W := W) (pts := kP K) (A := kA K) p
  have le := xt.2.2.1.1
  by_cases y : v < (LV E W (kP K) (kA K) p).1
  · have a := z4 (by omega)
    rw [(MT_at xt z1 y).2.2.1] at a
    have := (xt.2.2.2.2.2.2.1.2.1 v z1 y).2.1
    omega
  · by_cases y2 : (LV E W (kP K) (kA K) p).1 < v
    · have a := z3 _ l0 y2
      have b := xt.2.2.2.1 _ (Int.le_refl _) (by omega)
      omega
    · omega
theorem vX14_different_l17 (i1 : Int) (a30 : Int) (a40 : Int) {h0 : AH} {E : EV} {Rf : Int → TR} {W : Int → Int → Int → VW} {K : AK} {tp : Int} {p : Nat} {T : TB} (ak : akM h0 E Rf W K tp) (xt : MT h0 E W K tp p T) (ip : i1 = p) (z : a30 = 0 ∧ a40 = 0) : OK (gX14_different_l17 i1 a30 a40 h0) (fun r => jt2 r fun v h' => (v = cMt (MKT E W K p) (LV E W (kP K) (kA K) p).1.toNat) ∧ (MT h' E W K tp p T ∧ f2021 h0 h' ∧ akM h' E Rf W K tp)) := by
  unfold gX14_different_l17
  refine OK_jit (I := (fun (s : Int × Int × AH) => jt3 s fun a3 a4 h => (0 ≤ a4 ∧ a4 ≤ (LV E W (kP K) (kA K) p).1) ∧ (a3 = cMt (MKT E W K p) a4.toNat) ∧ (MT h E W K tp p T) ∧ (f2021 h0 h) ∧ (akM h E Rf W K tp))) (m := (fun (s : Int × Int × AH) => jt3 s fun a3 a4 h => ((LV E W (kP K) (kA K) p).1 - a4).toNat)) ?_ ?_
  · intro s hs
    obtain ⟨a3, a4, h⟩ := s
    dsimp only [Sum.elim_inl, Sum.elim_inr, jt2, jt3, jt4, jt5, jt6, jt7, jt8] at hs
    obtain ⟨q0, q1, xh, fr, kh⟩ := hs
    unfold gX14_different_b17
    refine OK_jt3 ?_
    have n120 := xh.2.2.2.2.1
    have cr := cMt_r (MKT E W K p) a4.toNat
    have w12 : w32 (a4 + 1) = a4 + 1 := w32_id (by omega) (by omega)
    have e3 : (a4 + 1).toNat = a4.toNat + 1 := by omega
    have c3 : ((a4.toNat : Nat) : Int) = a4 := by omega
    refine OK_jb (vUp (E := E) (W := W) (K := K) (tp := tp) (p := p) (T := T) _ (by exact xh) (by exact ip)) (fun v10 r1 => ?_)
    try dsimp only [Sum.elim_inl, Sum.elim_inr, jt2, jt3, jt4, jt5, jt6, jt7, jt8] at r1
    have ut1 := r1
    clear r1
    try simp (disch := omega) only [jst_eq, jst_ne, jst_ni, jI_i, jcmp_lt, jcmp_gt, w32_id, jcpy_out, Sum.elim_inl, Sum.elim_inr, jt2, jt3, jt4, jt5, jt6, jt7, jt8] at ut1
    refine OK_if (fun c1 => ?_) (fun c1 => ?_)
    · skip
      try simp (disch := omega) only [jst_eq, jst_ne, jst_ni, jI_i, jcmp_lt, jcmp_gt, w32_id, jcpy_out, Sum.elim_inl, Sum.elim_inr, jt2, jt3, jt4, jt5, jt6, jt7, jt8] at c1
      refine OK_ir ?_
      try dsimp only [Sum.elim_inl, Sum.elim_inr, jt2, jt3, jt4, jt5, jt6, jt7, jt8]
      refine ⟨?_, ?_⟩
      · (rw [q1, show (LV E W (kP K) (kA K) p).1.toNat = a4.toNat by omega]) -- o3 e1.1
      · exact ⟨xh, fr, kh⟩ -- o4 e1.2
    · skip
      try simp (disch := omega) only [jst_eq, jst_ne, jst_ni, jI_i, jcmp_lt, jcmp_gt, w32_id, jcpy_out, Sum.elim_inl, Sum.elim_inr, jt2, jt3, jt4, jt5, jt6, jt7, jt8] at c1
      refine OK_jb2 (vMM (E := E) (Rf := Rf) (W := W) (K := K) (tp := tp) (p := p) (T := T) _ (by exact kh) (by exact xh) (by (first | (exact f2021_tr fr fr2) | (first | assumption | omega | ((try dsimp only [jt2, jt3, jt4]); first | omega | (simp (disch := omega) only [jst_eq, jst_ne, jst_ni, jst_o, jI_i, jcpy_out, w32_id, jdiv_nn, jshr_k, jand_255] <;> first | done | omega | assumption)) | (intros; simp (disch := omega) only [jst_eq, jst_ne, jst_ni, jst_o, jI_i, jcpy_out, w32_id, jdiv_nn, *] <;> first | done | omega) | (intros; simp (disch := omega) only [jst_eq, jst_ne, jst_ni, jst_o, jI_i, jcpy_out, w32_id, jdiv_nn] at * <;> first | done | omega | assumption) | (intros; first | rfl | (exfalso; omega) | ((repeat' apply And.intro) <;> first | assumption | rfl | omega | trivial)))))) (fun v13 h14 r2 => ?_)
      try dsimp only [Sum.elim_inl, Sum.elim_inr, jt2, jt3, jt4, jt5, jt6, jt7, jt8] at r2
      obtain ⟨im2, xt2, fr2, ak2⟩ := r2
      try simp (disch := omega) only [jst_eq, jst_ne, jst_ni, jI_i, jcmp_lt, jcmp_gt, w32_id, jcpy_out, Sum.elim_inl, Sum.elim_inr, jt2, jt3, jt4, jt5, jt6, jt7, jt8] at im2
      try simp (disch := omega) only [jst_eq, jst_ne, jst_ni, jI_i, jcmp_lt, jcmp_gt, w32_id, jcpy_out, Sum.elim_inl, Sum.elim_inr, jt2, jt3, jt4, jt5, jt6, jt7, jt8] at xt2
      try simp (disch := omega) only [jst_eq, jst_ne, jst_ni, jI_i, jcmp_lt, jcmp_gt, w32_id, jcpy_out, Sum.elim_inl, Sum.elim_inr, jt2, jt3, jt4, jt5, jt6, jt7, jt8] at fr2
      try simp (disch := omega) only [jst_eq, jst_ne, jst_ni, jI_i, jcmp_lt, jcmp_gt, w32_id, jcpy_out, Sum.elim_inl, Sum.elim_inr, jt2, jt3, jt4, jt5, jt6, jt7, jt8] at ak2
      refine OK_if (fun c2 => ?_) (fun c2 => ?_)
      · skip
        try simp (disch := omega) only [jst_eq, jst_ne, jst_ni, jI_i, jcmp_lt, jcmp_gt, w32_id, jcpy_out, Sum.elim_inl, Sum.elim_inr, jt2, jt3, jt4, jt5, jt6, jt7, jt8] at c2
        have CN : a3 = cMt (MKT E W K p) (a4.toNat + 1) := by { rw [cMt_n (by rw [c3]; rcases im2 with u | u; { omega }; { exact u.2 })]; exact q1 }
        unfold gX14_different_j43_17
        refine OK_jlx (fun x16 ex16 => ?_)
        try simp (disch := omega) only [jst_eq, jst_ne, jst_ni, jI_i, jcmp_lt, jcmp_gt, w32_id, jcpy_out, Sum.elim_inl, Sum.elim_inr, jt2, jt3, jt4, jt5, jt6, jt7, jt8] at ex16
        have x16e : x16 = a4 + 1 := by omega
        refine OK_il ?_ ?_
        · try dsimp only [Sum.elim_inl, Sum.elim_inr, jt2, jt3, jt4, jt5, jt6, jt7, jt8]
          refine ⟨?_, ?_, ?_, ?_, ?_⟩
          · (first | (exact f2021_tr fr fr2) | (first | assumption | omega | ((try dsimp only [jt2, jt3, jt4]); first | omega | (simp (disch := omega) only [jst_eq, jst_ne, jst_ni, jst_o, jI_i, jcpy_out, w32_id, jdiv_nn, jshr_k, jand_255] <;> first | done | omega | assumption)) | (intros; simp (disch := omega) only [jst_eq, jst_ne, jst_ni, jst_o, jI_i, jcpy_out, w32_id, jdiv_nn, *] <;> first | done | omega) | (intros; simp (disch := omega) only [jst_eq, jst_ne, jst_ni, jst_o, jI_i, jcpy_out, w32_id, jdiv_nn] at * <;> first | done | omega | assumption) | (intros; first | rfl | (exfalso; omega) | ((repeat' apply And.intro) <;> first | assumption | rfl | omega | trivial)))) -- o8 e2i.1
          · (rw [x16e, e3, ← CN]) -- o9 e2i.2
          · (first | (exact f2021_tr fr fr2) | (first | assumption | omega | ((try dsimp only [jt2, jt3, jt4]); first | omega | (simp (disch := omega) only [jst_eq, jst_ne, jst_ni, jst_o, jI_i, jcpy_out, w32_id, jdiv_nn, jshr_k, jand_255] <;> first | done | omega | assumption)) | (intros; simp (disch := omega) only [jst_eq, jst_ne, jst_ni, jst_o, jI_i, jcpy_out, w32_id, jdiv_nn, *] <;> first | done | omega) | (intros; simp (disch := omega) only [jst_eq, jst_ne, jst_ni, jst_o, jI_i, jcpy_out, w32_id, jdiv_nn] at * <;> first | done | omega | assumption) | (intros; first | rfl | (exfalso; omega) | ((repeat' apply And.intro) <;> first | assumption | rfl | omega | trivial)))) -- o10 e2i.3
          · (first | (exact f2021_tr fr fr2) | (first | assumption | omega | ((try dsimp only [jt2, jt3, jt4]); first | omega | (simp (disch := omega) only [jst_eq, jst_ne, jst_ni, jst_o, jI_i, jcpy_out, w32_id, jdiv_nn, jshr_k, jand_255] <;> first | done | omega | assumption)) | (intros; simp (disch := omega) only [jst_eq, jst_ne, jst_ni, jst_o, jI_i, jcpy_out, w32_id, jdiv_nn, *] <;> first | done | omega) | (intros; simp (disch := omega) only [jst_eq, jst_ne, jst_ni, jst_o, jI_i, jcpy_out, w32_id, jdiv_nn] at * <;> first | done | omega | assumption) | (intros; first | rfl | (exfalso; omega) | ((repeat' apply And.intro) <;> first | assumption | rfl | omega | trivial)))) -- o11 e2i.4
          · (first | (exact f2021_tr fr fr2) | (first | assumption | omega | ((try dsimp only [jt2, jt3, jt4]); first | omega | (simp (disch := omega) only [jst_eq, jst_ne, jst_ni, jst_o, jI_i, jcpy_out, w32_id, jdiv_nn, jshr_k, jand_255] <;> first | done | omega | assumption)) | (intros; simp (disch := omega) only [jst_eq, jst_ne, jst_ni, jst_o, jI_i, jcpy_out, w32_id, jdiv_nn, *] <;> first | done | omega) | (intros; simp (disch := omega) only [jst_eq, jst_ne, jst_ni, jst_o, jI_i, jcpy_out, w32_id, jdiv_nn] at * <;> first | done | omega | assumption) | (intros; first | rfl | (exfalso; omega) | ((repeat' apply And.intro) <;> first | assumption | rfl | omega | trivial)))) -- o12 e2i.5
        · (first | (exact f2021_tr fr fr2) | (first | assumption | omega | ((try dsimp only [jt2, jt3, jt4]); first | omega | (simp (disch := omega) only [jst_eq, jst_ne, jst_ni, jst_o, jI_i, jcpy_out, w32_id, jdiv_nn, jshr_k, jand_255] <;> first | done | omega | assumption)) | (intros; simp (disch := omega) only [jst_eq, jst_ne, jst_ni, jst_o, jI_i, jcpy_out, w32_id, jdiv_nn, *] <;> first | done | omega) | (intros; simp (disch := omega) only [jst_eq, jst_ne, jst_ni, jst_o, jI_i, jcpy_out, w32_id, jdiv_nn] at * <;> first | done | omega | assumption) | (intros; first | rfl | (exfalso; omega) | ((repeat' apply And.intro) <;> first | assumption | rfl | omega | trivial)))) -- o13 e2m
      · skip
        try simp (disch := omega) only [jst_eq, jst_ne, jst_ni, jI_i, jcmp_lt, jcmp_gt, w32_id, jcpy_out, Sum.elim_inl, Sum.elim_inr, jt2, jt3, jt4, jt5, jt6, jt7, jt8] at c2
        have CN : a3 + 1 = cMt (MKT E W K p) (a4.toNat + 1) := by { rw [cMt_y (by rw [c3]; rcases im2 with u | u; { exact u.2 }; { omega })]; omega }
        have x10w := w32_id (x := a3 + 1) (by omega) (by omega)
        unfold gX14_different_j43_17
        refine OK_jlx (fun x16 ex16 => ?_)
        try simp (disch := omega) only [jst_eq, jst_ne, jst_ni, jI_i, jcmp_lt, jcmp_gt, w32_id, jcpy_out, Sum.elim_inl, Sum.elim_inr, jt2, jt3, jt4, jt5, jt6, jt7, jt8] at ex16
        have x16e : x16 = a4 + 1 := by omega
        refine OK_il ?_ ?_
        · try dsimp only [Sum.elim_inl, Sum.elim_inr, jt2, jt3, jt4, jt5, jt6, jt7, jt8]
          refine ⟨?_, ?_, ?_, ?_, ?_⟩
          · (first | (exact f2021_tr fr fr2) | (first | assumption | omega | ((try dsimp only [jt2, jt3, jt4]); first | omega | (simp (disch := omega) only [jst_eq, jst_ne, jst_ni, jst_o, jI_i, jcpy_out, w32_id, jdiv_nn, jshr_k, jand_255] <;> first | done | omega | assumption)) | (intros; simp (disch := omega) only [jst_eq, jst_ne, jst_ni, jst_o, jI_i, jcpy_out, w32_id, jdiv_nn, *] <;> first | done | omega) | (intros; simp (disch := omega) only [jst_eq, jst_ne, jst_ni, jst_o, jI_i, jcpy_out, w32_id, jdiv_nn] at * <;> first | done | omega | assumption) | (intros; first | rfl | (exfalso; omega) | ((repeat' apply And.intro) <;> first | assumption | rfl | omega | trivial)))) -- o14 e3i.1
          · (rw [x16e, e3, ← CN]; omega) -- o15 e3i.2
          · (first | (exact f2021_tr fr fr2) | (first | assumption | omega | ((try dsimp only [jt2, jt3, jt4]); first | omega | (simp (disch := omega) only [jst_eq, jst_ne, jst_ni, jst_o, jI_i, jcpy_out, w32_id, jdiv_nn, jshr_k, jand_255] <;> first | done | omega | assumption)) | (intros; simp (disch := omega) only [jst_eq, jst_ne, jst_ni, jst_o, jI_i, jcpy_out, w32_id, jdiv_nn, *] <;> first | done | omega) | (intros; simp (disch := omega) only [jst_eq, jst_ne, jst_ni, jst_o, jI_i, jcpy_out, w32_id, jdiv_nn] at * <;> first | done | omega | assumption) | (intros; first | rfl | (exfalso; omega) | ((repeat' apply And.intro) <;> first | assumption | rfl | omega | trivial)))) -- o16 e3i.3
          · (first | (exact f2021_tr fr fr2) | (first | assumption | omega | ((try dsimp only [jt2, jt3, jt4]); first | omega | (simp (disch := omega) only [jst_eq, jst_ne, jst_ni, jst_o, jI_i, jcpy_out, w32_id, jdiv_nn, jshr_k, jand_255] <;> first | done | omega | assumption)) | (intros; simp (disch := omega) only [jst_eq, jst_ne, jst_ni, jst_o, jI_i, jcpy_out, w32_id, jdiv_nn, *] <;> first | done | omega) | (intros; simp (disch := omega) only [jst_eq, jst_ne, jst_ni, jst_o, jI_i, jcpy_out, w32_id, jdiv_nn] at * <;> first | done | omega | assumption) | (intros; first | rfl | (exfalso; omega) | ((repeat' apply And.intro) <;> first | assumption | rfl | omega | trivial)))) -- o17 e3i.4
          · (first | (exact f2021_tr fr fr2) | (first | assumption | omega | ((try dsimp only [jt2, jt3, jt4]); first | omega | (simp (disch := omega) only [jst_eq, jst_ne, jst_ni, jst_o, jI_i, jcpy_out, w32_id, jdiv_nn, jshr_k, jand_255] <;> first | done | omega | assumption)) | (intros; simp (disch := omega) only [jst_eq, jst_ne, jst_ni, jst_o, jI_i, jcpy_out, w32_id, jdiv_nn, *] <;> first | done | omega) | (intros; simp (disch := omega) only [jst_eq, jst_ne, jst_ni, jst_o, jI_i, jcpy_out, w32_id, jdiv_nn] at * <;> first | done | omega | assumption) | (intros; first | rfl | (exfalso; omega) | ((repeat' apply And.intro) <;> first | assumption | rfl | omega | trivial)))) -- o18 e3i.5
        · (first | (exact f2021_tr fr fr2) | (first | assumption | omega | ((try dsimp only [jt2, jt3, jt4]); first | omega | (simp (disch := omega) only [jst_eq, jst_ne, jst_ni, jst_o, jI_i, jcpy_out, w32_id, jdiv_nn, jshr_k, jand_255] <;> first | done | omega | assumption)) | (intros; simp (disch := omega) only [jst_eq, jst_ne, jst_ni, jst_o, jI_i, jcpy_out, w32_id, jdiv_nn, *] <;> first | done | omega) | (intros; simp (disch := omega) only [jst_eq, jst_ne, jst_ni, jst_o, jI_i, jcpy_out, w32_id, jdiv_nn] at * <;> first | done | omega | assumption) | (intros; first | rfl | (exfalso; omega) | ((repeat' apply And.intro) <;> first | assumption | rfl | omega | trivial)))) -- o19 e3m
  · try dsimp only [Sum.elim_inl, Sum.elim_inr, jt2, jt3, jt4, jt5, jt6, jt7, jt8]
    refine ⟨?_, ?_, ?_, ?_, ?_⟩
    · (have l := LV_0 (E := E) (W := W) (pts := kP K) (A := kA K) p; omega) -- o20 init.1
    · (rw [z.1, z.2]; rfl) -- o21 init.2
    · exact xt -- o22 init.3
    · exact fun _ _ _ => rfl -- o23 init.4
    · exact ak -- o24 init.5
theorem asM_x {h h' : AH} {E : EV} {Rf : Int → TR} {W : Int → Int → Int → VW} {K : AK} {tp : Int} (a : asM h E Rf W K tp) (f : f2021 h h') (k : akM h' E Rf W K tp) : asM h' E Rf W K tp := by
  obtain ⟨a1, d, g, a2⟩ := a
  exact ⟨k, d, g, GSm_g a2 (akM_0 a1).2.2.1.2 (f2021_T f)⟩
/-- the answer of an op that looks at the levels up to a price -/
def ansQ (E : EV) (W : Int → Int → Int → VW) (K : AK) (down has : Prop) (a : Int) (g : Nat → Int) (v : Int) : Prop := ∃ r, rfs down a has (lvK E W (kP K) (kA K) a.toNat) r ∧ v = if 0 ≤ r then g a.toNat else r
theorem ansQ_det {E : EV} {W : Int → Int → Int → VW} {K : AK} {down has : Prop} {a : Int} {g : Nat → Int} {v v' : Int} (x : ansQ E W K down has a g v) (y : ansQ E W K down has a g v') : v = v' := by
  obtain ⟨r, r1, r2⟩ := x
  obtain ⟨s, s1, s2⟩ := y
  rw [r2, s2, rfs_det r1 s1]
theorem vX14_different (a1 : Int) {h : AH} {E : EV} {Rf : Int → TR} {W : Int → Int → Int → VW} {K : AK} {tp : Int} (hd : h 454 54 = 0 ∨ h 454 54 = 1) (ak : ¬ h 454 38 = 0 → asM h E Rf W K tp) : OK (gX14_different a1 h) (fun r => jt2 r fun v h' => (ansQ E W K (¬ h 454 54 = 0) (¬ h 454 38 = 0) a1 (fun p => cMt (MKT E W K p) (LV E W (kP K) (kA K) p).1.toNat) v) ∧ (fO h h' ∧ (¬ h 454 38 = 0 → asM h' E Rf W K tp))) := by
  unfold gX14_different
  refine OK_jb2 (vX14_refusal (E := E) (Rf := Rf) (W := W) (K := K) (tp := tp) _ (by (first | assumption | omega | ((try dsimp only [jt2, jt3, jt4]); first | omega | (simp (disch := omega) only [jst_eq, jst_ne, jst_ni, jst_o, jI_i, jcpy_out, w32_id, jdiv_nn, jshr_k, jand_255] <;> first | done | omega | assumption)) | (intros; simp (disch := omega) only [jst_eq, jst_ne, jst_ni, jst_o, jI_i, jcpy_out, w32_id, jdiv_nn, *] <;> first | done | omega) | (intros; simp (disch := omega) only [jst_eq, jst_ne, jst_ni, jst_o, jI_i, jcpy_out, w32_id, jdiv_nn] at * <;> first | done | omega | assumption) | (intros; first | rfl | (exfalso; omega) | ((repeat' apply And.intro) <;> first | assumption | rfl | omega | trivial)))) (by exact ak)) (fun v2 h3 r1 => ?_)
  try dsimp only [Sum.elim_inl, Sum.elim_inr, jt2, jt3, jt4, jt5, jt6, jt7, jt8] at r1
  obtain ⟨rf1, st1⟩ := r1
  try simp (disch := omega) only [jst_eq, jst_ne, jst_ni, jI_i, jcmp_lt, jcmp_gt, w32_id, jcpy_out, Sum.elim_inl, Sum.elim_inr, jt2, jt3, jt4, jt5, jt6, jt7, jt8] at rf1
  try simp (disch := omega) only [jst_eq, jst_ne, jst_ni, jI_i, jcmp_lt, jcmp_gt, w32_id, jcpy_out, Sum.elim_inl, Sum.elim_inr, jt2, jt3, jt4, jt5, jt6, jt7, jt8] at st1
  refine OK_if (fun c1 => ?_) (fun c1 => ?_)
  · skip
    try simp (disch := omega) only [jst_eq, jst_ne, jst_ni, jI_i, jcmp_lt, jcmp_gt, w32_id, jcpy_out, Sum.elim_inl, Sum.elim_inr, jt2, jt3, jt4, jt5, jt6, jt7, jt8] at c1
    have v0 : v2 = 0 := by { rcases rf1 with u | u | u | u | u; { omega }; { omega }; { omega }; { omega }; { exact u.2.2.2.2 } }
    have p0 : 1 ≤ a1 ∧ a1 ≤ 12 := by { rcases rf1 with u | u | u | u | u; { omega }; { omega }; { omega }; { omega }; { exact u.2.1 } }
    have hn : ¬ h 454 38 = 0 := by { rcases rf1 with u | u | u | u | u; { omega }; { omega }; { omega }; { omega }; { exact u.2.2.1 } }
    have AS := st1.2.1 hn
    obtain ⟨T, mt⟩ := st1.2.2 v0
    refine OK_jb (vX14_different_l17 (E := E) (Rf := Rf) (W := W) (K := K) (tp := tp) (p := a1.toNat) (T := T) _ _ _ (by exact AS.1) (by exact mt) (by omega) (by (first | assumption | omega | ((try dsimp only [jt2, jt3, jt4]); first | omega | (simp (disch := omega) only [jst_eq, jst_ne, jst_ni, jst_o, jI_i, jcpy_out, w32_id, jdiv_nn, jshr_k, jand_255] <;> first | done | omega | assumption)) | (intros; simp (disch := omega) only [jst_eq, jst_ne, jst_ni, jst_o, jI_i, jcpy_out, w32_id, jdiv_nn, *] <;> first | done | omega) | (intros; simp (disch := omega) only [jst_eq, jst_ne, jst_ni, jst_o, jI_i, jcpy_out, w32_id, jdiv_nn] at * <;> first | done | omega | assumption) | (intros; first | rfl | (exfalso; omega) | ((repeat' apply And.intro) <;> first | assumption | rfl | omega | trivial))))) (fun o5 r2 => ?_)
    obtain ⟨y7, h8⟩ := o5
    refine OK_jt2 ?_
    try dsimp only [Sum.elim_inl, Sum.elim_inr, jt2, jt3, jt4, jt5, jt6, jt7, jt8] at r2
    obtain ⟨cc2, fs2⟩ := r2
    try simp (disch := omega) only [jst_eq, jst_ne, jst_ni, jI_i, jcmp_lt, jcmp_gt, w32_id, jcpy_out, Sum.elim_inl, Sum.elim_inr, jt2, jt3, jt4, jt5, jt6, jt7, jt8] at cc2
    try simp (disch := omega) only [jst_eq, jst_ne, jst_ni, jI_i, jcmp_lt, jcmp_gt, w32_id, jcpy_out, Sum.elim_inl, Sum.elim_inr, jt2, jt3, jt4, jt5, jt6, jt7, jt8] at fs2
    refine OK_some ?_
    try dsimp only [Sum.elim_inl, Sum.elim_inr, jt2, jt3, jt4, jt5, jt6, jt7, jt8]
    try dsimp only [Sum.elim_inl, Sum.elim_inr, jt2, jt3, jt4, jt5, jt6, jt7, jt8]
    refine ⟨?_, ?_⟩
    · exact ⟨v2, rf1, by rw [if_pos (by omega)]; exact cc2⟩ -- o7 e1.1
    · exact ⟨fO_t st1.1 (f2021_O fs2.2.1), fun _ => asM_x AS fs2.2.1 fs2.2.2⟩ -- o8 e1.2
  · skip
    try simp (disch := omega) only [jst_eq, jst_ne, jst_ni, jI_i, jcmp_lt, jcmp_gt, w32_id, jcpy_out, Sum.elim_inl, Sum.elim_inr, jt2, jt3, jt4, jt5, jt6, jt7, jt8] at c1
    refine OK_some ?_
    try dsimp only [Sum.elim_inl, Sum.elim_inr, jt2, jt3, jt4, jt5, jt6, jt7, jt8]
    try dsimp only [Sum.elim_inl, Sum.elim_inr, jt2, jt3, jt4, jt5, jt6, jt7, jt8]
    refine ⟨?_, ?_⟩
    · exact ⟨v2, rf1, by rw [if_neg (by omega)]⟩ -- o9 e2.1
    · exact ⟨st1.1, st1.2.1⟩ -- o10 e2.2

