/-! m: a sketch, from the tape -/
theorem fl_fl {hl hl' : Int → Int} : ∀ R : TR, flT hl' (flT hl R) = flT hl R
  | .leaf i => by
    show (Lean.RArray.leaf (flI hl' (flI hl i)) : TR) = Lean.RArray.leaf (flI hl i)
    congr 1
    by_cases y : i.1 = 3
    · have e : flI hl i = (1, hl i.2.1, i.2.2.1, 0) := if_pos y
      rw [e]; exact if_neg (show ¬ (1 : Int) = 3 by decide)
    · have e : flI hl i = (i.1, i.2.1, i.2.2.1, 0) := if_neg y
      rw [e]; exact if_neg y
  | .branch b s r => by
    show Lean.RArray.branch b (flT hl' (flT hl s)) (flT hl' (flT hl r)) = Lean.RArray.branch b (flT hl s) (flT hl r)
    rw [fl_fl s, fl_fl r]
/-- a told term, its holes filled, is a term of the ask -/
theorem fl_okR {E : EV} {A : AD} {hl : Int → Int} {R : TR} (ac : acE E) (l0 : E.2.2.1 ≠ 1) (A3 : A.1 ≤ 3) (hr : ∀ c, 0 ≤ c → c ≤ 2 → 0 ≤ hl c ∧ hl c ≤ 15) {n : Int} (hc : hcT n R) (nv : nvT R) (n3 : n ≤ 3) (ty : tyT E A.1 A.2.1 R 0) : okR E A (inf (flT hl R)).2.2.1 (flT hl R) := by
  have t := ty_fl hr (Int.le_refl _) ty
  exact ⟨⟨t, rfl⟩, ty_ok ac A3 l0 (Int.le_refl _) t (fl_nv (fun c c0 c1 => (hr c c0 (by omega)).1) hc nv), fl_nh R, tyT_ns l0 t, fun _ => fl_fl R, ty_cg l0 t (fl_nh R)⟩
/-- a soft term's build -/
theorem cGS_M {h : AH} : ∀ {R : TR} {d j p : Int}, cG lfS h R d j p → ∃ R' : TR, resM h R' d j ∧ sz R' = sz R ∧ dpT R' = dpT R
  | .leaf i, d, j, p, c => by
    obtain ⟨f1, f2, f3, f4, f5, f6, f7, f8, f9, f10, f11, f12, f13⟩ := (c : lfS h d j i)
    by_cases y : i.1 = 3
    · exact ⟨.leaf (1, h 462 d, i.2.2.1, 0), ⟨f1, f2, f3, f4, f5, fun z => absurd z (show ¬ (1 : Int) = 0 by decide), fun _ => ⟨(f10 y).1, rfl⟩, fun z => absurd z (show ¬ (1 : Int) = 2 by decide), fun z => absurd z (show ¬ (1 : Int) = 4 by decide), fun z => absurd z (show ¬ (1 : Int) = 3 by decide), (show (0 : Int) ≤ 1 by decide), (show (1 : Int) ≤ 4 by decide)⟩, rfl, rfl⟩
    · exact ⟨.leaf i, ⟨f1, f2, f3, f4, f5, f6, f7, f8, f9, fun z => absurd z y, f12, f13⟩, rfl, rfl⟩
  | .branch b s r, d, j, p, c => by
    obtain ⟨c1, c2, c3, c4, c5⟩ := c
    obtain ⟨s', s1, s2, s3⟩ := cGS_M c4
    obtain ⟨r', r1, r2, r3⟩ := cGS_M c5
    exact ⟨.branch b s' r', ⟨c2, by rw [c3]; exact s1, r1⟩, by show sz s' + sz r' = sz s + sz r; omega, by show max (dpT s' + 1) (dpT r') = max (dpT s + 1) (dpT r); omega⟩
theorem vX14_isMuch (a1 : Int) {h : AH} (b : 0 ≤ h 454 71 ∧ h 454 71 ≤ 1000000000 ∧ 0 ≤ a1 ∧ a1 ≤ 1000000000000) : OK (gX14_isMuch a1 h) (fun r => jt2 r fun v h' => (v = 1 ∧ 1000000000 < h 454 71 + a1 ∧ h' = h) ∨ (v = 0 ∧ h 454 71 + a1 ≤ 1000000000 ∧ h' = jst h 454 71 (h 454 71 + a1))) := by
  have e : w64 (h 454 71 + a1) = h 454 71 + a1 := w64_id (by omega) (by omega)
  unfold gX14_isMuch
  refine OK_if (fun c1 => ?_) (fun c1 => ?_)
  · skip
    try simp (disch := omega) only [jst_eq, jst_ne, jst_ni, jI_i, jcmp_lt, jcmp_gt, w32_id, jcpy_out, Sum.elim_inl, Sum.elim_inr, jt2, jt3, jt4, jt5, jt6, jt7, jt8] at c1
    rw [jcmp_le, e] at c1
    refine OK_jl ?_
    refine OK_some ?_
    try dsimp only [Sum.elim_inl, Sum.elim_inr, jt2, jt3, jt4, jt5, jt6, jt7, jt8]
    exact .inr ⟨rfl, by omega, by rw [e]⟩ -- o1 e1
  · skip
    try simp (disch := omega) only [jst_eq, jst_ne, jst_ni, jI_i, jcmp_lt, jcmp_gt, w32_id, jcpy_out, Sum.elim_inl, Sum.elim_inr, jt2, jt3, jt4, jt5, jt6, jt7, jt8] at c1
    rw [jcmp_le, e] at c1
    refine OK_some ?_
    try dsimp only [Sum.elim_inl, Sum.elim_inr, jt2, jt3, jt4, jt5, jt6, jt7, jt8]
    exact .inl ⟨rfl, by omega, rfl⟩ -- o2 e2
theorem fSm_r {h h' : AH} (f : fSm h h') : fMr h h' := fun a s y1 y2 y3 y4 y5 y6 y7 y8 y9 y10 => f a s (by omega) (by omega) (by omega)
theorem fMr_t {h h1 h2 : AH} (x : fMr h h1) (y : fMr h1 h2) : fMr h h2 := fun a s z1 z2 z3 z4 z5 z6 z7 z8 z9 z10 => (y a s z1 z2 z3 z4 z5 z6 z7 z8 z9 z10).trans (x a s z1 z2 z3 z4 z5 z6 z7 z8 z9 z10)
theorem fMr_q {h h1 h2 : AH} (x : fMr h h1) (y : fV h1 h2) : fMq h h2 := fun a s z1 z2 z3 z4 z5 z6 z7 z8 z9 z10 z11 => (y a s (by omega) (by omega) (by omega) (by omega) (by omega) (by omega)).trans (x a s (by omega) z2 z3 z4 z5 z6 (by omega) (by omega) z9 (by omega))
theorem fMr_Q {h h1 : AH} (x : fMr h h1) : fMq h h1 := fun a s z1 z2 z3 z4 z5 z6 z7 z8 z9 z10 z11 => x a s (by omega) z2 z3 z4 z5 z6 (by omega) (by omega) z9 (by omega)
theorem vX14_sketch_j124 (a1 : Int) (a2 : Int) (t0 : Int) {h : AH} {E : EV} {Rf : Int → TR} {W : Int → Int → Int → VW} {K : AK} {tp : Int} {R : TR} (as : asM h E Rf W K tp) (cA : ∀ a, 0 ≤ a → a < E.1.1 → 0 ≤ E.1.2.1 a ∧ E.1.2.1 a < 282429536481) (tr : cG lfS h R a1 0 (a1 + 1)) (rg : a1 = 4400 ∧ sz R ≤ 121) (hq : hqT 0 R ∧ hcT a2 R ∧ hlT R = a2 ∧ 1 ≤ a2 ∧ a2 ≤ 3) (ty : tyT E (kA K).1 (kA K).2.1 R 0) (nv : nvT R) (kd : (inf R).2.2.1 = kR K) (dk : dpE E.1.2.2.2.1 R ≤ 40 ∧ dpT R ≤ 38) (ln : h 754 (-2) = 101 ∧ h 754 (-1) = 256) (al : t0 = aS a2) (w71 : 0 ≤ h 454 71 ∧ h 454 71 ≤ 1000000000) : OK (gX14_sketch_j124 a1 a2 t0 h) (fun r => jt2 r fun v h' => (∃ y, skR E W K R a2 (h 454 71) v (h' 454 71) y ∧ (0 ≤ y → fdL h' E W K (flT (hlS a2 y) R)) ∧ (y < 0 → fMr h h')) ∧ (fMq h h') ∧ (asM h' E Rf W K tp) ∧ (h' 454 55 = h 454 55)) := by
  obtain ⟨AK, d0, f0, gs⟩ := as
  have C0 := akM_0 AK
  have x16 : isX16 (h 454 38) := C0.1.1
  obtain ⟨R', rm, e1, e2⟩ := cGS_M tr
  have sp := sz_pos R
  have pts := C0.2.1.1.2.2.2.2
  have ar := aS_r a2
  have M1 : 0 ≤ aS a2 * kP K ∧ aS a2 * kP K ≤ 4096 * 256 := ⟨Int.mul_nonneg (by omega) pts.2.1, Int.mul_le_mul (by omega) pts.2.2.1 pts.2.1 (by decide)⟩
  have M2 : 0 ≤ aS a2 * kP K * sz R ∧ aS a2 * kP K * sz R ≤ 4096 * 256 * 121 := ⟨Int.mul_nonneg M1.1 (by omega), Int.mul_le_mul M1.2 rg.2 (by omega) (by decide)⟩
  unfold gX14_sketch_j124
  refine OK_jg (by (first | assumption | omega | ((try dsimp only [jt2, jt3, jt4]); first | omega | (simp (disch := omega) only [jst_eq, jst_ne, jst_ni, jst_o, jI_i, jcpy_out, w32_id, jdiv_nn, jshr_k, jand_255] <;> first | done | omega | assumption)) | (intros; simp (disch := omega) only [jst_eq, jst_ne, jst_ni, jst_o, jI_i, jcpy_out, w32_id, jdiv_nn, *] <;> first | done | omega) | (intros; simp (disch := omega) only [jst_eq, jst_ne, jst_ni, jst_o, jI_i, jcpy_out, w32_id, jdiv_nn] at * <;> first | done | omega | assumption) | (intros; first | rfl | (exfalso; omega) | ((repeat' apply And.intro) <;> first | assumption | rfl | omega | trivial)))) ?_ -- o1
  refine OK_jb (vX14_size (R := R') _ (by exact rm) (by omega) (by omega)) (fun v36 r1 => ?_)
  try dsimp only [Sum.elim_inl, Sum.elim_inr, jt2, jt3, jt4, jt5, jt6, jt7, jt8] at r1
  have sv1 := r1
  clear r1
  try simp (disch := omega) only [jst_eq, jst_ne, jst_ni, jI_i, jcmp_lt, jcmp_gt, w32_id, jcpy_out, Sum.elim_inl, Sum.elim_inr, jt2, jt3, jt4, jt5, jt6, jt7, jt8] at sv1
  have WK : w64 (w64 (t0 * h (h 454 38) 18) * v36) = wkS K R a2 := by { rw [al, pts.1, sv1, e1, w64_id (x := aS a2 * kP K) (by omega) (by omega), w64_id (by omega) (by omega)]; rfl }
  have WKr : 0 ≤ wkS K R a2 ∧ wkS K R a2 ≤ 4096 * 256 * 121 := M2
  rw [WK]
  refine OK_jb2 (vX14_isMuch _ (by omega)) (fun v38 h39 r2 => ?_)
  try dsimp only [Sum.elim_inl, Sum.elim_inr, jt2, jt3, jt4, jt5, jt6, jt7, jt8] at r2
  have tm2 := r2
  clear r2
  try simp (disch := omega) only [jst_eq, jst_ne, jst_ni, jI_i, jcmp_lt, jcmp_gt, w32_id, jcpy_out, Sum.elim_inl, Sum.elim_inr, jt2, jt3, jt4, jt5, jt6, jt7, jt8] at tm2
  have F39 : ∀ a s, ¬ (a = 454 ∧ s = 71) → h39 a s = h a s := fun a s y => by { rcases tm2 with w | w; { rw [w.2.2] }; { rw [w.2.2, jst_o y] } }
  have AG39 : agN h h39 ∧ agT h h39 := ⟨fun a s y => by { unfold mA at y; exact F39 a s (by omega) }, fun a s y => by { unfold tA at y; exact F39 a s (by omega) }⟩
  have AK39 : akM h39 E Rf W K tp := akM_n AK AG39.1 (by have z := AK.2; unfold b20 at z ⊢; rw [F39 _ _ (by omega), F39 _ _ (by omega)]; exact z)
  have GS39 := GSm_g gs C0.2.2.1.2 AG39.2
  have MR39 : fMr h h39 := fun a s y1 y2 y3 y4 y5 y6 y7 y8 y9 y10 => F39 a s (by omega)
  refine OK_if (fun c1 => ?_) (fun c1 => ?_)
  · skip
    try simp (disch := omega) only [jst_eq, jst_ne, jst_ni, jI_i, jcmp_lt, jcmp_gt, w32_id, jcpy_out, Sum.elim_inl, Sum.elim_inr, jt2, jt3, jt4, jt5, jt6, jt7, jt8] at c1
    have TM5 : h 454 71 + wkS K R a2 ≤ 1000000000 ∧ h39 454 71 = h 454 71 + wkS K R a2 := by { rcases tm2 with w | w; { omega }; { exact ⟨w.2.1, by rw [w.2.2, jst_eq]⟩ } }
    refine OK_jb (vX14_sketch_l156 (E := E) (Rf := Rf) (W := W) (K := K) (tp := tp) (R := R) _ _ _ _ (by exact AK39) (by exact cG_fr (lo := 4400) (hi := 5500) (fun dd j i d0 d1 l => lfS_f (fun a a0 a1 a2 a3 => F39 a dd (by omega)) (fun _ => F39 462 dd (by omega)) l) (fun s _ _ => F39 _ _ (by omega)) (by omega) (by omega) (by omega) (by omega) tr) (by omega) (by exact hq) (by exact ty) (by exact kd) (by omega) (by (rw [F39 _ _ (by omega), F39 _ _ (by omega)]; exact ln)) (by omega) (by rfl)) (fun o41 r3 => ?_)
    rcases o41 with o43 | o44
    · skip
      have r4 := r3; clear r3
      dsimp only [Sum.elim_inl, Sum.elim_inr] at r4
      refine OK_jml ?_
      obtain ⟨y45, h46⟩ := o43
      refine OK_jt2 ?_
      try dsimp only [Sum.elim_inl, Sum.elim_inr, jt2, jt3, jt4, jt5, jt6, jt7, jt8] at r4
      obtain ⟨fo3, ak3, fr3⟩ := r4
      try simp (disch := omega) only [jst_eq, jst_ne, jst_ni, jI_i, jcmp_lt, jcmp_gt, w32_id, jcpy_out, Sum.elim_inl, Sum.elim_inr, jt2, jt3, jt4, jt5, jt6, jt7, jt8] at fo3
      try simp (disch := omega) only [jst_eq, jst_ne, jst_ni, jI_i, jcmp_lt, jcmp_gt, w32_id, jcpy_out, Sum.elim_inl, Sum.elim_inr, jt2, jt3, jt4, jt5, jt6, jt7, jt8] at ak3
      try simp (disch := omega) only [jst_eq, jst_ne, jst_ni, jI_i, jcmp_lt, jcmp_gt, w32_id, jcpy_out, Sum.elim_inl, Sum.elim_inr, jt2, jt3, jt4, jt5, jt6, jt7, jt8] at fr3
      obtain ⟨AK46, CF46⟩ := ak3
      have TF := cGF_M CF46
      have szF := fl_sz (hl := hlS a2 y45) R
      have RQ46 : resQ h46 (rgN 4400 1100) (flT (hlS a2 y45) R) a1 0 := cG_Q (by omega) (by omega) (by omega) (by omega) TF
      have l0 : E.2.2.1 ≠ 1 := by { rw [C0.1.2.2.2]; decide }
      have dpF := fl_dp (hl := hlS a2 y45) R
      refine OK_jb (vX14_tell a1 (k := (inf (flT (hlS a2 y45) R)).2.2.1) AK46 cA (resQ_rw RQ46) (fun x q => by unfold rgN at q; omega) (fl_okR C0.1.2.1.2.1 l0 (by have := C0.2.1.1.2.2.2.1; omega) (fun c _ _ => hlS_r _ _ _) hq.2.1 nv (by omega) ty) ⟨by omega, by omega, by rw [fl_dE]; omega⟩) (fun h48 r5 => ?_)
      obtain ⟨fd48, fr48, ak48⟩ := r5
      have W48 : h48 454 71 = h 454 71 + wkS K R a2 := by { rw [fr48 _ _ (by omega) (by omega) (by omega) (by omega) (by omega) (by omega), fr3 _ _ (by omega) (by omega) (by omega)]; exact TM5.2 }
      refine OK_some ?_
      try dsimp only [Sum.elim_inl, Sum.elim_inr, jt2, jt3, jt4, jt5, jt6, jt7, jt8]
      try dsimp only [Sum.elim_inl, Sum.elim_inr, jt2, jt3, jt4, jt5, jt6, jt7, jt8]
      refine ⟨?_, ?_, ?_, ?_⟩
      · (rw [W48]; exact ⟨y45, .inr (.inr ⟨hq.2.2.2.1, TM5.1, rfl, .inl ⟨fo3.1, by have := fo3.2.1; omega, fo3.2.2.1, fo3.2.2.2, rfl⟩⟩), fun _ => fd48, fun w => by omega⟩) -- o16 e1.1
      · exact fMr_q (fMr_t MR39 (fSm_r fr3)) fr48 -- o17 e1.2
      · exact ⟨ak48, d0, f0, GSm_g (GSm_g GS39 C0.2.2.1.2 (fSm_A fr3).2) C0.2.2.1.2 (fV_A fr48).2⟩ -- o18 e1.3
      · (rw [fr48 _ _ (by omega) (by omega) (by omega) (by omega) (by omega) (by omega), fr3 _ _ (by omega) (by omega) (by omega)]; exact F39 _ _ (by omega)) -- o19 e1.4
    · skip
      have r6 := r3; clear r3
      dsimp only [Sum.elim_inl, Sum.elim_inr] at r6
      try dsimp only [Sum.elim_inl, Sum.elim_inr, jt2, jt3, jt4, jt5, jt6, jt7, jt8] at r6
      obtain ⟨no4, ak4, fr4⟩ := r6
      try simp (disch := omega) only [jst_eq, jst_ne, jst_ni, jI_i, jcmp_lt, jcmp_gt, w32_id, jcpy_out, Sum.elim_inl, Sum.elim_inr, jt2, jt3, jt4, jt5, jt6, jt7, jt8] at no4
      try simp (disch := omega) only [jst_eq, jst_ne, jst_ni, jI_i, jcmp_lt, jcmp_gt, w32_id, jcpy_out, Sum.elim_inl, Sum.elim_inr, jt2, jt3, jt4, jt5, jt6, jt7, jt8] at ak4
      try simp (disch := omega) only [jst_eq, jst_ne, jst_ni, jI_i, jcmp_lt, jcmp_gt, w32_id, jcpy_out, Sum.elim_inl, Sum.elim_inr, jt2, jt3, jt4, jt5, jt6, jt7, jt8] at fr4
      refine OK_jmr ?_
      have W44 : o44 454 71 = h 454 71 + wkS K R a2 := by { rw [fr4 _ _ (by omega) (by omega) (by omega)]; exact TM5.2 }
      refine OK_some ?_
      try dsimp only [Sum.elim_inl, Sum.elim_inr, jt2, jt3, jt4, jt5, jt6, jt7, jt8]
      try dsimp only [Sum.elim_inl, Sum.elim_inr, jt2, jt3, jt4, jt5, jt6, jt7, jt8]
      refine ⟨?_, ?_, ?_, ?_⟩
      · (rw [W44]; exact ⟨-1, .inr (.inr ⟨hq.2.2.2.1, TM5.1, rfl, .inr ⟨rfl, rfl, fun u u0 u1 => no4 u u0 (by omega)⟩⟩), fun w => by omega, fun _ => fMr_t MR39 (fSm_r fr4)⟩) -- o20 e2.1
      · exact fMr_Q (fMr_t MR39 (fSm_r fr4)) -- o21 e2.2
      · exact ⟨ak4, d0, f0, GSm_g GS39 C0.2.2.1.2 (fSm_A fr4).2⟩ -- o22 e2.3
      · (rw [fr4 _ _ (by omega) (by omega) (by omega)]; exact F39 _ _ (by omega)) -- o23 e2.4
  · skip
    try simp (disch := omega) only [jst_eq, jst_ne, jst_ni, jI_i, jcmp_lt, jcmp_gt, w32_id, jcpy_out, Sum.elim_inl, Sum.elim_inr, jt2, jt3, jt4, jt5, jt6, jt7, jt8] at c1
    have TM5 : 1000000000 < h 454 71 + wkS K R a2 ∧ h39 = h := by { rcases tm2 with w | w; { exact ⟨w.2.1, w.2.2⟩ }; { omega } }
    refine OK_some ?_
    try dsimp only [Sum.elim_inl, Sum.elim_inr, jt2, jt3, jt4, jt5, jt6, jt7, jt8]
    try dsimp only [Sum.elim_inl, Sum.elim_inr, jt2, jt3, jt4, jt5, jt6, jt7, jt8]
    refine ⟨?_, ?_, ?_, ?_⟩
    · (rw [TM5.2]; exact ⟨-1, .inr (.inl ⟨hq.2.2.2.1, TM5.1, rfl, rfl, rfl⟩), fun w => by omega, fun _ _ _ _ _ _ _ _ _ _ _ _ _ => rfl⟩) -- o24 e3.1
    · exact fMr_Q MR39 -- o25 e3.2
    · exact ⟨AK39, d0, f0, GS39⟩ -- o26 e3.3
    · exact F39 _ _ (by omega) -- o27 e3.4

