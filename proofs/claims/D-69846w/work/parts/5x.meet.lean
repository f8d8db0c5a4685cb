/-! x: what meets -/
def rpA (n : Int) (kf : Int → Int) (wh : Int) (rv : Int → Int) (r : Int) : Int := if wh = 0 then r else ptf kf (fun k => rv (3 * r + k)) n.toNat
theorem vX4_pointOfRow (a0 : Int) (a1 : Int) {h : AH} {n wh : Int} {kf rv : Int → Int} (x : isX4 a0 ∧ h a0 1 = n ∧ 1 ≤ n ∧ n ≤ 3 ∧ (∀ k, 0 ≤ k → k < n → h (a0 + 1) k = kf k) ∧ h a0 17 = wh) (r : 0 ≤ a1 ∧ a1 < 12) (w : wh ≠ 0 → h (a0 + 6) (-2) = 101 ∧ h (a0 + 6) (-1) = 36 ∧ ∀ k, 0 ≤ k → k < n → h (a0 + 6) (3 * a1 + k) = rv (3 * a1 + k) ∧ 0 ≤ rv (3 * a1 + k) ∧ rv (3 * a1 + k) < bsK (kf k)) : OK (gX4_pointOfRow a0 a1 h) (fun v => v = rpA n kf wh rv a1) := by
  unfold gX4_pointOfRow
  refine OK_if (fun c1 => ?_) (fun c1 => ?_)
  · skip
    try simp (disch := omega) only [jst_eq, jst_ne, jst_ni, jI_i, jcmp_lt, jcmp_gt, w32_id, jcpy_out, Sum.elim_inl, Sum.elim_inr, jt2, jt3, jt4, jt5, jt6, jt7, jt8] at c1
    refine OK_some ?_
    try dsimp only [Sum.elim_inl, Sum.elim_inr, jt2, jt3, jt4, jt5, jt6, jt7, jt8]
    (unfold rpA; rw [if_pos (by omega)]) -- o1 e1
  · skip
    try simp (disch := omega) only [jst_eq, jst_ne, jst_ni, jI_i, jcmp_lt, jcmp_gt, w32_id, jcpy_out, Sum.elim_inl, Sum.elim_inr, jt2, jt3, jt4, jt5, jt6, jt7, jt8] at c1
    have ww := w (by omega)
    have w3 : w32 (3 * a1) = 3 * a1 := w32_id (by omega) (by omega)
    refine OK_jb (vX4_pointOf (n := n) (kf := kf) (vf := fun k => rv (3 * a1 + k)) _ _ _ (by (first | rw [w3] | skip); exact ⟨x.1, x.2.1, by omega, by omega, ww.1, by omega, by omega, by omega⟩) (by (first | rw [w3] | skip); exact fun k k0 k1 => ⟨x.2.2.2.2.1 k k0 k1, ww.2.2 k k0 k1⟩)) (fun v3 r1 => ?_)
    try dsimp only [Sum.elim_inl, Sum.elim_inr, jt2, jt3, jt4, jt5, jt6, jt7, jt8] at r1
    have pv1 := r1
    clear r1
    try simp (disch := omega) only [jst_eq, jst_ne, jst_ni, jI_i, jcmp_lt, jcmp_gt, w32_id, jcpy_out, Sum.elim_inl, Sum.elim_inr, jt2, jt3, jt4, jt5, jt6, jt7, jt8] at pv1
    refine OK_some ?_
    try dsimp only [Sum.elim_inl, Sum.elim_inr, jt2, jt3, jt4, jt5, jt6, jt7, jt8]
    (unfold rpA; rw [if_neg (by omega)]; exact pv1) -- o4 e2
/-- the environment, but for what is looked for -/
def enX0 (h : AH) (E : EV) (Rf : Int → TR) (W : Int → Int → Int → VW) : Prop := actX h E.1.1 E.1.2.1 E.1.2.2.1 E.1.2.2.2.1 E.1.2.2.2.2 ∧ acE E ∧ wOK E Rf W ∧ ownX h E Rf ∧ (h 269 (-2) = 101 ∧ h 269 (-1) = 1000) ∧ ∀ a, 26 ≤ a → 0 ≤ E.1.2.2.2.1 a
def f1415 (h h' : AH) : Prop := ∀ a s, ¬ (a = 200 ∧ (s = 9 ∨ s = 10 ∨ s = 14 ∨ s = 15)) → ¬ (a = 269 ∧ 0 ≤ s) → h' a s = h a s
theorem enX0_fr {h h' : AH} {E : EV} {Rf : Int → TR} {W : Int → Int → Int → VW} (e : enX0 h E Rf W) (g : f1415 h h') : enX0 h' E Rf W := by
  obtain ⟨e1, e2, e3, e5, e8, e7⟩ := e
  refine ⟨actX_fr e1 (fun a s q => by unfold actC at q; exact g a s (by omega) (by omega)), e2, e3, ?_, ⟨by rw [g _ _ (by omega) (by omega)]; exact e8.1, by rw [g _ _ (by omega) (by omega)]; exact e8.2⟩, e7⟩
  obtain ⟨N, c, o⟩ := e5
  refine ⟨N, capX_fr c (fun a a0 a1 => g _ _ (by omega) (by omega)), fun a a0 a1 => ?_⟩
  obtain ⟨o1, o2⟩ := o a a0 a1
  rw [g 264 _ (by omega) (by omega)]
  exact ⟨vwX_fr (fun a s q => g _ _ (by omega) (by omega)) o1, o2⟩
/-- what asking whether answers meet needs: x -/
def mtX (h : AH) (E : EV) (Rf : Int → TR) (W : Int → Int → Int → VW) (hl : Int → Int) (n : Int) (kf : Int → Int) (wh : Int) (rv : Int → Int) (pts rn : Int) (ra : Int → Int) (ln : Int) (nn : Int → Int) (lk : Int → Int → Int) (LL LR : Int → TR) : Prop := (isX4 (h 200 16) ∧ enX0 h E Rf W ∧ h 200 11 = -1 ∧ (∀ c, 0 ≤ c → c ≤ 2 → h 270 c = hl c ∧ 0 ≤ hl c ∧ hl c ≤ 15) ∧ -2147483648 ≤ h 200 10 ∧ h 200 10 < 2147483648) ∧ (h (h 200 16) 1 = n ∧ 1 ≤ n ∧ n ≤ 3 ∧ (∀ k, 0 ≤ k → k < n → h (h 200 16 + 1) k = kf k) ∧ h (h 200 16) 17 = wh ∧ (wh ≠ 0 → h (h 200 16 + 6) (-2) = 101 ∧ h (h 200 16 + 6) (-1) = 36 ∧ ∀ r k, 0 ≤ r → r < rn → 0 ≤ k → k < n → h (h 200 16 + 6) (3 * r + k) = rv (3 * r + k) ∧ 0 ≤ rv (3 * r + k) ∧ rv (3 * r + k) < bsK (kf k))) ∧ (h (h 200 16) 8 = rn ∧ 0 ≤ rn ∧ rn ≤ 12 ∧ (∀ r, 0 ≤ r → r < rn → h (h 200 16 + 7) r = ra r ∧ 0 ≤ rpA n kf wh rv r ∧ rpA n kf wh rv r < pts) ∧ pts ≤ 256) ∧ (h (h 200 16) 11 = ln ∧ 0 ≤ ln ∧ ln ≤ 4 ∧ (∀ l, 0 ≤ l → l < ln → lwX h E nn lk LL LR l)) ∧ (E.2.2.1 = 1 → h (h 200 16) 1 = eO E (-2) ∧ (∀ k, 0 ≤ k → k < eO E (-2) → h (h 200 16 + 1) k = eK E (-2) k ∧ eK E (-2) k ≤ 1) ∧ ∀ x y z, vlR (eK E (-2) 0) x → (2 ≤ eO E (-2) → vlR (eK E (-2) 1) y) → (3 ≤ eO E (-2) → vlR (eK E (-2) 2) z) → ptE E x y z < pts)
theorem lwX_f2 {h h' : AH} {E : EV} {nn : Int → Int} {lk : Int → Int → Int} {LL LR : Int → TR} {l : Int} (x4 : isX4 (h 200 16)) (w : lwX h E nn lk LL LR l) (g : f1415 h h') : lwX h' E nn lk LL LR l := by
  have x : h 200 16 = 271 ∨ h 200 16 = 289 := x4
  have e : h' 200 16 = h 200 16 := g _ _ (by omega) (by omega)
  have S : ∀ {T np d : Int} {kp : Int → Int} {R : TR}, sdX h E T np kp R d → sdX h' E T np kp R d := fun {T np d kp R} s => by
    obtain ⟨s1, s2, s3, s4⟩ := s
    have t4 : T = 258 ∨ T = 283 ∨ T = 301 ∨ T = 324 ∨ T = 330 ∨ T = 341 ∨ T = 347 ∨ T = 357 ∨ T = 363 ∨ T = 383 ∨ T = 396 := s1.1
    exact ⟨capX_fr s1 (fun a a0 a1 => g _ _ (by omega) (by omega)), vwX_fr (fun a s y => g _ _ (by omega) (by omega)) s2, s3, s4⟩
  obtain ⟨w1, w2, w3, w4, w5, w6⟩ := w
  unfold lwX
  rw [e, g _ l (by omega) (by omega), g (h 200 16 + 8) l (by omega) (by omega), g (h 200 16 + 9) l (by omega) (by omega)]
  exact ⟨w1, w2, w3, fun k k0 k1 => by rw [g _ _ (by omega) (by omega)]; exact w4 k k0 k1, S w5, S w6⟩
theorem mtX_fr {h h' : AH} {E : EV} {Rf : Int → TR} {W : Int → Int → Int → VW} {hl ra : Int → Int} {n wh pts rn ln : Int} {kf rv nn : Int → Int} {lk : Int → Int → Int} {LL LR : Int → TR} (m : mtX h E Rf W hl n kf wh rv pts rn ra ln nn lk LL LR) (g : f1415 h h') (b : -2147483648 ≤ h' 200 10 ∧ h' 200 10 < 2147483648) : mtX h' E Rf W hl n kf wh rv pts rn ra ln nn lk LL LR := by
  obtain ⟨⟨a1, a2, a3, a4, a5⟩, ⟨b1, b2, b3, b4, b5, b6⟩, ⟨c1, c2, c3, c4, c5⟩, ⟨d1, d2, d3, d4⟩, e1⟩ := m
  have x : h 200 16 = 271 ∨ h 200 16 = 289 := a1
  have e : h' 200 16 = h 200 16 := g _ _ (by omega) (by omega)
  have eX : ∀ s, h' (h 200 16) s = h (h 200 16) s := fun s => g _ _ (by omega) (by omega)
  have e6 : ∀ s, h' (h 200 16 + 6) s = h (h 200 16 + 6) s := fun s => g _ _ (by omega) (by omega)
  have e7 : ∀ s, h' (h 200 16 + 7) s = h (h 200 16 + 7) s := fun s => g _ _ (by omega) (by omega)
  have e11 : ∀ s, h' (h 200 16 + 1) s = h (h 200 16 + 1) s := fun s => g _ _ (by omega) (by omega)
  unfold mtX
  rw [e, eX, eX, eX, eX]
  refine ⟨⟨a1, enX0_fr a2 g, by rw [g _ _ (by omega) (by omega)]; exact a3, fun c c0 c1 => by rw [g _ _ (by omega) (by omega)]; exact a4 c c0 c1, b⟩, ⟨b1, b2, b3, fun k k0 k1 => by rw [e11]; exact b4 k k0 k1, b5, fun y => by rw [e6, e6]; exact ⟨(b6 y).1, (b6 y).2.1, fun r k r0 r1 k0 k1 => by rw [e6]; exact (b6 y).2.2 r k r0 r1 k0 k1⟩⟩, ⟨c1, c2, c3, fun r r0 r1 => by rw [e7]; exact c4 r r0 r1, c5⟩, ⟨d1, d2, d3, fun l l0 l1 => lwX_f2 a1 (d4 l l0 l1) g⟩, fun y => ⟨(e1 y).1, fun k k0 k1 => by rw [e11]; exact (e1 y).2.1 k k0 k1, (e1 y).2.2⟩⟩
/-- what meets, pure -/
def mtR (g : Int → Int) (rn : Int) (rp ra : Int → Int) : Prop := ∀ r, 0 ≤ r → r < rn → g (rp r) = ra r
theorem vX1_meet_l2 (i1 : Int) (i2 : Int) (a30 : Int) {h : AH} {E : EV} {Rf : Int → TR} {W : Int → Int → Int → VW} {hl ra : Int → Int} {n wh pts rn ln : Int} {kf rv nn : Int → Int} {lk : Int → Int → Int} {LL LR : Int → TR} {g : Int → Int} (m : mtX h E Rf W hl n kf wh rv pts rn ra ln nn lk LL LR) (a : h i1 (-2) = 101 ∧ 0 ≤ i2 ∧ i2 ≤ 100000 ∧ i2 + pts ≤ h i1 (-1) ∧ ∀ p, 0 ≤ p → p < pts → h i1 (i2 + p) = g p) (z : a30 = 0) : OK (gX1_meet_l2 i1 i2 a30 h) (Sum.elim (fun _ => ¬ mtR g rn (rpA n kf wh rv) ra) (fun _ => mtR g rn (rpA n kf wh rv) ra)) := by
  unfold gX1_meet_l2
  refine OK_jit (I := (fun (a3 : Int) => (0 ≤ a3 ∧ a3 ≤ rn) ∧ (∀ r, 0 ≤ r → r < a3 → g (rpA n kf wh rv r) = ra r))) (m := (fun (a3 : Int) => (rn - a3).toNat)) ?_ ?_
  · intro a3 hs
    try dsimp only at hs
    obtain ⟨q0, q1⟩ := hs
    unfold gX1_meet_b2
    obtain ⟨⟨m1, m2, m3, m4, m5⟩, ⟨n1, n2, n3, n4, n5, n6⟩, ⟨k1, k2, k3, k4, k5⟩, ⟨l1, l2, l3, l4⟩, s1⟩ := m
    refine OK_if (fun c1 => ?_) (fun c1 => ?_)
    · skip
      try simp (disch := omega) only [jst_eq, jst_ne, jst_ni, jI_i, jcmp_lt, jcmp_gt, w32_id, jcpy_out, Sum.elim_inl, Sum.elim_inr, jt2, jt3, jt4, jt5, jt6, jt7, jt8] at c1
      refine OK_ir ?_
      (intro r r0 r1; exact q1 r r0 (by omega)) -- o1 e1
    · skip
      try simp (disch := omega) only [jst_eq, jst_ne, jst_ni, jI_i, jcmp_lt, jcmp_gt, w32_id, jcpy_out, Sum.elim_inl, Sum.elim_inr, jt2, jt3, jt4, jt5, jt6, jt7, jt8] at c1
      have R3 := k4 a3 q0.1 (by omega)
      refine OK_jb (vX4_pointOfRow (n := n) (wh := wh) (kf := kf) (rv := rv) _ _ (by exact ⟨m1, n1, n2, n3, n4, n5⟩) (by (first | assumption | omega | ((try dsimp only [jt2, jt3, jt4]); first | omega | (simp (disch := omega) only [jst_eq, jst_ne, jst_ni, jst_o, jI_i, jcpy_out, w32_id, jdiv_nn, jshr_k, jand_255] <;> first | done | omega | assumption)) | (intros; simp (disch := omega) only [jst_eq, jst_ne, jst_ni, jst_o, jI_i, jcpy_out, w32_id, jdiv_nn, *] <;> first | done | omega) | (intros; simp (disch := omega) only [jst_eq, jst_ne, jst_ni, jst_o, jI_i, jcpy_out, w32_id, jdiv_nn] at * <;> first | done | omega | assumption) | (intros; first | rfl | (exfalso; omega) | ((repeat' apply And.intro) <;> first | assumption | rfl | omega | trivial)))) (by (intro y; exact ⟨(n6 y).1, (n6 y).2.1, fun k k0 k1 => (n6 y).2.2 a3 k q0.1 (by omega) k0 k1⟩))) (fun v13 r1 => ?_)
      try dsimp only [Sum.elim_inl, Sum.elim_inr, jt2, jt3, jt4, jt5, jt6, jt7, jt8] at r1
      have pr1 := r1
      clear r1
      try simp (disch := omega) only [jst_eq, jst_ne, jst_ni, jI_i, jcmp_lt, jcmp_gt, w32_id, jcpy_out, Sum.elim_inl, Sum.elim_inr, jt2, jt3, jt4, jt5, jt6, jt7, jt8] at pr1
      have iw : w32 (i2 + v13) = i2 + v13 := w32_id (by omega) (by omega)
      have iv : 0 ≤ w32 (i2 + v13) ∧ w32 (i2 + v13) < h i1 (-1) := by { rw [iw]; omega }
      have gv : h i1 (i2 + v13) = g (rpA n kf wh rv a3) := by { rw [pr1]; exact a.2.2.2.2 _ R3.2.1 R3.2.2 }
      refine OK_jg (by (first | assumption | omega | ((try dsimp only [jt2, jt3, jt4]); first | omega | (simp (disch := omega) only [jst_eq, jst_ne, jst_ni, jst_o, jI_i, jcpy_out, w32_id, jdiv_nn, jshr_k, jand_255] <;> first | done | omega | assumption)) | (intros; simp (disch := omega) only [jst_eq, jst_ne, jst_ni, jst_o, jI_i, jcpy_out, w32_id, jdiv_nn, *] <;> first | done | omega) | (intros; simp (disch := omega) only [jst_eq, jst_ne, jst_ni, jst_o, jI_i, jcpy_out, w32_id, jdiv_nn] at * <;> first | done | omega | assumption) | (intros; first | rfl | (exfalso; omega) | ((repeat' apply And.intro) <;> first | assumption | rfl | omega | trivial)))) ?_ -- o5
      refine OK_jg (by (first | assumption | omega | ((try dsimp only [jt2, jt3, jt4]); first | omega | (simp (disch := omega) only [jst_eq, jst_ne, jst_ni, jst_o, jI_i, jcpy_out, w32_id, jdiv_nn, jshr_k, jand_255] <;> first | done | omega | assumption)) | (intros; simp (disch := omega) only [jst_eq, jst_ne, jst_ni, jst_o, jI_i, jcpy_out, w32_id, jdiv_nn, *] <;> first | done | omega) | (intros; simp (disch := omega) only [jst_eq, jst_ne, jst_ni, jst_o, jI_i, jcpy_out, w32_id, jdiv_nn] at * <;> first | done | omega | assumption) | (intros; first | rfl | (exfalso; omega) | ((repeat' apply And.intro) <;> first | assumption | rfl | omega | trivial)))) ?_ -- o6
      refine OK_if (fun c2 => ?_) (fun c2 => ?_)
      · skip
        try simp (disch := omega) only [jst_eq, jst_ne, jst_ni, jI_i, jcmp_lt, jcmp_gt, w32_id, jcpy_out, Sum.elim_inl, Sum.elim_inr, jt2, jt3, jt4, jt5, jt6, jt7, jt8] at c2
        have cc : h i1 (i2 + v13) = h (h 200 16 + 7) a3 := by { first | exact c2 | (rw [iw] at c2; exact c2) }
        refine OK_jlx (fun x15 ex15 => ?_)
        try simp (disch := omega) only [jst_eq, jst_ne, jst_ni, jI_i, jcmp_lt, jcmp_gt, w32_id, jcpy_out, Sum.elim_inl, Sum.elim_inr, jt2, jt3, jt4, jt5, jt6, jt7, jt8] at ex15
        refine OK_il ?_ ?_
        · try dsimp only [Sum.elim_inl, Sum.elim_inr, jt2, jt3, jt4, jt5, jt6, jt7, jt8]
          refine ⟨?_, ?_⟩
          · (first | assumption | omega | ((try dsimp only [jt2, jt3, jt4]); first | omega | (simp (disch := omega) only [jst_eq, jst_ne, jst_ni, jst_o, jI_i, jcpy_out, w32_id, jdiv_nn, jshr_k, jand_255] <;> first | done | omega | assumption)) | (intros; simp (disch := omega) only [jst_eq, jst_ne, jst_ni, jst_o, jI_i, jcpy_out, w32_id, jdiv_nn, *] <;> first | done | omega) | (intros; simp (disch := omega) only [jst_eq, jst_ne, jst_ni, jst_o, jI_i, jcpy_out, w32_id, jdiv_nn] at * <;> first | done | omega | assumption) | (intros; first | rfl | (exfalso; omega) | ((repeat' apply And.intro) <;> first | assumption | rfl | omega | trivial))) -- o7 e2i.1
          · (intro r r0 r1; by_cases y : r = a3; { rw [y, ← gv, cc]; exact R3.1 }; { exact q1 r r0 (by omega) }) -- o8 e2i.2
        · (first | assumption | omega | ((try dsimp only [jt2, jt3, jt4]); first | omega | (simp (disch := omega) only [jst_eq, jst_ne, jst_ni, jst_o, jI_i, jcpy_out, w32_id, jdiv_nn, jshr_k, jand_255] <;> first | done | omega | assumption)) | (intros; simp (disch := omega) only [jst_eq, jst_ne, jst_ni, jst_o, jI_i, jcpy_out, w32_id, jdiv_nn, *] <;> first | done | omega) | (intros; simp (disch := omega) only [jst_eq, jst_ne, jst_ni, jst_o, jI_i, jcpy_out, w32_id, jdiv_nn] at * <;> first | done | omega | assumption) | (intros; first | rfl | (exfalso; omega) | ((repeat' apply And.intro) <;> first | assumption | rfl | omega | trivial))) -- o9 e2m
      · skip
        try simp (disch := omega) only [jst_eq, jst_ne, jst_ni, jI_i, jcmp_lt, jcmp_gt, w32_id, jcpy_out, Sum.elim_inl, Sum.elim_inr, jt2, jt3, jt4, jt5, jt6, jt7, jt8] at c2
        have cc : ¬ h i1 (i2 + v13) = h (h 200 16 + 7) a3 := by { first | exact c2 | (rw [iw] at c2; exact c2) }
        refine OK_ir ?_
        (intro y; have z := y a3 q0.1 (by omega); rw [← gv, ← R3.1] at z; exact cc z) -- o10 e3
  · try dsimp only [Sum.elim_inl, Sum.elim_inr, jt2, jt3, jt4, jt5, jt6, jt7, jt8]
    refine ⟨?_, ?_⟩
    · (have := m.2.2.1.2.1; omega) -- o11 init.1
    · (first | assumption | omega | ((try dsimp only [jt2, jt3, jt4]); first | omega | (simp (disch := omega) only [jst_eq, jst_ne, jst_ni, jst_o, jI_i, jcpy_out, w32_id, jdiv_nn, jshr_k, jand_255] <;> first | done | omega | assumption)) | (intros; simp (disch := omega) only [jst_eq, jst_ne, jst_ni, jst_o, jI_i, jcpy_out, w32_id, jdiv_nn, *] <;> first | done | omega) | (intros; simp (disch := omega) only [jst_eq, jst_ne, jst_ni, jst_o, jI_i, jcpy_out, w32_id, jdiv_nn] at * <;> first | done | omega | assumption) | (intros; first | rfl | (exfalso; omega) | ((repeat' apply And.intro) <;> first | assumption | rfl | omega | trivial))) -- o12 init.2

