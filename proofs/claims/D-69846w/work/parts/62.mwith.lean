/-! x: meets with a node told otherwise -/
def f912 (h h' : AH) : Prop := ∀ a s, ¬ (a = 200 ∧ (s = 9 ∨ s = 10 ∨ s = 11 ∨ s = 12 ∨ s = 14 ∨ s = 15)) → ¬ (a = 269 ∧ 0 ≤ s) → ¬ (a = 323 ∧ 0 ≤ s) → h' a s = h a s
theorem f912_tr {h h1 h2 : AH} (a : f912 h h1) (b : f912 h1 h2) : f912 h h2 := fun x s y z w => by rw [b x s y z w]; exact a x s y z w
theorem enX0_f9 {h h' : AH} {E : EV} {Rf : Int → TR} {W : Int → Int → Int → VW} (e : enX0 h E Rf W) (g : f912 h h') : enX0 h' E Rf W := by
  obtain ⟨e1, e2, e3, e5, e8, e7⟩ := e
  refine ⟨actX_fr e1 (fun a s q => by unfold actC at q; exact g a s (by omega) (by omega) (by omega)), e2, e3, ?_, ⟨by rw [g _ _ (by omega) (by omega) (by omega)]; exact e8.1, by rw [g _ _ (by omega) (by omega) (by omega)]; exact e8.2⟩, e7⟩
  obtain ⟨N, c, o⟩ := e5
  refine ⟨N, capX_fr c (fun a a0 a1 => g _ _ (by omega) (by omega) (by omega)), fun a a0 a1 => ?_⟩
  obtain ⟨o1, o2⟩ := o a a0 a1
  rw [g 264 _ (by omega) (by omega) (by omega)]
  exact ⟨vwX_fr (fun a s q => g _ _ (by omega) (by omega) (by omega)) o1, o2⟩
theorem lwX_f9 {h h' : AH} {E : EV} {nn : Int → Int} {lk : Int → Int → Int} {LL LR : Int → TR} {l : Int} (x4 : isX4 (h 200 16)) (w : lwX h E nn lk LL LR l) (g : f912 h h') : lwX h' E nn lk LL LR l := by
  have x : h 200 16 = 271 ∨ h 200 16 = 289 := x4
  have e : h' 200 16 = h 200 16 := g _ _ (by omega) (by omega) (by omega)
  have S : ∀ {T np d : Int} {kp : Int → Int} {R : TR}, sdX h E T np kp R d → sdX h' E T np kp R d := fun {T np d kp R} s => by
    obtain ⟨s1, s2, s3, s4⟩ := s
    have t4 : T = 258 ∨ T = 283 ∨ T = 301 ∨ T = 324 ∨ T = 330 ∨ T = 341 ∨ T = 347 ∨ T = 357 ∨ T = 363 ∨ T = 383 ∨ T = 396 := s1.1
    exact ⟨capX_fr s1 (fun a a0 a1 => g _ _ (by omega) (by omega) (by omega)), vwX_fr (fun a s y => g _ _ (by omega) (by omega) (by omega)) s2, s3, s4⟩
  obtain ⟨w1, w2, w3, w4, w5, w6⟩ := w
  unfold lwX
  rw [e, g _ l (by omega) (by omega) (by omega), g (h 200 16 + 8) l (by omega) (by omega) (by omega), g (h 200 16 + 9) l (by omega) (by omega) (by omega)]
  exact ⟨w1, w2, w3, fun k k0 k1 => by rw [g _ _ (by omega) (by omega) (by omega)]; exact w4 k k0 k1, S w5, S w6⟩
theorem mtX_f9 {h h' : AH} {E : EV} {Rf : Int → TR} {W : Int → Int → Int → VW} {hl ra : Int → Int} {n wh pts rn ln : Int} {kf rv nn : Int → Int} {lk : Int → Int → Int} {LL LR : Int → TR} (m : mtX h E Rf W hl n kf wh rv pts rn ra ln nn lk LL LR) (g : f912 h h') (k : h' 200 11 = -1) (b : -2147483648 ≤ h' 200 10 ∧ h' 200 10 < 2147483648) : mtX h' E Rf W hl n kf wh rv pts rn ra ln nn lk LL LR := by
  obtain ⟨⟨a1, a2, a3, a4, a5⟩, ⟨b1, b2, b3, b4, b5, b6⟩, ⟨c1, c2, c3, c4, c5⟩, ⟨d1, d2, d3, d4⟩, e1⟩ := m
  have x : h 200 16 = 271 ∨ h 200 16 = 289 := a1
  have e : h' 200 16 = h 200 16 := g _ _ (by omega) (by omega) (by omega)
  have eX : ∀ s, h' (h 200 16) s = h (h 200 16) s := fun s => g _ _ (by omega) (by omega) (by omega)
  have e6 : ∀ s, h' (h 200 16 + 6) s = h (h 200 16 + 6) s := fun s => g _ _ (by omega) (by omega) (by omega)
  have e7 : ∀ s, h' (h 200 16 + 7) s = h (h 200 16 + 7) s := fun s => g _ _ (by omega) (by omega) (by omega)
  have e11 : ∀ s, h' (h 200 16 + 1) s = h (h 200 16 + 1) s := fun s => g _ _ (by omega) (by omega) (by omega)
  unfold mtX
  rw [e, eX, eX, eX, eX]
  refine ⟨⟨a1, enX0_f9 a2 g, k, fun c c0 c1 => by rw [g _ _ (by omega) (by omega) (by omega)]; exact a4 c c0 c1, b⟩, ⟨b1, b2, b3, fun k k0 k1 => by rw [e11]; exact b4 k k0 k1, b5, fun y => by rw [e6, e6]; exact ⟨(b6 y).1, (b6 y).2.1, fun r k r0 r1 k0 k1 => by rw [e6]; exact (b6 y).2.2 r k r0 r1 k0 k1⟩⟩, ⟨c1, c2, c3, fun r r0 r1 => by rw [e7]; exact c4 r r0 r1, c5⟩, ⟨d1, d2, d3, fun l l0 l1 => lwX_f9 a1 (d4 l l0 l1) g⟩, fun y => ⟨(e1 y).1, fun k k0 k1 => by rw [e11]; exact (e1 y).2.1 k k0 k1, (e1 y).2.2⟩⟩
theorem pkX_f9 {h h' : AH} {n wh pts : Int} {kf rv : Int → Int} (p : pkX h n kf wh rv pts) (g : f912 h h') : pkX h' n kf wh rv pts := by
  obtain ⟨p1, p2, p3, p4, p5, p6, p7, p8, p9, p10, p11, p12⟩ := p
  have x4 : h 200 16 = 271 ∨ h 200 16 = 289 := p1
  have e16 : h' 200 16 = h 200 16 := g _ _ (by omega) (by omega) (by omega)
  have eX : ∀ s, h' (h 200 16) s = h (h 200 16) s := fun s => g _ _ (by omega) (by omega) (by omega)
  refine ⟨?_, ?_, p3, p4, ?_, ?_, p7, ?_, p9, p10, ?_, p12⟩
  · rw [e16]; exact p1
  · rw [e16, eX]; exact p2
  · rw [e16]; intro k k0 k1; rw [g _ _ (by omega) (by omega) (by omega)]; exact p5 k k0 k1
  · rw [e16, eX]; exact p6
  · rw [e16, eX]; exact p8
  · rw [e16]; intro y; exact ⟨(p11 y).1, fun s s0 s1 => by rw [g _ _ (by omega) (by omega) (by omega)]; exact (p11 y).2 s s0 s1⟩
theorem enX_0 {h : AH} {E : EV} {Rf : Int → TR} {W : Int → Int → Int → VW} {f : Int → Int → Int → Int} (e : enX0 h E Rf W) (z : E.2.2.1 = 0) : enuX h E Rf W f := by
  obtain ⟨c1, c2, c3, c5, c8, c7⟩ := e
  exact ⟨c1, c2, c3, fun y => by omega, c5, fun y => by omega, c8, c7⟩
theorem vX1_meetsWith_l18 (i1 : Int) (i2 : Int) (i3 : Int) (i4 : Int) (a50 : Int) {h0 : AH} {n pts wh : Int} {kf rv : Int → Int} (a : pkX h0 n kf wh rv pts) (p : 0 ≤ i4 ∧ i4 < pts) (z : a50 = 0) : OK (gX1_meetsWith_l18 i1 i2 i3 i4 a50 h0) (fun h' => (∀ k, 0 ≤ k → k < n → h' 269 k = pvA n kf wh rv i4 k) ∧ (∀ a s, ¬ (a = 269 ∧ 0 ≤ s) → h' a s = h0 a s)) := by
  unfold gX1_meetsWith_l18
  refine OK_jit (I := (fun (s : Int × AH) => jt2 s fun a5 h => (0 ≤ a5 ∧ a5 ≤ n) ∧ (∀ k, 0 ≤ k → k < a5 → h 269 k = pvA n kf wh rv i4 k) ∧ (∀ a s, ¬ (a = 269 ∧ 0 ≤ s) → h a s = h0 a s))) (m := (fun (s : Int × AH) => jt2 s fun a5 h => (n - a5).toNat)) ?_ ?_
  · intro s hs
    obtain ⟨a5, h⟩ := s
    dsimp only [Sum.elim_inl, Sum.elim_inr, jt2, jt3, jt4, jt5, jt6, jt7, jt8] at hs
    obtain ⟨q0, q1, fr⟩ := hs
    unfold gX1_meetsWith_b18
    refine OK_jt2 ?_
    obtain ⟨p1, p2, p3, p4, p5, p6, p7, p8, p9, p10, p11, p12⟩ := a
    have x4 : h0 200 16 = 271 ∨ h0 200 16 = 289 := p1
    have e16 : h 200 16 = h0 200 16 := fr _ _ (by omega)
    have eX : ∀ s, h (h0 200 16) s = h0 (h0 200 16) s := fun s => fr _ _ (by omega)
    have e1 := eX 1
    rw [e16, e1, p2]
    refine OK_if (fun c1 => ?_) (fun c1 => ?_)
    · skip
      try simp (disch := omega) only [jst_eq, jst_ne, jst_ni, jI_i, jcmp_lt, jcmp_gt, w32_id, jcpy_out, Sum.elim_inl, Sum.elim_inr, jt2, jt3, jt4, jt5, jt6, jt7, jt8] at c1
      refine OK_ir ?_
      try dsimp only [Sum.elim_inl, Sum.elim_inr, jt2, jt3, jt4, jt5, jt6, jt7, jt8]
      refine ⟨?_, ?_⟩
      · (intro k k0 k1; exact q1 k k0 (by omega)) -- o1 e1.1
      · (first | assumption | omega | ((try dsimp only [jt2, jt3, jt4]); first | omega | (simp (disch := omega) only [jst_eq, jst_ne, jst_ni, jst_o, jI_i, jcpy_out, w32_id, jdiv_nn, jshr_k, jand_255] <;> first | done | omega | assumption)) | (intros; simp (disch := omega) only [jst_eq, jst_ne, jst_ni, jst_o, jI_i, jcpy_out, w32_id, jdiv_nn, *] <;> first | done | omega) | (intros; simp (disch := omega) only [jst_eq, jst_ne, jst_ni, jst_o, jI_i, jcpy_out, w32_id, jdiv_nn] at * <;> first | done | omega | assumption) | (intros; first | rfl | (exfalso; omega) | ((repeat' apply And.intro) <;> first | assumption | rfl | omega | trivial))) -- o2 e1.2
    · skip
      try simp (disch := omega) only [jst_eq, jst_ne, jst_ni, jI_i, jcmp_lt, jcmp_gt, w32_id, jcpy_out, Sum.elim_inl, Sum.elim_inr, jt2, jt3, jt4, jt5, jt6, jt7, jt8] at c1
      refine OK_jb (vX4_valueAt (n := n) (pts := pts) (wh := wh) (kf := kf) (rv := rv) _ _ _ (by exact ⟨p1, by rw [eX]; exact p2, p3, p4, fun k k0 k1 => by rw [fr _ _ (by omega)]; exact (p5 k k0 k1).1⟩) (by exact ⟨by rw [eX]; exact p6, fun y => ⟨(p11 y).1, fun s s0 s1 => by rw [fr _ _ (by omega)]; exact (p11 y).2 s s0 s1⟩, p10⟩) (by (first | assumption | omega | ((try dsimp only [jt2, jt3, jt4]); first | omega | (simp (disch := omega) only [jst_eq, jst_ne, jst_ni, jst_o, jI_i, jcpy_out, w32_id, jdiv_nn, jshr_k, jand_255] <;> first | done | omega | assumption)) | (intros; simp (disch := omega) only [jst_eq, jst_ne, jst_ni, jst_o, jI_i, jcpy_out, w32_id, jdiv_nn, *] <;> first | done | omega) | (intros; simp (disch := omega) only [jst_eq, jst_ne, jst_ni, jst_o, jI_i, jcpy_out, w32_id, jdiv_nn] at * <;> first | done | omega | assumption) | (intros; first | rfl | (exfalso; omega) | ((repeat' apply And.intro) <;> first | assumption | rfl | omega | trivial))))) (fun v21 r1 => ?_)
      try dsimp only [Sum.elim_inl, Sum.elim_inr, jt2, jt3, jt4, jt5, jt6, jt7, jt8] at r1
      have vv1 := r1
      clear r1
      try simp (disch := omega) only [jst_eq, jst_ne, jst_ni, jI_i, jcmp_lt, jcmp_gt, w32_id, jcpy_out, Sum.elim_inl, Sum.elim_inr, jt2, jt3, jt4, jt5, jt6, jt7, jt8] at vv1
      refine OK_jg (by (first | assumption | omega | ((try dsimp only [jt2, jt3, jt4]); first | omega | (simp (disch := omega) only [jst_eq, jst_ne, jst_ni, jst_o, jI_i, jcpy_out, w32_id, jdiv_nn, jshr_k, jand_255] <;> first | done | omega | assumption)) | (intros; simp (disch := omega) only [jst_eq, jst_ne, jst_ni, jst_o, jI_i, jcpy_out, w32_id, jdiv_nn, *] <;> first | done | omega) | (intros; simp (disch := omega) only [jst_eq, jst_ne, jst_ni, jst_o, jI_i, jcpy_out, w32_id, jdiv_nn] at * <;> first | done | omega | assumption) | (intros; first | rfl | (exfalso; omega) | ((repeat' apply And.intro) <;> first | assumption | rfl | omega | trivial)))) ?_ -- o6
      refine OK_jl ?_
      refine OK_jlx (fun x23 ex23 => ?_)
      try simp (disch := omega) only [jst_eq, jst_ne, jst_ni, jI_i, jcmp_lt, jcmp_gt, w32_id, jcpy_out, Sum.elim_inl, Sum.elim_inr, jt2, jt3, jt4, jt5, jt6, jt7, jt8] at ex23
      refine OK_il ?_ ?_
      · try dsimp only [Sum.elim_inl, Sum.elim_inr, jt2, jt3, jt4, jt5, jt6, jt7, jt8]
        refine ⟨?_, ?_, ?_⟩
        · (first | assumption | omega | ((try dsimp only [jt2, jt3, jt4]); first | omega | (simp (disch := omega) only [jst_eq, jst_ne, jst_ni, jst_o, jI_i, jcpy_out, w32_id, jdiv_nn, jshr_k, jand_255] <;> first | done | omega | assumption)) | (intros; simp (disch := omega) only [jst_eq, jst_ne, jst_ni, jst_o, jI_i, jcpy_out, w32_id, jdiv_nn, *] <;> first | done | omega) | (intros; simp (disch := omega) only [jst_eq, jst_ne, jst_ni, jst_o, jI_i, jcpy_out, w32_id, jdiv_nn] at * <;> first | done | omega | assumption) | (intros; first | rfl | (exfalso; omega) | ((repeat' apply And.intro) <;> first | assumption | rfl | omega | trivial))) -- o7 e2i.1
        · (intro k k0 k1; rw [jst_at]; by_cases y : k = a5; { rw [if_pos y, vv1, y] }; { rw [if_neg y]; exact q1 k k0 (by omega) }) -- o8 e2i.2
        · (intro a s y; rw [jst_o (by omega)]; exact fr a s y) -- o9 e2i.3
      · (first | assumption | omega | ((try dsimp only [jt2, jt3, jt4]); first | omega | (simp (disch := omega) only [jst_eq, jst_ne, jst_ni, jst_o, jI_i, jcpy_out, w32_id, jdiv_nn, jshr_k, jand_255] <;> first | done | omega | assumption)) | (intros; simp (disch := omega) only [jst_eq, jst_ne, jst_ni, jst_o, jI_i, jcpy_out, w32_id, jdiv_nn, *] <;> first | done | omega) | (intros; simp (disch := omega) only [jst_eq, jst_ne, jst_ni, jst_o, jI_i, jcpy_out, w32_id, jdiv_nn] at * <;> first | done | omega | assumption) | (intros; first | rfl | (exfalso; omega) | ((repeat' apply And.intro) <;> first | assumption | rfl | omega | trivial))) -- o10 e2m
  · try dsimp only [Sum.elim_inl, Sum.elim_inr, jt2, jt3, jt4, jt5, jt6, jt7, jt8]
    refine ⟨?_, ?_, ?_⟩
    · (have := a.2.2.1; omega) -- o11 init.1
    · (first | assumption | omega | ((try dsimp only [jt2, jt3, jt4]); first | omega | (simp (disch := omega) only [jst_eq, jst_ne, jst_ni, jst_o, jI_i, jcpy_out, w32_id, jdiv_nn, jshr_k, jand_255] <;> first | done | omega | assumption)) | (intros; simp (disch := omega) only [jst_eq, jst_ne, jst_ni, jst_o, jI_i, jcpy_out, w32_id, jdiv_nn, *] <;> first | done | omega) | (intros; simp (disch := omega) only [jst_eq, jst_ne, jst_ni, jst_o, jI_i, jcpy_out, w32_id, jdiv_nn] at * <;> first | done | omega | assumption) | (intros; first | rfl | (exfalso; omega) | ((repeat' apply And.intro) <;> first | assumption | rfl | omega | trivial))) -- o12 init.2
    · (first | assumption | omega | ((try dsimp only [jt2, jt3, jt4]); first | omega | (simp (disch := omega) only [jst_eq, jst_ne, jst_ni, jst_o, jI_i, jcpy_out, w32_id, jdiv_nn, jshr_k, jand_255] <;> first | done | omega | assumption)) | (intros; simp (disch := omega) only [jst_eq, jst_ne, jst_ni, jst_o, jI_i, jcpy_out, w32_id, jdiv_nn, *] <;> first | done | omega) | (intros; simp (disch := omega) only [jst_eq, jst_ne, jst_ni, jst_o, jI_i, jcpy_out, w32_id, jdiv_nn] at * <;> first | done | omega | assumption) | (intros; first | rfl | (exfalso; omega) | ((repeat' apply And.intro) <;> first | assumption | rfl | omega | trivial))) -- o13 init.3
theorem vX1_meetsWith_l3 (i1 : Int) (i2 : Int) (i3 : Int) (a40 : Int) {h0 : AH} {E : EV} {Rf : Int → TR} {W : Int → Int → Int → VW} {f : Int → Int → Int → Int} {N n wh pts : Int} {kf rv hl rw : Int → Int} {Rk : Int → TR} (a : pkX h0 n kf wh rv pts) (e : enX0 h0 E Rf W ∧ E.2.2.1 = 0) (c : capX h0 324 N) (vw : ∀ k, 0 ≤ k → k < pts → vwX h0 324 N i2 (rw k) (Rk k) i1 0 ∧ tyT E n kf (Rk k) 0 ∧ dpE E.1.2.2.2.1 (Rk k) ≤ 100) (rw1 : 0 ≤ i3 ∧ i3 < 121 ∧ ∀ k, 0 ≤ k → k < pts → h0 312 (256 * i3 + k) = rw k) (hh : ∀ c, 0 ≤ c → c ≤ 2 → h0 270 c = hl c ∧ 0 ≤ hl c ∧ hl c ≤ 15) (zb : -2147483648 ≤ h0 200 10 ∧ h0 200 10 < 2147483648) (z : a40 = 0) : OK (gX1_meetsWith_l3 i1 i2 i3 a40 h0) (fun h' => (∀ k, 0 ≤ k → k < pts → h' 323 k = (evT W f (pvA n kf wh rv k) hl (Rk k)).1) ∧ (f912 h0 h') ∧ (-2147483648 ≤ h' 200 10 ∧ h' 200 10 < 2147483648)) := by
  unfold gX1_meetsWith_l3
  refine OK_jit (I := (fun (s : Int × AH) => jt2 s fun a4 h => (0 ≤ a4 ∧ a4 ≤ pts) ∧ (∀ k, 0 ≤ k → k < a4 → h 323 k = (evT W f (pvA n kf wh rv k) hl (Rk k)).1) ∧ (f912 h0 h) ∧ (-2147483648 ≤ h 200 10 ∧ h 200 10 < 2147483648))) (m := (fun (s : Int × AH) => jt2 s fun a4 h => (pts - a4).toNat)) ?_ ?_
  · intro s hs
    obtain ⟨a4, h⟩ := s
    dsimp only [Sum.elim_inl, Sum.elim_inr, jt2, jt3, jt4, jt5, jt6, jt7, jt8] at hs
    obtain ⟨q0, q1, fr, b⟩ := hs
    unfold gX1_meetsWith_b3
    refine OK_jt2 ?_
    have A := pkX_f9 a fr
    have x4 : h 200 16 = 271 ∨ h 200 16 = 289 := A.1
    have p10 := a.2.2.2.2.2.2.2.2.2.1
    have n1 := A.2.2.1
    have e18 := A.2.2.2.2.2.2.2.1
    have e31 : w32 (i3 * 256) = 256 * i3 := by { rw [w32_id (by omega) (by omega)]; omega }
    have iw : a4 < 256 → w32 (w32 (i3 * 256) + a4) = 256 * i3 + a4 := fun y => by { rw [e31, w32_id (by omega) (by omega)] }
    refine OK_if (fun c1 => ?_) (fun c1 => ?_)
    · skip
      try simp (disch := omega) only [jst_eq, jst_ne, jst_ni, jI_i, jcmp_lt, jcmp_gt, w32_id, jcpy_out, Sum.elim_inl, Sum.elim_inr, jt2, jt3, jt4, jt5, jt6, jt7, jt8] at c1
      refine OK_ir ?_
      try dsimp only [Sum.elim_inl, Sum.elim_inr, jt2, jt3, jt4, jt5, jt6, jt7, jt8]
      refine ⟨?_, ?_, ?_⟩
      · (intro p x0 x1; exact q1 p x0 (by omega)) -- o1 e1.1
      · (first | assumption | omega | ((try dsimp only [jt2, jt3, jt4]); first | omega | (simp (disch := omega) only [jst_eq, jst_ne, jst_ni, jst_o, jI_i, jcpy_out, w32_id, jdiv_nn, jshr_k, jand_255] <;> first | done | omega | assumption)) | (intros; simp (disch := omega) only [jst_eq, jst_ne, jst_ni, jst_o, jI_i, jcpy_out, w32_id, jdiv_nn, *] <;> first | done | omega) | (intros; simp (disch := omega) only [jst_eq, jst_ne, jst_ni, jst_o, jI_i, jcpy_out, w32_id, jdiv_nn] at * <;> first | done | omega | assumption) | (intros; first | rfl | (exfalso; omega) | ((repeat' apply And.intro) <;> first | assumption | rfl | omega | trivial))) -- o2 e1.2
      · (first | assumption | omega | ((try dsimp only [jt2, jt3, jt4]); first | omega | (simp (disch := omega) only [jst_eq, jst_ne, jst_ni, jst_o, jI_i, jcpy_out, w32_id, jdiv_nn, jshr_k, jand_255] <;> first | done | omega | assumption)) | (intros; simp (disch := omega) only [jst_eq, jst_ne, jst_ni, jst_o, jI_i, jcpy_out, w32_id, jdiv_nn, *] <;> first | done | omega) | (intros; simp (disch := omega) only [jst_eq, jst_ne, jst_ni, jst_o, jI_i, jcpy_out, w32_id, jdiv_nn] at * <;> first | done | omega | assumption) | (intros; first | rfl | (exfalso; omega) | ((repeat' apply And.intro) <;> first | assumption | rfl | omega | trivial))) -- o3 e1.3
    · skip
      try simp (disch := omega) only [jst_eq, jst_ne, jst_ni, jI_i, jcmp_lt, jcmp_gt, w32_id, jcpy_out, Sum.elim_inl, Sum.elim_inr, jt2, jt3, jt4, jt5, jt6, jt7, jt8] at c1
      have VK := vw a4 q0.1 (by omega)
      have iw2 := iw (by omega)
      refine OK_jb (vX1_meetsWith_l18 (n := n) (pts := pts) (wh := wh) (kf := kf) (rv := rv) _ _ _ _ _ (by exact A) (by (first | assumption | omega | ((try dsimp only [jt2, jt3, jt4]); first | omega | (simp (disch := omega) only [jst_eq, jst_ne, jst_ni, jst_o, jI_i, jcpy_out, w32_id, jdiv_nn, jshr_k, jand_255] <;> first | done | omega | assumption)) | (intros; simp (disch := omega) only [jst_eq, jst_ne, jst_ni, jst_o, jI_i, jcpy_out, w32_id, jdiv_nn, *] <;> first | done | omega) | (intros; simp (disch := omega) only [jst_eq, jst_ne, jst_ni, jst_o, jI_i, jcpy_out, w32_id, jdiv_nn] at * <;> first | done | omega | assumption) | (intros; first | rfl | (exfalso; omega) | ((repeat' apply And.intro) <;> first | assumption | rfl | omega | trivial)))) (by (first | assumption | omega | ((try dsimp only [jt2, jt3, jt4]); first | omega | (simp (disch := omega) only [jst_eq, jst_ne, jst_ni, jst_o, jI_i, jcpy_out, w32_id, jdiv_nn, jshr_k, jand_255] <;> first | done | omega | assumption)) | (intros; simp (disch := omega) only [jst_eq, jst_ne, jst_ni, jst_o, jI_i, jcpy_out, w32_id, jdiv_nn, *] <;> first | done | omega) | (intros; simp (disch := omega) only [jst_eq, jst_ne, jst_ni, jst_o, jI_i, jcpy_out, w32_id, jdiv_nn] at * <;> first | done | omega | assumption) | (intros; first | rfl | (exfalso; omega) | ((repeat' apply And.intro) <;> first | assumption | rfl | omega | trivial))))) (fun o9 r1 => ?_)
      try dsimp only [Sum.elim_inl, Sum.elim_inr, jt2, jt3, jt4, jt5, jt6, jt7, jt8] at r1
      obtain ⟨cs1, fs1⟩ := r1
      try simp (disch := omega) only [jst_eq, jst_ne, jst_ni, jI_i, jcmp_lt, jcmp_gt, w32_id, jcpy_out, Sum.elim_inl, Sum.elim_inr, jt2, jt3, jt4, jt5, jt6, jt7, jt8] at cs1
      try simp (disch := omega) only [jst_eq, jst_ne, jst_ni, jI_i, jcmp_lt, jcmp_gt, w32_id, jcpy_out, Sum.elim_inl, Sum.elim_inr, jt2, jt3, jt4, jt5, jt6, jt7, jt8] at fs1
      refine OK_jl ?_
      refine OK_jl ?_
      refine OK_jg (by (first | assumption | omega | ((try dsimp only [jt2, jt3, jt4]); first | omega | (simp (disch := omega) only [jst_eq, jst_ne, jst_ni, jst_o, jI_i, jcpy_out, w32_id, jdiv_nn, jshr_k, jand_255] <;> first | done | omega | assumption)) | (intros; simp (disch := omega) only [jst_eq, jst_ne, jst_ni, jst_o, jI_i, jcpy_out, w32_id, jdiv_nn, *] <;> first | done | omega) | (intros; simp (disch := omega) only [jst_eq, jst_ne, jst_ni, jst_o, jI_i, jcpy_out, w32_id, jdiv_nn] at * <;> first | done | omega | assumption) | (intros; first | rfl | (exfalso; omega) | ((repeat' apply And.intro) <;> first | assumption | rfl | omega | trivial)))) ?_ -- o7
      refine OK_jl ?_
      rw [iw2]
      have F7 : f912 h (jst (jst (jst o9 200 9 (o9 (o9 200 16) 1)) 200 11 i2) 200 12 ((jst (jst o9 200 9 (o9 (o9 200 16) 1)) 200 11 i2) 312 (256 * i3 + a4))) := fun a s y1 y2 y3 => by { rw [jst_o (by omega), jst_o (by omega), jst_o (by omega)]; exact fs1 a s y2 }
      have C9 : jst (jst (jst o9 200 9 (o9 (o9 200 16) 1)) 200 11 i2) 200 12 ((jst (jst o9 200 9 (o9 (o9 200 16) 1)) 200 11 i2) 312 (256 * i3 + a4)) 200 9 = n := by { rw [jst_o (by omega), jst_o (by omega), jst_eq, fs1 200 16 (by omega), fs1 _ _ (by omega)]; exact A.2.1 }
      have C11 : jst (jst (jst o9 200 9 (o9 (o9 200 16) 1)) 200 11 i2) 200 12 ((jst (jst o9 200 9 (o9 (o9 200 16) 1)) 200 11 i2) 312 (256 * i3 + a4)) 200 11 = i2 := by { rw [jst_o (by omega)]; exact jst_eq }
      have C12 : jst (jst (jst o9 200 9 (o9 (o9 200 16) 1)) 200 11 i2) 200 12 ((jst (jst o9 200 9 (o9 (o9 200 16) 1)) 200 11 i2) 312 (256 * i3 + a4)) 200 12 = rw a4 := by { rw [jst_eq, jst_o (by omega), jst_o (by omega), fs1 _ _ (by omega), fr _ _ (by omega) (by omega) (by omega)]; exact rw1.2.2 a4 q0.1 (by omega) }
      have C10 : jst (jst (jst o9 200 9 (o9 (o9 200 16) 1)) 200 11 i2) 200 12 ((jst (jst o9 200 9 (o9 (o9 200 16) 1)) 200 11 i2) 312 (256 * i3 + a4)) 200 10 = h 200 10 := by { rw [jst_o (by omega), jst_o (by omega), jst_o (by omega)]; exact fs1 _ _ (by omega) }
      have C269 : ∀ k, 0 ≤ k → k < n → jst (jst (jst o9 200 9 (o9 (o9 200 16) 1)) 200 11 i2) 200 12 ((jst (jst o9 200 9 (o9 (o9 200 16) 1)) 200 11 i2) 312 (256 * i3 + a4)) 269 k = pvA n kf wh rv a4 k := fun k k0 k1 => by { rw [jst_o (by omega), jst_o (by omega), jst_o (by omega)]; exact cs1 k k0 k1 }
      have C323 : ∀ k, jst (jst (jst o9 200 9 (o9 (o9 200 16) 1)) 200 11 i2) 200 12 ((jst (jst o9 200 9 (o9 (o9 200 16) 1)) 200 11 i2) 312 (256 * i3 + a4)) 323 k = h 323 k := fun k => by { rw [jst_o (by omega), jst_o (by omega), jst_o (by omega)]; exact fs1 _ _ (by omega) }
      generalize e13 : jst (jst (jst o9 200 9 (o9 (o9 200 16) 1)) 200 11 i2) 200 12 ((jst (jst o9 200 9 (o9 (o9 200 16) 1)) 200 11 i2) 312 (256 * i3 + a4)) = hq at *
      have G := f912_tr fr F7
      have d0 := dpE_0 e.1.2.2.2.2.2 (Rk a4)
      refine OK_jb2 (vX1_work (E := E) (Rf := Rf) (W := W) (f := f) (N := N) (w := i2) (wv := rw a4) (np := n) (kp := kf) (p := pvA n kf wh rv a4) (hl := hl) (R := Rk a4) _ _ _ (by exact ⟨enX_0 (enX0_f9 e.1 G) e.2, capX_fr c (fun a a0 a1 => G _ _ (by omega) (by omega) (by omega)), vwX_fr (fun a s y => G _ _ (by omega) (by omega) (by omega)) VK.1, VK.2.1, C11, Or.inr ⟨rfl, C12⟩, by decide, by rw [C9]; omega, by rw [C9]; have := A.2.2.2.1; have := VK.2.2; omega, by have := A.2.2.1; omega, fun c c0 c1 => ⟨by rw [Int.zero_add]; exact C269 c c0 c1, A.2.2.2.2.2.2.2.2.2.2.2 a4 c q0.1 (by omega) c0 c1⟩, fun c c0 c1 => by rw [G _ _ (by omega) (by omega) (by omega)]; exact hh c c0 c1, by rw [C10]; exact b.1, by rw [C10]; exact b.2⟩) (by exact VK.2.2)) (fun v15 h16 r2 => ?_)
      try dsimp only [Sum.elim_inl, Sum.elim_inr, jt2, jt3, jt4, jt5, jt6, jt7, jt8] at r2
      obtain ⟨ev2, pe2⟩ := r2
      try simp (disch := omega) only [jst_eq, jst_ne, jst_ni, jI_i, jcmp_lt, jcmp_gt, w32_id, jcpy_out, Sum.elim_inl, Sum.elim_inr, jt2, jt3, jt4, jt5, jt6, jt7, jt8] at ev2
      try simp (disch := omega) only [jst_eq, jst_ne, jst_ni, jI_i, jcmp_lt, jcmp_gt, w32_id, jcpy_out, Sum.elim_inl, Sum.elim_inr, jt2, jt3, jt4, jt5, jt6, jt7, jt8] at pe2
      have wr := w32_r (hq 200 10 + (evT W f (pvA n kf wh rv a4) hl (Rk a4)).2)
      have P10 := pe2.1
      refine OK_jg (by (first | assumption | omega | ((try dsimp only [jt2, jt3, jt4]); first | omega | (simp (disch := omega) only [jst_eq, jst_ne, jst_ni, jst_o, jI_i, jcpy_out, w32_id, jdiv_nn, jshr_k, jand_255] <;> first | done | omega | assumption)) | (intros; simp (disch := omega) only [jst_eq, jst_ne, jst_ni, jst_o, jI_i, jcpy_out, w32_id, jdiv_nn, *] <;> first | done | omega) | (intros; simp (disch := omega) only [jst_eq, jst_ne, jst_ni, jst_o, jI_i, jcpy_out, w32_id, jdiv_nn] at * <;> first | done | omega | assumption) | (intros; first | rfl | (exfalso; omega) | ((repeat' apply And.intro) <;> first | assumption | rfl | omega | trivial)))) ?_ -- o10
      refine OK_jl ?_
      refine OK_jlx (fun x18 ex18 => ?_)
      try simp (disch := omega) only [jst_eq, jst_ne, jst_ni, jI_i, jcmp_lt, jcmp_gt, w32_id, jcpy_out, Sum.elim_inl, Sum.elim_inr, jt2, jt3, jt4, jt5, jt6, jt7, jt8] at ex18
      refine OK_il ?_ ?_
      · try dsimp only [Sum.elim_inl, Sum.elim_inr, jt2, jt3, jt4, jt5, jt6, jt7, jt8]
        refine ⟨?_, ?_, ?_, ?_⟩
        · (first | assumption | omega | ((try dsimp only [jt2, jt3, jt4]); first | omega | (simp (disch := omega) only [jst_eq, jst_ne, jst_ni, jst_o, jI_i, jcpy_out, w32_id, jdiv_nn, jshr_k, jand_255] <;> first | done | omega | assumption)) | (intros; simp (disch := omega) only [jst_eq, jst_ne, jst_ni, jst_o, jI_i, jcpy_out, w32_id, jdiv_nn, *] <;> first | done | omega) | (intros; simp (disch := omega) only [jst_eq, jst_ne, jst_ni, jst_o, jI_i, jcpy_out, w32_id, jdiv_nn] at * <;> first | done | omega | assumption) | (intros; first | rfl | (exfalso; omega) | ((repeat' apply And.intro) <;> first | assumption | rfl | omega | trivial))) -- o11 e2i.1
        · (intro p x0 x1; rw [jst_at]; by_cases y : p = a4; { rw [if_pos y, y]; exact ev2 }; { rw [if_neg y, pe2.2 _ _ (by omega) (by omega), C323]; exact q1 p x0 (by omega) }) -- o12 e2i.2
        · (intro a s y1 y2 y3; rw [jst_o (by omega), pe2.2 a s (by omega) (by omega)]; exact G a s y1 y2 y3) -- o13 e2i.3
        · (rw [jst_o (by omega), P10]; exact wr) -- o14 e2i.4
      · (first | assumption | omega | ((try dsimp only [jt2, jt3, jt4]); first | omega | (simp (disch := omega) only [jst_eq, jst_ne, jst_ni, jst_o, jI_i, jcpy_out, w32_id, jdiv_nn, jshr_k, jand_255] <;> first | done | omega | assumption)) | (intros; simp (disch := omega) only [jst_eq, jst_ne, jst_ni, jst_o, jI_i, jcpy_out, w32_id, jdiv_nn, *] <;> first | done | omega) | (intros; simp (disch := omega) only [jst_eq, jst_ne, jst_ni, jst_o, jI_i, jcpy_out, w32_id, jdiv_nn] at * <;> first | done | omega | assumption) | (intros; first | rfl | (exfalso; omega) | ((repeat' apply And.intro) <;> first | assumption | rfl | omega | trivial))) -- o15 e2m
  · try dsimp only [Sum.elim_inl, Sum.elim_inr, jt2, jt3, jt4, jt5, jt6, jt7, jt8]
    refine ⟨?_, ?_, ?_, ?_⟩
    · (have := a.2.2.2.2.2.2.2.2.1; omega) -- o16 init.1
    · (first | assumption | omega | ((try dsimp only [jt2, jt3, jt4]); first | omega | (simp (disch := omega) only [jst_eq, jst_ne, jst_ni, jst_o, jI_i, jcpy_out, w32_id, jdiv_nn, jshr_k, jand_255] <;> first | done | omega | assumption)) | (intros; simp (disch := omega) only [jst_eq, jst_ne, jst_ni, jst_o, jI_i, jcpy_out, w32_id, jdiv_nn, *] <;> first | done | omega) | (intros; simp (disch := omega) only [jst_eq, jst_ne, jst_ni, jst_o, jI_i, jcpy_out, w32_id, jdiv_nn] at * <;> first | done | omega | assumption) | (intros; first | rfl | (exfalso; omega) | ((repeat' apply And.intro) <;> first | assumption | rfl | omega | trivial))) -- o17 init.2
    · exact fun _ _ _ _ _ => rfl -- o18 init.3
    · (first | assumption | omega | ((try dsimp only [jt2, jt3, jt4]); first | omega | (simp (disch := omega) only [jst_eq, jst_ne, jst_ni, jst_o, jI_i, jcpy_out, w32_id, jdiv_nn, jshr_k, jand_255] <;> first | done | omega | assumption)) | (intros; simp (disch := omega) only [jst_eq, jst_ne, jst_ni, jst_o, jI_i, jcpy_out, w32_id, jdiv_nn, *] <;> first | done | omega) | (intros; simp (disch := omega) only [jst_eq, jst_ne, jst_ni, jst_o, jI_i, jcpy_out, w32_id, jdiv_nn] at * <;> first | done | omega | assumption) | (intros; first | rfl | (exfalso; omega) | ((repeat' apply And.intro) <;> first | assumption | rfl | omega | trivial))) -- o19 init.4
theorem vX1_meetsWith (a1 : Int) (a2 : Int) (a3 : Int) {h : AH} {E : EV} {Rf : Int → TR} {W : Int → Int → Int → VW} {f : Int → Int → Int → Int} {hl ra : Int → Int} {n wh pts rn ln : Int} {kf rv nn : Int → Int} {lk : Int → Int → Int} {LL LR : Int → TR} {N : Int} {rw : Int → Int} {Rk : Int → TR} {E1 : EV} {Rf1 : Int → TR} {W1 : Int → Int → Int → VW} {g : Int → Int} (m : mtX h E1 Rf1 W1 hl n kf wh rv pts rn ra ln nn lk LL LR) (a : pkX h n kf wh rv pts) (e : enX0 h E Rf W ∧ E.2.2.1 = 0) (c : capX h 324 N) (vw : ∀ k, 0 ≤ k → k < pts → vwX h 324 N a2 (rw k) (Rk k) a1 0 ∧ tyT E n kf (Rk k) 0 ∧ dpE E.1.2.2.2.1 (Rk k) ≤ 100) (rw1 : 0 ≤ a3 ∧ a3 < 121 ∧ ∀ k, 0 ≤ k → k < pts → h 312 (256 * a3 + k) = rw k) (g1 : ∀ k, 0 ≤ k → k < pts → g k = (evT W f (pvA n kf wh rv k) hl (Rk k)).1) (o : E1.2.2.1 = 1 → ∀ p, 0 ≤ p → p < pts → okV (eK E1 (-2) (eO E1 (-2))) (g p)) (l3 : h 323 (-2) = 101 ∧ h 323 (-1) = 256) : OK (gX1_meetsWith a1 a2 a3 h) (fun r => jt2 r fun v h' => ((v = 1 ∧ mtA E1 W1 hl rn (rpA n kf wh rv) ra ln nn lk LL LR g) ∨ (v = 0 ∧ ¬ mtA E1 W1 hl rn (rpA n kf wh rv) ra ln nn lk LL LR g)) ∧ (f912 h h' ∧ -2147483648 ≤ h' 200 10 ∧ h' 200 10 < 2147483648)) := by
  unfold gX1_meetsWith
  refine OK_jb (vX1_meetsWith_l3 (E := E) (Rf := Rf) (W := W) (f := f) (N := N) (n := n) (wh := wh) (pts := pts) (kf := kf) (rv := rv) (hl := hl) (rw := rw) (Rk := Rk) _ _ _ _ (by (first | assumption | omega | ((try dsimp only [jt2, jt3, jt4]); first | omega | (simp (disch := omega) only [jst_eq, jst_ne, jst_ni, jst_o, jI_i, jcpy_out, w32_id, jdiv_nn, jshr_k, jand_255] <;> first | done | omega | assumption)) | (intros; simp (disch := omega) only [jst_eq, jst_ne, jst_ni, jst_o, jI_i, jcpy_out, w32_id, jdiv_nn, *] <;> first | done | omega) | (intros; simp (disch := omega) only [jst_eq, jst_ne, jst_ni, jst_o, jI_i, jcpy_out, w32_id, jdiv_nn] at * <;> first | done | omega | assumption) | (intros; first | rfl | (exfalso; omega) | ((repeat' apply And.intro) <;> first | assumption | rfl | omega | trivial)))) (by (first | assumption | omega | ((try dsimp only [jt2, jt3, jt4]); first | omega | (simp (disch := omega) only [jst_eq, jst_ne, jst_ni, jst_o, jI_i, jcpy_out, w32_id, jdiv_nn, jshr_k, jand_255] <;> first | done | omega | assumption)) | (intros; simp (disch := omega) only [jst_eq, jst_ne, jst_ni, jst_o, jI_i, jcpy_out, w32_id, jdiv_nn, *] <;> first | done | omega) | (intros; simp (disch := omega) only [jst_eq, jst_ne, jst_ni, jst_o, jI_i, jcpy_out, w32_id, jdiv_nn] at * <;> first | done | omega | assumption) | (intros; first | rfl | (exfalso; omega) | ((repeat' apply And.intro) <;> first | assumption | rfl | omega | trivial)))) (by (first | assumption | omega | ((try dsimp only [jt2, jt3, jt4]); first | omega | (simp (disch := omega) only [jst_eq, jst_ne, jst_ni, jst_o, jI_i, jcpy_out, w32_id, jdiv_nn, jshr_k, jand_255] <;> first | done | omega | assumption)) | (intros; simp (disch := omega) only [jst_eq, jst_ne, jst_ni, jst_o, jI_i, jcpy_out, w32_id, jdiv_nn, *] <;> first | done | omega) | (intros; simp (disch := omega) only [jst_eq, jst_ne, jst_ni, jst_o, jI_i, jcpy_out, w32_id, jdiv_nn] at * <;> first | done | omega | assumption) | (intros; first | rfl | (exfalso; omega) | ((repeat' apply And.intro) <;> first | assumption | rfl | omega | trivial)))) (by (first | assumption | omega | ((try dsimp only [jt2, jt3, jt4]); first | omega | (simp (disch := omega) only [jst_eq, jst_ne, jst_ni, jst_o, jI_i, jcpy_out, w32_id, jdiv_nn, jshr_k, jand_255] <;> first | done | omega | assumption)) | (intros; simp (disch := omega) only [jst_eq, jst_ne, jst_ni, jst_o, jI_i, jcpy_out, w32_id, jdiv_nn, *] <;> first | done | omega) | (intros; simp (disch := omega) only [jst_eq, jst_ne, jst_ni, jst_o, jI_i, jcpy_out, w32_id, jdiv_nn] at * <;> first | done | omega | assumption) | (intros; first | rfl | (exfalso; omega) | ((repeat' apply And.intro) <;> first | assumption | rfl | omega | trivial)))) (by (first | assumption | omega | ((try dsimp only [jt2, jt3, jt4]); first | omega | (simp (disch := omega) only [jst_eq, jst_ne, jst_ni, jst_o, jI_i, jcpy_out, w32_id, jdiv_nn, jshr_k, jand_255] <;> first | done | omega | assumption)) | (intros; simp (disch := omega) only [jst_eq, jst_ne, jst_ni, jst_o, jI_i, jcpy_out, w32_id, jdiv_nn, *] <;> first | done | omega) | (intros; simp (disch := omega) only [jst_eq, jst_ne, jst_ni, jst_o, jI_i, jcpy_out, w32_id, jdiv_nn] at * <;> first | done | omega | assumption) | (intros; first | rfl | (exfalso; omega) | ((repeat' apply And.intro) <;> first | assumption | rfl | omega | trivial)))) (by exact m.1.2.2.2.1) (by exact m.1.2.2.2.2) (by (first | assumption | omega | ((try dsimp only [jt2, jt3, jt4]); first | omega | (simp (disch := omega) only [jst_eq, jst_ne, jst_ni, jst_o, jI_i, jcpy_out, w32_id, jdiv_nn, jshr_k, jand_255] <;> first | done | omega | assumption)) | (intros; simp (disch := omega) only [jst_eq, jst_ne, jst_ni, jst_o, jI_i, jcpy_out, w32_id, jdiv_nn, *] <;> first | done | omega) | (intros; simp (disch := omega) only [jst_eq, jst_ne, jst_ni, jst_o, jI_i, jcpy_out, w32_id, jdiv_nn] at * <;> first | done | omega | assumption) | (intros; first | rfl | (exfalso; omega) | ((repeat' apply And.intro) <;> first | assumption | rfl | omega | trivial))))) (fun o1 r1 => ?_)
  try dsimp only [Sum.elim_inl, Sum.elim_inr, jt2, jt3, jt4, jt5, jt6, jt7, jt8] at r1
  obtain ⟨an1, fs1, bs1⟩ := r1
  try simp (disch := omega) only [jst_eq, jst_ne, jst_ni, jI_i, jcmp_lt, jcmp_gt, w32_id, jcpy_out, Sum.elim_inl, Sum.elim_inr, jt2, jt3, jt4, jt5, jt6, jt7, jt8] at an1
  try simp (disch := omega) only [jst_eq, jst_ne, jst_ni, jI_i, jcmp_lt, jcmp_gt, w32_id, jcpy_out, Sum.elim_inl, Sum.elim_inr, jt2, jt3, jt4, jt5, jt6, jt7, jt8] at fs1
  try simp (disch := omega) only [jst_eq, jst_ne, jst_ni, jI_i, jcmp_lt, jcmp_gt, w32_id, jcpy_out, Sum.elim_inl, Sum.elim_inr, jt2, jt3, jt4, jt5, jt6, jt7, jt8] at bs1
  refine OK_jl ?_
  refine OK_jl ?_
  have F4 : f912 h (jst (jst o1 200 11 (-1)) 200 9 0) := fun a s y1 y2 y3 => by { rw [jst_o (by omega), jst_o (by omega)]; exact fs1 a s y1 y2 y3 }
  have C11 : jst (jst o1 200 11 (-1)) 200 9 0 200 11 = -1 := by { rw [jst_o (by omega)]; exact jst_eq }
  have C10 : jst (jst o1 200 11 (-1)) 200 9 0 200 10 = o1 200 10 := by rw [jst_o (by omega), jst_o (by omega)]
  have C323 : ∀ k, jst (jst o1 200 11 (-1)) 200 9 0 323 k = o1 323 k := fun k => by rw [jst_o (by omega), jst_o (by omega)]
  generalize e4 : jst (jst o1 200 11 (-1)) 200 9 0 = hq at *
  refine OK_jb2 (vX1_meet (E := E1) (Rf := Rf1) (W := W1) (hl := hl) (n := n) (kf := kf) (wh := wh) (rv := rv) (pts := pts) (rn := rn) (ra := ra) (ln := ln) (nn := nn) (lk := lk) (LL := LL) (LR := LR) (g := g) _ _ (by exact mtX_f9 m F4 C11 (by rw [C10]; exact bs1)) (by exact ⟨by rw [F4 _ _ (by omega) (by omega) (by omega)]; exact l3.1, by decide, by decide, by decide, by decide, by rw [F4 _ _ (by omega) (by omega) (by omega), l3.2]; have := a.2.2.2.2.2.2.2.2.2.1; omega, fun p p0 p1 => by rw [Int.zero_add, C323, an1 p p0 p1, g1 p p0 p1]⟩) (by exact o)) (fun v6 h7 r2 => ?_)
  try dsimp only [Sum.elim_inl, Sum.elim_inr, jt2, jt3, jt4, jt5, jt6, jt7, jt8] at r2
  obtain ⟨hv2, fs2⟩ := r2
  try simp (disch := omega) only [jst_eq, jst_ne, jst_ni, jI_i, jcmp_lt, jcmp_gt, w32_id, jcpy_out, Sum.elim_inl, Sum.elim_inr, jt2, jt3, jt4, jt5, jt6, jt7, jt8] at hv2
  try simp (disch := omega) only [jst_eq, jst_ne, jst_ni, jI_i, jcmp_lt, jcmp_gt, w32_id, jcpy_out, Sum.elim_inl, Sum.elim_inr, jt2, jt3, jt4, jt5, jt6, jt7, jt8] at fs2
  refine OK_jg (by (unfold jZ; rcases hv2 with z | z; { exact Or.inr z.1 }; { exact Or.inl z.1 })) ?_ -- o12
  refine OK_some ?_
  try dsimp only [Sum.elim_inl, Sum.elim_inr, jt2, jt3, jt4, jt5, jt6, jt7, jt8]
  try dsimp only [Sum.elim_inl, Sum.elim_inr, jt2, jt3, jt4, jt5, jt6, jt7, jt8]
  refine ⟨?_, ?_⟩
  · (first | assumption | omega | ((try dsimp only [jt2, jt3, jt4]); first | omega | (simp (disch := omega) only [jst_eq, jst_ne, jst_ni, jst_o, jI_i, jcpy_out, w32_id, jdiv_nn, jshr_k, jand_255] <;> first | done | omega | assumption)) | (intros; simp (disch := omega) only [jst_eq, jst_ne, jst_ni, jst_o, jI_i, jcpy_out, w32_id, jdiv_nn, *] <;> first | done | omega) | (intros; simp (disch := omega) only [jst_eq, jst_ne, jst_ni, jst_o, jI_i, jcpy_out, w32_id, jdiv_nn] at * <;> first | done | omega | assumption) | (intros; first | rfl | (exfalso; omega) | ((repeat' apply And.intro) <;> first | assumption | rfl | omega | trivial))) -- o13 e1.1
  · exact ⟨f912_tr F4 (fun a s y1 y2 y3 => fs2.1 a s (by omega) y2), fs2.2⟩ -- o14 e1.2

