/-! the fifth act: the table is made, and looked into -/
theorem TL_h {h h' : AH} {r1 r2 r3 : Int} (t : TL h r1 r2 r3) (f : ∀ a s, ((1078 ≤ a ∧ s < 0) ∨ (a = 454 ∧ 149 ≤ s ∧ s ≤ 151)) → h' a s = h a s) : TL h' r1 r2 r3 := by
  obtain ⟨⟨k1, k2, k3⟩, ⟨s1, s2, s3⟩, z1, z2, z3⟩ := t
  unfold TL
  rw [f 454 149 (by omega), f 454 150 (by omega), f 454 151 (by omega), f r1 (-2) (by omega), f r1 (-1) (by omega), f r2 (-2) (by omega), f r2 (-1) (by omega), f r3 (-2) (by omega), f r3 (-1) (by omega)]
  exact ⟨⟨k1, k2, k3⟩, ⟨s1, s2, s3⟩, z1, z2, z3⟩
theorem LTI_s {h h' : AH} {p1 p2 r1 r2 r3 lo k a : Int} {x : Nat} (pr : p1 < p2 ∧ p2 < r1 ∧ 1078 ≤ p1) (hx : x < 18) (kl : lo ≤ k) (w : LTI h p1 p2 r1 r2 r3 lo (18 * k + x)) (e : a = AL x (h p1 k) (h p2 k)) (c : lsC h h' r1 r2 r3 (h 454 152) a (32 * k + x)) : LTI h' p1 p2 r1 r2 r3 lo (18 * k + x + 1) ∧ frL r1 r2 r3 h h' := by
  obtain ⟨t, pl, m0, b, cc, d⟩ := w
  have tz := t.2.2
  have un : ∀ (k' : Int) (x' : Nat), x' < 18 → 18 * k' + x' < 18 * k + x + 1 → ¬ 18 * k' + x' < 18 * k + x → k' = k ∧ x' = x := fun k' x' y1 y2 y3 => by omega
  rcases c with ⟨e1, m, q0, q1, q2⟩ | ⟨e1, e2⟩ | ⟨e1, e2, ⟨c1, c2, c3, c4⟩, c5, c6⟩
  · subst e1
    refine ⟨⟨t, pl, m0, fun m y1 y2 => ?_, fun f k' x' y1 y2 y3 => ?_, d⟩, fun _ _ _ _ => rfl⟩
    · obtain ⟨k', x', z1, z2⟩ := b m y1 y2
      exact ⟨k', x', ⟨z1.1, z1.2.1, by omega⟩, z2⟩
    · by_cases y : 18 * k' + x' < 18 * k + x
      · exact cc f k' x' y1 y2 y
      · obtain ⟨u1, u2⟩ := un k' x' y2 y3 y
        subst u1
        subst u2
        exact ⟨m, q0, q1, by rw [q2]; exact e⟩
  · subst e2
    have f1 : ∀ p, p ≠ 454 → jst h 454 153 0 p = h p := fun p n => jst_f n
    refine ⟨⟨TL_h t (fun a s y => by rw [jst_o (by omega)]), ?_, by rw [jst_ni (by decide)]; exact m0, fun m y1 y2 => ?_, fun f => ?_, Or.inr ⟨jst_eq, by rw [jst_ni (by decide)]; exact e1⟩⟩, fun a s y1 y2 => by rw [jst_o (by omega)]⟩
    · unfold PL
      rw [jst_ni (by decide), f1 r3 (by omega), f1 r1 (by omega)]
      exact pl
    · rw [jst_ni (by decide)] at y2
      rw [f1 r1 (by omega), f1 r2 (by omega), f1 p1 (by omega), f1 p2 (by omega)]
      obtain ⟨k', x', z1, z2⟩ := b m y1 y2
      exact ⟨k', x', ⟨z1.1, z1.2.1, by omega⟩, z2⟩
    · rw [jst_eq] at f
      omega
  · have fr : frL r1 r2 r3 h h' := fun a' s y1 y2 => c6 a' s (by omega) (by omega) (by omega)
    have e3 : ∀ p, p < r1 → p ≠ 454 → h' p = h p := fun p n n2 => funext fun s => fr p s (by omega) (by omega)
    have er : ∀ m, 0 ≤ m → m < h 454 152 → h' r1 m = h r1 m ∧ h' r2 m = h r2 m := fun m y1 y2 => ⟨c6 _ _ (by omega) (by omega) (by omega), c6 _ _ (by omega) (by omega) (by omega)⟩
    have d1 : h 454 153 = 1 := by omega
    refine ⟨⟨TL_h t (fun a s y => fr a s (by omega) (by omega)), by rw [c3]; exact c5, by rw [c3]; omega, fun m y1 y2 => ?_, fun f k' x' y1 y2 y3 => ?_, Or.inl (by rw [c4]; exact d1)⟩, fr⟩
    · rw [c3] at y2
      rw [e3 p1 (by omega) (by omega), e3 p2 (by omega) (by omega)]
      by_cases y : m = h 454 152
      · rw [y, c1, c2]
        refine ⟨k, x, ⟨kl, hx, by omega⟩, rfl, e, fun k' x' z1 z2 z3 z4 => ?_⟩
        obtain ⟨m', u1, u2, u3⟩ := cc d1 k' x' z1 z2 z3
        exact e2 m' u1 u2 (by rw [u3]; exact z4)
      · rw [(er m y1 (by omega)).1, (er m y1 (by omega)).2]
        obtain ⟨k', x', z1, z2⟩ := b m y1 (by omega)
        exact ⟨k', x', ⟨z1.1, z1.2.1, by omega⟩, z2⟩
    · rw [e3 p1 (by omega) (by omega), e3 p2 (by omega) (by omega), c3]
      by_cases y : 18 * k' + x' < 18 * k + x
      · obtain ⟨m', u1, u2, u3⟩ := cc d1 k' x' y1 y2 y
        exact ⟨m', u1, by omega, by rw [(er m' u1 u2).1]; exact u3⟩
      · obtain ⟨u1, u2⟩ := un k' x' y2 y3 y
        subst u1
        subst u2
        exact ⟨h 454 152, m0.1, by omega, by rw [c1]; exact e⟩
theorem vX14_findLast_l70 (i1 : Int) (i2 : Int) (a30 : Int) (a50 : Int) {h : AH} {p1 p2 p3 p4 p8 : Int} {c : Nat} (hk : TK h p1 p2 p3 p4 p8) (hi : 0 ≤ i1 ∧ i1 < 111152 ∧ i2 = c ∧ c < 18) (hr : jr64 (h p1 i1) ∧ jr64 (h p2 i1)) (h0 : a30 = 0 ∧ a50 = 0) : OK (gX14_findLast_l70 i1 i2 a30 a50 h) (fun y => y = AL c (h p1 i1) (h p2 i1)) := by
  obtain ⟨⟨k1, k2, k3, k4, k8⟩, ⟨s1, s2, s3, s4, s8⟩, z1, z2, z3, z4, z8⟩ := hk
  unfold gX14_findLast_l70
  refine OK_jit (I := (fun (s : Int × Int) => jt2 s fun a3 a5 => (0 ≤ a5 ∧ a5 ≤ 16) ∧ (jr64 a3 ∧ ∀ j, j < 16 → nb (uL a3) j = if j < a5.toNat then qA c (nb (uL (h p1 i1)) j) (nb (uL (h p2 i1)) j) else 0))) (m := (fun (s : Int × Int) => jt2 s fun a3 a5 => (16 - a5).toNat)) ?_ ?_
  · intro s hs
    obtain ⟨a3, a5⟩ := s
    dsimp only [Sum.elim_inl, Sum.elim_inr, jt2, jt3, jt4, jt5, jt6, jt7, jt8] at hs
    obtain ⟨q0, q1⟩ := hs
    unfold gX14_findLast_b70
    refine OK_jt2 ?_
    rw [k1, k2]
    refine OK_if (fun c1 => ?_) (fun c1 => ?_)
    · skip
      try simp (disch := omega) only [jst_eq, jst_ne, jst_ni, jI_i, jcmp_lt, jcmp_gt, w32_id, jcpy_out, Sum.elim_inl, Sum.elim_inr, jt2, jt3, jt4, jt5, jt6, jt7, jt8] at c1
      refine OK_ir ?_
      (have e16 : a5.toNat = 16 := (by omega); rw [e16] at q1; exact orS_e q1.1 (AL_r hr.1 hr.2) q1.2 (fun j l => AL_n hi.2.2.2 _ _ l)) -- o1 e1
    · skip
      try simp (disch := omega) only [jst_eq, jst_ne, jst_ni, jI_i, jcmp_lt, jcmp_gt, w32_id, jcpy_out, Sum.elim_inl, Sum.elim_inr, jt2, jt3, jt4, jt5, jt6, jt7, jt8] at c1
      refine OK_jg (by (first | assumption | omega | ((try dsimp only [jt2, jt3, jt4]); first | omega | (simp (disch := omega) only [jst_eq, jst_ne, jst_ni, jst_o, jI_i, jcpy_out, w32_id, jdiv_nn, jshr_k, jand_255] <;> first | done | omega | assumption)) | (intros; simp (disch := omega) only [jst_eq, jst_ne, jst_ni, jst_o, jI_i, jcpy_out, w32_id, jdiv_nn, *] <;> first | done | omega) | (intros; simp (disch := omega) only [jst_eq, jst_ne, jst_ni, jst_o, jI_i, jcpy_out, w32_id, jdiv_nn] at * <;> first | done | omega | assumption) | (intros; first | rfl | (exfalso; omega) | ((repeat' apply And.intro) <;> first | assumption | rfl | omega | trivial)))) ?_ -- o2
      refine OK_jb (vX14_nibble _ _ (by exact hr.1) (by (first | assumption | omega | ((try dsimp only [jt2, jt3, jt4]); first | omega | (simp (disch := omega) only [jst_eq, jst_ne, jst_ni, jst_o, jI_i, jcpy_out, w32_id, jdiv_nn, jshr_k, jand_255] <;> first | done | omega | assumption)) | (intros; simp (disch := omega) only [jst_eq, jst_ne, jst_ni, jst_o, jI_i, jcpy_out, w32_id, jdiv_nn, *] <;> first | done | omega) | (intros; simp (disch := omega) only [jst_eq, jst_ne, jst_ni, jst_o, jI_i, jcpy_out, w32_id, jdiv_nn] at * <;> first | done | omega | assumption) | (intros; first | rfl | (exfalso; omega) | ((repeat' apply And.intro) <;> first | assumption | rfl | omega | trivial))))) (fun v24 r1 => ?_)
      try dsimp only [Sum.elim_inl, Sum.elim_inr, jt2, jt3, jt4, jt5, jt6, jt7, jt8] at r1
      have v1 := r1
      clear r1
      try simp (disch := omega) only [jst_eq, jst_ne, jst_ni, jI_i, jcmp_lt, jcmp_gt, w32_id, jcpy_out, Sum.elim_inl, Sum.elim_inr, jt2, jt3, jt4, jt5, jt6, jt7, jt8] at v1
      refine OK_jg (by (first | assumption | omega | ((try dsimp only [jt2, jt3, jt4]); first | omega | (simp (disch := omega) only [jst_eq, jst_ne, jst_ni, jst_o, jI_i, jcpy_out, w32_id, jdiv_nn, jshr_k, jand_255] <;> first | done | omega | assumption)) | (intros; simp (disch := omega) only [jst_eq, jst_ne, jst_ni, jst_o, jI_i, jcpy_out, w32_id, jdiv_nn, *] <;> first | done | omega) | (intros; simp (disch := omega) only [jst_eq, jst_ne, jst_ni, jst_o, jI_i, jcpy_out, w32_id, jdiv_nn] at * <;> first | done | omega | assumption) | (intros; first | rfl | (exfalso; omega) | ((repeat' apply And.intro) <;> first | assumption | rfl | omega | trivial)))) ?_ -- o5
      refine OK_jb (vX14_nibble _ _ (by exact hr.2) (by (first | assumption | omega | ((try dsimp only [jt2, jt3, jt4]); first | omega | (simp (disch := omega) only [jst_eq, jst_ne, jst_ni, jst_o, jI_i, jcpy_out, w32_id, jdiv_nn, jshr_k, jand_255] <;> first | done | omega | assumption)) | (intros; simp (disch := omega) only [jst_eq, jst_ne, jst_ni, jst_o, jI_i, jcpy_out, w32_id, jdiv_nn, *] <;> first | done | omega) | (intros; simp (disch := omega) only [jst_eq, jst_ne, jst_ni, jst_o, jI_i, jcpy_out, w32_id, jdiv_nn] at * <;> first | done | omega | assumption) | (intros; first | rfl | (exfalso; omega) | ((repeat' apply And.intro) <;> first | assumption | rfl | omega | trivial))))) (fun v26 r2 => ?_)
      try dsimp only [Sum.elim_inl, Sum.elim_inr, jt2, jt3, jt4, jt5, jt6, jt7, jt8] at r2
      have v2 := r2
      clear r2
      try simp (disch := omega) only [jst_eq, jst_ne, jst_ni, jI_i, jcmp_lt, jcmp_gt, w32_id, jcpy_out, Sum.elim_inl, Sum.elim_inr, jt2, jt3, jt4, jt5, jt6, jt7, jt8] at v2
      refine OK_jb (vX14_stepA (c := c) (p := nb (uL (h p1 i1)) a5.toNat) (q := nb (uL (h p2 i1)) a5.toNat) _ _ _ (by exact ⟨⟨hi.2.2.1, hi.2.2.2⟩, ⟨v1, nb_lt _ _⟩, v2, nb_lt _ _⟩)) (fun v28 r3 => ?_)
      try dsimp only [Sum.elim_inl, Sum.elim_inr, jt2, jt3, jt4, jt5, jt6, jt7, jt8] at r3
      have v3 := r3
      clear r3
      try simp (disch := omega) only [jst_eq, jst_ne, jst_ni, jI_i, jcmp_lt, jcmp_gt, w32_id, jcpy_out, Sum.elim_inl, Sum.elim_inr, jt2, jt3, jt4, jt5, jt6, jt7, jt8] at v3
      refine OK_jlx (fun x29 ex29 => ?_)
      try simp (disch := omega) only [jst_eq, jst_ne, jst_ni, jI_i, jcmp_lt, jcmp_gt, w32_id, jcpy_out, Sum.elim_inl, Sum.elim_inr, jt2, jt3, jt4, jt5, jt6, jt7, jt8] at ex29
      refine OK_jlx (fun x30 ex30 => ?_)
      try simp (disch := omega) only [jst_eq, jst_ne, jst_ni, jI_i, jcmp_lt, jcmp_gt, w32_id, jcpy_out, Sum.elim_inl, Sum.elim_inr, jt2, jt3, jt4, jt5, jt6, jt7, jt8] at ex30
      refine OK_il ?_ ?_
      · try dsimp only [Sum.elim_inl, Sum.elim_inr, jt2, jt3, jt4, jt5, jt6, jt7, jt8]
        refine ⟨?_, ?_⟩
        · (first | assumption | omega | ((try dsimp only [jt2, jt3, jt4]); first | omega | (simp (disch := omega) only [jst_eq, jst_ne, jst_ni, jst_o, jI_i, jcpy_out, w32_id, jdiv_nn, jshr_k, jand_255] <;> first | done | omega | assumption)) | (intros; simp (disch := omega) only [jst_eq, jst_ne, jst_ni, jst_o, jI_i, jcpy_out, w32_id, jdiv_nn, *] <;> first | done | omega) | (intros; simp (disch := omega) only [jst_eq, jst_ne, jst_ni, jst_o, jI_i, jcpy_out, w32_id, jdiv_nn] at * <;> first | done | omega | assumption) | (intros; first | rfl | (exfalso; omega) | ((repeat' apply And.intro) <;> first | assumption | rfl | omega | trivial))) -- o9 e2i.1
        · (rw [ex29, v3, show 4 * a5 = ((4 * a5.toNat : Nat) : Int) by omega, show x30.toNat = a5.toNat + 1 by omega]; exact ⟨jorL_r _ _, orS (f := fun j => qA c (nb (uL (h p1 i1)) j) (nb (uL (h p2 i1)) j)) (by omega) (fun j l => (qA_b c hi.2.2.2 _ (nb_lt _ _) _ (nb_lt _ _)).1) q1.2⟩) -- o10 e2i.2
      · (first | assumption | omega | ((try dsimp only [jt2, jt3, jt4]); first | omega | (simp (disch := omega) only [jst_eq, jst_ne, jst_ni, jst_o, jI_i, jcpy_out, w32_id, jdiv_nn, jshr_k, jand_255] <;> first | done | omega | assumption)) | (intros; simp (disch := omega) only [jst_eq, jst_ne, jst_ni, jst_o, jI_i, jcpy_out, w32_id, jdiv_nn, *] <;> first | done | omega) | (intros; simp (disch := omega) only [jst_eq, jst_ne, jst_ni, jst_o, jI_i, jcpy_out, w32_id, jdiv_nn] at * <;> first | done | omega | assumption) | (intros; first | rfl | (exfalso; omega) | ((repeat' apply And.intro) <;> first | assumption | rfl | omega | trivial))) -- o11 e2m
  · try dsimp only [Sum.elim_inl, Sum.elim_inr, jt2, jt3, jt4, jt5, jt6, jt7, jt8]
    refine ⟨?_, ?_⟩
    · (first | assumption | omega | ((try dsimp only [jt2, jt3, jt4]); first | omega | (simp (disch := omega) only [jst_eq, jst_ne, jst_ni, jst_o, jI_i, jcpy_out, w32_id, jdiv_nn, jshr_k, jand_255] <;> first | done | omega | assumption)) | (intros; simp (disch := omega) only [jst_eq, jst_ne, jst_ni, jst_o, jI_i, jcpy_out, w32_id, jdiv_nn, *] <;> first | done | omega) | (intros; simp (disch := omega) only [jst_eq, jst_ne, jst_ni, jst_o, jI_i, jcpy_out, w32_id, jdiv_nn] at * <;> first | done | omega | assumption) | (intros; first | rfl | (exfalso; omega) | ((repeat' apply And.intro) <;> first | assumption | rfl | omega | trivial))) -- o12 init.1
    · (rw [h0.1, h0.2]; exact ⟨runL_r 0 0 |>.2, orS0 _⟩) -- o13 init.2
/-- what is kept all along -/
def LTJ (h : AH) (p1 p2 p3 p4 p8 r1 r2 r3 K : Int) : Prop := TK h p1 p2 p3 p4 p8 ∧ p8 < r1 ∧ (∀ k, h 871 4 ≤ k → k < h 871 5 → (jr64 (h p1 k) ∧ jr64 (h p2 k)) ∧ 0 ≤ k ∧ k < 111152) ∧ LTI h p1 p2 r1 r2 r3 (h 871 4) K
theorem LTJ_f {h h' : AH} {p1 p2 p3 p4 p8 r1 r2 r3 K K' : Int} (w : LTJ h p1 p2 p3 p4 p8 r1 r2 r3 K) (f : frL r1 r2 r3 h h') (n : LTI h' p1 p2 r1 r2 r3 (h 871 4) K') : LTJ h' p1 p2 p3 p4 p8 r1 r2 r3 K' := by
  obtain ⟨t, l, g, i⟩ := w
  have tz := t.2.2
  have rz := i.1.2.2
  have e : ∀ p, p < r1 → p ≠ 454 → h' p = h p := fun p n n2 => funext fun s => f p s (by omega) (by omega)
  refine ⟨TK_h t (fun a s y => f a s (by omega) (by omega)), l, ?_, ?_⟩
  · rw [e 871 (by omega) (by omega), e p1 (by omega) (by omega), e p2 (by omega) (by omega)]
    exact g
  · rw [e 871 (by omega) (by omega)]
    exact n
theorem vX14_findLast_l59 (i1 : Int) (a20 : Int) {h0 : AH} {p1 p2 p3 p4 p8 r1 r2 r3 : Int} (hl : LTJ h0 p1 p2 p3 p4 p8 r1 r2 r3 (18 * i1)) (hi : h0 871 4 ≤ i1 ∧ i1 < h0 871 5) (h2 : a20 = 0) : OK (gX14_findLast_l59 i1 a20 h0) (fun h' => (LTJ h' p1 p2 p3 p4 p8 r1 r2 r3 (18 * (i1 + 1))) ∧ (frL r1 r2 r3 h0 h')) := by
  have tz := hl.1.2.2
  have rz := hl.2.2.2.1.2.2
  have pr8 := hl.2.1
  unfold gX14_findLast_l59
  refine OK_jit (I := (fun (s : Int × AH) => jt2 s fun a2 h => (0 ≤ a2 ∧ a2 ≤ 18) ∧ (LTJ h p1 p2 p3 p4 p8 r1 r2 r3 (18 * i1 + a2)) ∧ (frL r1 r2 r3 h0 h))) (m := (fun (s : Int × AH) => jt2 s fun a2 h => (18 - a2).toNat)) ?_ ?_
  · intro s hs
    obtain ⟨a2, h⟩ := s
    dsimp only [Sum.elim_inl, Sum.elim_inr, jt2, jt3, jt4, jt5, jt6, jt7, jt8] at hs
    obtain ⟨q0, q1, fr⟩ := hs
    unfold gX14_findLast_b59
    refine OK_jt2 ?_
    have e871 : h 871 = h0 871 := funext fun s => fr 871 s (by omega) (by omega)
    have R := q1.2.2.1 i1 (by rw [e871]; exact hi.1) (by rw [e871]; exact hi.2)
    refine OK_if (fun c1 => ?_) (fun c1 => ?_)
    · skip
      try simp (disch := omega) only [jst_eq, jst_ne, jst_ni, jI_i, jcmp_lt, jcmp_gt, w32_id, jcpy_out, Sum.elim_inl, Sum.elim_inr, jt2, jt3, jt4, jt5, jt6, jt7, jt8] at c1
      refine OK_ir ?_
      try dsimp only [Sum.elim_inl, Sum.elim_inr, jt2, jt3, jt4, jt5, jt6, jt7, jt8]
      refine ⟨?_, ?_⟩
      · (rw [show 18 * (i1 + 1) = 18 * i1 + a2 by omega]; exact q1) -- o1 e1.1
      · (first | assumption | omega | ((try dsimp only [jt2, jt3, jt4]); first | omega | (simp (disch := omega) only [jst_eq, jst_ne, jst_ni, jst_o, jI_i, jcpy_out, w32_id, jdiv_nn, jshr_k, jand_255] <;> first | done | omega | assumption)) | (intros; simp (disch := omega) only [jst_eq, jst_ne, jst_ni, jst_o, jI_i, jcpy_out, w32_id, jdiv_nn, *] <;> first | done | omega) | (intros; simp (disch := omega) only [jst_eq, jst_ne, jst_ni, jst_o, jI_i, jcpy_out, w32_id, jdiv_nn] at * <;> first | done | omega | assumption) | (intros; first | rfl | (exfalso; omega) | ((repeat' apply And.intro) <;> first | assumption | rfl | omega | trivial))) -- o2 e1.2
    · skip
      try simp (disch := omega) only [jst_eq, jst_ne, jst_ni, jI_i, jcmp_lt, jcmp_gt, w32_id, jcpy_out, Sum.elim_inl, Sum.elim_inr, jt2, jt3, jt4, jt5, jt6, jt7, jt8] at c1
      refine OK_jb (vX14_findLast_l70 (p1 := p1) (p2 := p2) (p3 := p3) (p4 := p4) (p8 := p8) (c := a2.toNat) _ _ _ _ (by exact q1.1) (by exact ⟨R.2.1, R.2.2, by omega, by omega⟩) (by exact R.1) (by (first | assumption | omega | ((try dsimp only [jt2, jt3, jt4]); first | omega | (simp (disch := omega) only [jst_eq, jst_ne, jst_ni, jst_o, jI_i, jcpy_out, w32_id, jdiv_nn, jshr_k, jand_255] <;> first | done | omega | assumption)) | (intros; simp (disch := omega) only [jst_eq, jst_ne, jst_ni, jst_o, jI_i, jcpy_out, w32_id, jdiv_nn, *] <;> first | done | omega) | (intros; simp (disch := omega) only [jst_eq, jst_ne, jst_ni, jst_o, jI_i, jcpy_out, w32_id, jdiv_nn] at * <;> first | done | omega | assumption) | (intros; first | rfl | (exfalso; omega) | ((repeat' apply And.intro) <;> first | assumption | rfl | omega | trivial))))) (fun o17 r1 => ?_)
      try dsimp only [Sum.elim_inl, Sum.elim_inr, jt2, jt3, jt4, jt5, jt6, jt7, jt8] at r1
      have v1 := r1
      clear r1
      try simp (disch := omega) only [jst_eq, jst_ne, jst_ni, jI_i, jcmp_lt, jcmp_gt, w32_id, jcpy_out, Sum.elim_inl, Sum.elim_inr, jt2, jt3, jt4, jt5, jt6, jt7, jt8] at v1
      refine OK_jb (vX14_addLast (r1 := r1) (r2 := r2) (r3 := r3) _ _ _ (by exact q1.2.2.2.1) (by exact q1.2.2.2.2.1) (by exact q1.2.2.2.2.2.1) (by exact ⟨R.2, by omega, by omega⟩)) (fun h20 r2 => ?_)
      try dsimp only [Sum.elim_inl, Sum.elim_inr, jt2, jt3, jt4, jt5, jt6, jt7, jt8] at r2
      have c2 := r2
      clear r2
      try simp (disch := omega) only [jst_eq, jst_ne, jst_ni, jI_i, jcmp_lt, jcmp_gt, w32_id, jcpy_out, Sum.elim_inl, Sum.elim_inr, jt2, jt3, jt4, jt5, jt6, jt7, jt8] at c2
      have ea : a2 = ((a2.toNat : Nat) : Int) := by omega
      have q4 := q1.2.2.2
      rw [ea] at q4 c2
      obtain ⟨S1, S2⟩ := LTI_s (x := a2.toNat) ⟨by omega, by omega, by omega⟩ (by omega) (by rw [e871]; exact hi.1) q4 v1 c2
      refine OK_jlx (fun x21 ex21 => ?_)
      try simp (disch := omega) only [jst_eq, jst_ne, jst_ni, jI_i, jcmp_lt, jcmp_gt, w32_id, jcpy_out, Sum.elim_inl, Sum.elim_inr, jt2, jt3, jt4, jt5, jt6, jt7, jt8] at ex21
      refine OK_il ?_ ?_
      · try dsimp only [Sum.elim_inl, Sum.elim_inr, jt2, jt3, jt4, jt5, jt6, jt7, jt8]
        refine ⟨?_, ?_, ?_⟩
        · (first | assumption | omega | ((try dsimp only [jt2, jt3, jt4]); first | omega | (simp (disch := omega) only [jst_eq, jst_ne, jst_ni, jst_o, jI_i, jcpy_out, w32_id, jdiv_nn, jshr_k, jand_255] <;> first | done | omega | assumption)) | (intros; simp (disch := omega) only [jst_eq, jst_ne, jst_ni, jst_o, jI_i, jcpy_out, w32_id, jdiv_nn, *] <;> first | done | omega) | (intros; simp (disch := omega) only [jst_eq, jst_ne, jst_ni, jst_o, jI_i, jcpy_out, w32_id, jdiv_nn] at * <;> first | done | omega | assumption) | (intros; first | rfl | (exfalso; omega) | ((repeat' apply And.intro) <;> first | assumption | rfl | omega | trivial))) -- o11 e2i.1
        · (rw [show 18 * i1 + x21 = 18 * i1 + (a2.toNat : Int) + 1 by omega]; exact LTJ_f q1 S2 S1) -- o12 e2i.2
        · exact fun a s y1 y2 => by rw [S2 a s y1 y2]; exact fr a s y1 y2 -- o13 e2i.3
      · (first | assumption | omega | ((try dsimp only [jt2, jt3, jt4]); first | omega | (simp (disch := omega) only [jst_eq, jst_ne, jst_ni, jst_o, jI_i, jcpy_out, w32_id, jdiv_nn, jshr_k, jand_255] <;> first | done | omega | assumption)) | (intros; simp (disch := omega) only [jst_eq, jst_ne, jst_ni, jst_o, jI_i, jcpy_out, w32_id, jdiv_nn, *] <;> first | done | omega) | (intros; simp (disch := omega) only [jst_eq, jst_ne, jst_ni, jst_o, jI_i, jcpy_out, w32_id, jdiv_nn] at * <;> first | done | omega | assumption) | (intros; first | rfl | (exfalso; omega) | ((repeat' apply And.intro) <;> first | assumption | rfl | omega | trivial))) -- o14 e2m
  · try dsimp only [Sum.elim_inl, Sum.elim_inr, jt2, jt3, jt4, jt5, jt6, jt7, jt8]
    refine ⟨?_, ?_, ?_⟩
    · (first | assumption | omega | ((try dsimp only [jt2, jt3, jt4]); first | omega | (simp (disch := omega) only [jst_eq, jst_ne, jst_ni, jst_o, jI_i, jcpy_out, w32_id, jdiv_nn, jshr_k, jand_255] <;> first | done | omega | assumption)) | (intros; simp (disch := omega) only [jst_eq, jst_ne, jst_ni, jst_o, jI_i, jcpy_out, w32_id, jdiv_nn, *] <;> first | done | omega) | (intros; simp (disch := omega) only [jst_eq, jst_ne, jst_ni, jst_o, jI_i, jcpy_out, w32_id, jdiv_nn] at * <;> first | done | omega | assumption) | (intros; first | rfl | (exfalso; omega) | ((repeat' apply And.intro) <;> first | assumption | rfl | omega | trivial))) -- o15 init.1
    · (rw [h2, Int.add_zero]; exact hl) -- o16 init.2
    · exact fun _ _ _ _ => rfl -- o17 init.3
theorem vX14_findLast_l47 (a10 : Int) {h0 : AH} {p1 p2 p3 p4 p8 r1 r2 r3 : Int} (hl : LTJ h0 p1 p2 p3 p4 p8 r1 r2 r3 (18 * a10)) (hi : a10 = h0 871 4 ∧ h0 871 4 ≤ h0 871 5) : OK (gX14_findLast_l47 a10 h0) (fun h' => (LTJ h' p1 p2 p3 p4 p8 r1 r2 r3 (18 * h' 871 5)) ∧ (frL r1 r2 r3 h0 h')) := by
  have tz := hl.1.2.2
  have rz := hl.2.2.2.1.2.2
  have pr8 := hl.2.1
  unfold gX14_findLast_l47
  refine OK_jit (I := (fun (s : Int × AH) => jt2 s fun a1 h => (h0 871 4 ≤ a1 ∧ a1 ≤ h0 871 5) ∧ (LTJ h p1 p2 p3 p4 p8 r1 r2 r3 (18 * a1)) ∧ (frL r1 r2 r3 h0 h))) (m := (fun (s : Int × AH) => jt2 s fun a1 h => (h0 871 5 - a1).toNat)) ?_ ?_
  · intro s hs
    obtain ⟨a1, h⟩ := s
    dsimp only [Sum.elim_inl, Sum.elim_inr, jt2, jt3, jt4, jt5, jt6, jt7, jt8] at hs
    obtain ⟨q0, q1, fr⟩ := hs
    unfold gX14_findLast_b47
    refine OK_jt2 ?_
    have e4 : h 871 4 = h0 871 4 := fr 871 4 (by omega) (by omega)
    have e5 : h 871 5 = h0 871 5 := fr 871 5 (by omega) (by omega)
    have R5 : ∀ h1 : AH, frL r1 r2 r3 h h1 → h1 871 5 = h 871 5 := fun h1 z => z 871 5 (by omega) (by omega)
    refine OK_if (fun c1 => ?_) (fun c1 => ?_)
    · skip
      try simp (disch := omega) only [jst_eq, jst_ne, jst_ni, jI_i, jcmp_lt, jcmp_gt, w32_id, jcpy_out, Sum.elim_inl, Sum.elim_inr, jt2, jt3, jt4, jt5, jt6, jt7, jt8] at c1
      refine OK_ir ?_
      try dsimp only [Sum.elim_inl, Sum.elim_inr, jt2, jt3, jt4, jt5, jt6, jt7, jt8]
      refine ⟨?_, ?_⟩
      · (rw [show h 871 5 = a1 by omega]; exact q1) -- o1 e1.1
      · (first | assumption | omega | ((try dsimp only [jt2, jt3, jt4]); first | omega | (simp (disch := omega) only [jst_eq, jst_ne, jst_ni, jst_o, jI_i, jcpy_out, w32_id, jdiv_nn, jshr_k, jand_255] <;> first | done | omega | assumption)) | (intros; simp (disch := omega) only [jst_eq, jst_ne, jst_ni, jst_o, jI_i, jcpy_out, w32_id, jdiv_nn, *] <;> first | done | omega) | (intros; simp (disch := omega) only [jst_eq, jst_ne, jst_ni, jst_o, jI_i, jcpy_out, w32_id, jdiv_nn] at * <;> first | done | omega | assumption) | (intros; first | rfl | (exfalso; omega) | ((repeat' apply And.intro) <;> first | assumption | rfl | omega | trivial))) -- o2 e1.2
    · skip
      try simp (disch := omega) only [jst_eq, jst_ne, jst_ni, jI_i, jcmp_lt, jcmp_gt, w32_id, jcpy_out, Sum.elim_inl, Sum.elim_inr, jt2, jt3, jt4, jt5, jt6, jt7, jt8] at c1
      have R9 := (q1.2.2.1 a1 (by omega) (by omega)).2
      refine OK_jb (vX14_findLast_l59 (p1 := p1) (p2 := p2) (p3 := p3) (p4 := p4) (p8 := p8) (r1 := r1) (r2 := r2) (r3 := r3) _ _ (by exact q1) (by exact ⟨by omega, by omega⟩) (by (first | assumption | omega | ((try dsimp only [jt2, jt3, jt4]); first | omega | (simp (disch := omega) only [jst_eq, jst_ne, jst_ni, jst_o, jI_i, jcpy_out, w32_id, jdiv_nn, jshr_k, jand_255] <;> first | done | omega | assumption)) | (intros; simp (disch := omega) only [jst_eq, jst_ne, jst_ni, jst_o, jI_i, jcpy_out, w32_id, jdiv_nn, *] <;> first | done | omega) | (intros; simp (disch := omega) only [jst_eq, jst_ne, jst_ni, jst_o, jI_i, jcpy_out, w32_id, jdiv_nn] at * <;> first | done | omega | assumption) | (intros; first | rfl | (exfalso; omega) | ((repeat' apply And.intro) <;> first | assumption | rfl | omega | trivial))))) (fun o13 r1 => ?_)
      try dsimp only [Sum.elim_inl, Sum.elim_inr, jt2, jt3, jt4, jt5, jt6, jt7, jt8] at r1
      obtain ⟨l1, fr1⟩ := r1
      try simp (disch := omega) only [jst_eq, jst_ne, jst_ni, jI_i, jcmp_lt, jcmp_gt, w32_id, jcpy_out, Sum.elim_inl, Sum.elim_inr, jt2, jt3, jt4, jt5, jt6, jt7, jt8] at l1
      try simp (disch := omega) only [jst_eq, jst_ne, jst_ni, jI_i, jcmp_lt, jcmp_gt, w32_id, jcpy_out, Sum.elim_inl, Sum.elim_inr, jt2, jt3, jt4, jt5, jt6, jt7, jt8] at fr1
      refine OK_jlx (fun x15 ex15 => ?_)
      try simp (disch := omega) only [jst_eq, jst_ne, jst_ni, jI_i, jcmp_lt, jcmp_gt, w32_id, jcpy_out, Sum.elim_inl, Sum.elim_inr, jt2, jt3, jt4, jt5, jt6, jt7, jt8] at ex15
      refine OK_il ?_ ?_
      · try dsimp only [Sum.elim_inl, Sum.elim_inr, jt2, jt3, jt4, jt5, jt6, jt7, jt8]
        refine ⟨?_, ?_, ?_⟩
        · (first | assumption | omega | ((try dsimp only [jt2, jt3, jt4]); first | omega | (simp (disch := omega) only [jst_eq, jst_ne, jst_ni, jst_o, jI_i, jcpy_out, w32_id, jdiv_nn, jshr_k, jand_255] <;> first | done | omega | assumption)) | (intros; simp (disch := omega) only [jst_eq, jst_ne, jst_ni, jst_o, jI_i, jcpy_out, w32_id, jdiv_nn, *] <;> first | done | omega) | (intros; simp (disch := omega) only [jst_eq, jst_ne, jst_ni, jst_o, jI_i, jcpy_out, w32_id, jdiv_nn] at * <;> first | done | omega | assumption) | (intros; first | rfl | (exfalso; omega) | ((repeat' apply And.intro) <;> first | assumption | rfl | omega | trivial))) -- o6 e2i.1
        · (rw [ex15]; exact l1) -- o7 e2i.2
        · exact fun a s y1 y2 => by rw [fr1 a s y1 y2]; exact fr a s y1 y2 -- o8 e2i.3
      · (first | assumption | omega | ((try dsimp only [jt2, jt3, jt4]); first | omega | (simp (disch := omega) only [jst_eq, jst_ne, jst_ni, jst_o, jI_i, jcpy_out, w32_id, jdiv_nn, jshr_k, jand_255] <;> first | done | omega | assumption)) | (intros; simp (disch := omega) only [jst_eq, jst_ne, jst_ni, jst_o, jI_i, jcpy_out, w32_id, jdiv_nn, *] <;> first | done | omega) | (intros; simp (disch := omega) only [jst_eq, jst_ne, jst_ni, jst_o, jI_i, jcpy_out, w32_id, jdiv_nn] at * <;> first | done | omega | assumption) | (intros; first | rfl | (exfalso; omega) | ((repeat' apply And.intro) <;> first | assumption | rfl | omega | trivial))) -- o9 e2m
  · try dsimp only [Sum.elim_inl, Sum.elim_inr, jt2, jt3, jt4, jt5, jt6, jt7, jt8]
    refine ⟨?_, ?_, ?_⟩
    · (first | assumption | omega | ((try dsimp only [jt2, jt3, jt4]); first | omega | (simp (disch := omega) only [jst_eq, jst_ne, jst_ni, jst_o, jI_i, jcpy_out, w32_id, jdiv_nn, jshr_k, jand_255] <;> first | done | omega | assumption)) | (intros; simp (disch := omega) only [jst_eq, jst_ne, jst_ni, jst_o, jI_i, jcpy_out, w32_id, jdiv_nn, *] <;> first | done | omega) | (intros; simp (disch := omega) only [jst_eq, jst_ne, jst_ni, jst_o, jI_i, jcpy_out, w32_id, jdiv_nn] at * <;> first | done | omega | assumption) | (intros; first | rfl | (exfalso; omega) | ((repeat' apply And.intro) <;> first | assumption | rfl | omega | trivial))) -- o10 init.1
    · (first | assumption | omega | ((try dsimp only [jt2, jt3, jt4]); first | omega | (simp (disch := omega) only [jst_eq, jst_ne, jst_ni, jst_o, jI_i, jcpy_out, w32_id, jdiv_nn, jshr_k, jand_255] <;> first | done | omega | assumption)) | (intros; simp (disch := omega) only [jst_eq, jst_ne, jst_ni, jst_o, jI_i, jcpy_out, w32_id, jdiv_nn, *] <;> first | done | omega) | (intros; simp (disch := omega) only [jst_eq, jst_ne, jst_ni, jst_o, jI_i, jcpy_out, w32_id, jdiv_nn] at * <;> first | done | omega | assumption) | (intros; first | rfl | (exfalso; omega) | ((repeat' apply And.intro) <;> first | assumption | rfl | omega | trivial))) -- o11 init.2
    · exact fun _ _ _ _ => rfl -- o12 init.3
theorem TL_new {h g2 g4 g6 : AH} (hz : 1078 ≤ h 0 0) (n3 : nwP h g2 102 262144 149) (n5 : nwP g2 g4 101 262144 150) (n7 : nwP g4 g6 101 524288 151) : TL g6 (h 0 0) (h 0 0 + 1) (h 0 0 + 2) ∧ (g6 0 0 = h 0 0 + 3 ∧ g6 0 1 = h 0 1 + 3 ∧ g6 0 2 = h 0 2 + 1048576) ∧ (∀ s, 0 ≤ s → g6 (h 0 0 + 2) s = 0) ∧ ∀ a s, a ≠ 0 → a < h 0 0 → ¬ (a = 454 ∧ 149 ≤ s ∧ s ≤ 151) → g6 a s = h a s := by
  obtain ⟨a1, a2, a3, a4, a5, a6, a7, a8⟩ := n3
  obtain ⟨b1, b2, b3, b4, b5, b6, b7, b8⟩ := n5
  obtain ⟨c1, c2, c3, c4, c5, c6, c7, c8⟩ := n7
  have y2 : g2 0 0 = h 0 0 + 1 := a1
  have y3 : g4 0 0 = h 0 0 + 2 := by omega
  rw [y2] at b4 b5 b6 b7
  rw [y3] at c4 c5 c6 c7
  refine ⟨⟨⟨?_, ?_, c4⟩, ⟨⟨?_, ?_⟩, ⟨?_, ?_⟩, c5, c6⟩, hz, by omega, by omega⟩, ⟨by omega, by omega, by omega⟩, c7, fun a s u1 u2 u3 => ?_⟩
  · rw [c8 _ _ (by omega) (by omega) (by omega), b8 _ _ (by omega) (by omega) (by omega), a4]
  · rw [c8 _ _ (by omega) (by omega) (by omega), b4]
  · rw [c8 _ _ (by omega) (by omega) (by omega), b8 _ _ (by omega) (by omega) (by omega), a5]
  · rw [c8 _ _ (by omega) (by omega) (by omega), b8 _ _ (by omega) (by omega) (by omega), a6]
  · rw [c8 _ _ (by omega) (by omega) (by omega), b5]
  · rw [c8 _ _ (by omega) (by omega) (by omega), b6]
  · rw [c8 _ _ (by omega) (by omega) (by omega), b8 _ _ (by omega) (by omega) (by omega), a8 _ _ (by omega) (by omega) (by omega)]
theorem vX14_findLast0 {h : AH} {p1 p2 p3 p4 p8 : Int} (h0 : h 454 151 = 0 ∧ h 454 152 = 0) (hk : TK h p1 p2 p3 p4 p8) (hb : p8 < h 0 0) (hg : ∀ k, h 871 4 ≤ k → k < h 871 5 → (jr64 (h p1 k) ∧ jr64 (h p2 k)) ∧ 0 ≤ k ∧ k < 111152) (h45 : h 871 4 ≤ h 871 5) (hr : room h 3 1048576) : OK (gX14_findLast h) (fun h' => (LTJ h' p1 p2 p3 p4 p8 (h 0 0) (h 0 0 + 1) (h 0 0 + 2) (18 * h' 871 5)) ∧ (h' 0 0 = h 0 0 + 3 ∧ h' 0 1 = h 0 1 + 3 ∧ h' 0 2 = h 0 2 + 1048576) ∧ (∀ a s, a ≠ 0 → a < h 0 0 → ¬ (a = 454 ∧ 149 ≤ s ∧ s ≤ 153) → h' a s = h a s)) := by
  have tz := hk.2.2
  have hz : 1078 ≤ h 0 0 := by omega
  have r1 := hr.2.2.1
  have r2 := hr.2.2.2
  unfold gX14_findLast
  refine OK_if (fun c1 => ?_) (fun c1 => ?_)
  · skip
    try simp (disch := omega) only [jst_eq, jst_ne, jst_ni, jI_i, jcmp_lt, jcmp_gt, w32_id, jcpy_out, Sum.elim_inl, Sum.elim_inr, jt2, jt3, jt4, jt5, jt6, jt7, jt8] at c1
    refine OK_jg (by (first | ((exact ⟨by decide, by omega, by omega⟩)) | (first | assumption | omega | ((try dsimp only [jt2, jt3, jt4]); first | omega | (simp (disch := omega) only [jst_eq, jst_ne, jst_ni, jst_o, jI_i, jcpy_out, w32_id, jdiv_nn, jshr_k, jand_255] <;> first | done | omega | assumption)) | (intros; simp (disch := omega) only [jst_eq, jst_ne, jst_ni, jst_o, jI_i, jcpy_out, w32_id, jdiv_nn, *] <;> first | done | omega) | (intros; simp (disch := omega) only [jst_eq, jst_ne, jst_ni, jst_o, jI_i, jcpy_out, w32_id, jdiv_nn] at * <;> first | done | omega | assumption) | (intros; first | rfl | (exfalso; omega) | ((repeat' apply And.intro) <;> first | assumption | rfl | omega | trivial))))) ?_ -- o1
    refine OK_jl ?_
    refine OK_jl ?_
    have N3 := nwY 102 262144 149 hz
    generalize jst (jnew h 102 262144) 454 149 (h 0 0) = g3 at *
    have m3 := N3.1
    have u3 := N3.2.1
    have w3 := N3.2.2.1
    refine OK_jg (by (first | ((exact ⟨by decide, by omega, by omega⟩)) | (first | assumption | omega | ((try dsimp only [jt2, jt3, jt4]); first | omega | (simp (disch := omega) only [jst_eq, jst_ne, jst_ni, jst_o, jI_i, jcpy_out, w32_id, jdiv_nn, jshr_k, jand_255] <;> first | done | omega | assumption)) | (intros; simp (disch := omega) only [jst_eq, jst_ne, jst_ni, jst_o, jI_i, jcpy_out, w32_id, jdiv_nn, *] <;> first | done | omega) | (intros; simp (disch := omega) only [jst_eq, jst_ne, jst_ni, jst_o, jI_i, jcpy_out, w32_id, jdiv_nn] at * <;> first | done | omega | assumption) | (intros; first | rfl | (exfalso; omega) | ((repeat' apply And.intro) <;> first | assumption | rfl | omega | trivial))))) ?_ -- o2
    refine OK_jl ?_
    refine OK_jl ?_
    have N5 := nwY (h := g3) 101 262144 150 (by omega)
    generalize jst (jnew g3 101 262144) 454 150 (g3 0 0) = g5 at *
    have m5 := N5.1
    have u5 := N5.2.1
    have w5 := N5.2.2.1
    refine OK_jg (by (first | ((exact ⟨by decide, by omega, by omega⟩)) | (first | assumption | omega | ((try dsimp only [jt2, jt3, jt4]); first | omega | (simp (disch := omega) only [jst_eq, jst_ne, jst_ni, jst_o, jI_i, jcpy_out, w32_id, jdiv_nn, jshr_k, jand_255] <;> first | done | omega | assumption)) | (intros; simp (disch := omega) only [jst_eq, jst_ne, jst_ni, jst_o, jI_i, jcpy_out, w32_id, jdiv_nn, *] <;> first | done | omega) | (intros; simp (disch := omega) only [jst_eq, jst_ne, jst_ni, jst_o, jI_i, jcpy_out, w32_id, jdiv_nn] at * <;> first | done | omega | assumption) | (intros; first | rfl | (exfalso; omega) | ((repeat' apply And.intro) <;> first | assumption | rfl | omega | trivial))))) ?_ -- o3
    refine OK_jl ?_
    refine OK_jl ?_
    have N7 := nwY (h := g5) 101 524288 151 (by omega)
    generalize jst (jnew g5 101 524288) 454 151 (g5 0 0) = g7 at *
    obtain ⟨T, nn, zz, ff⟩ := TL_new hz N3 N5 N7
    have F7 : ∀ a s, a ≠ 0 → a < h 0 0 → ¬ (a = 454 ∧ 149 ≤ s ∧ s ≤ 153) → jst g7 454 153 1 a s = h a s := fun a s y1 y2 y3 => by { rw [jst_o (by omega)]; exact ff a s y1 y2 (by omega) }
    have E8 : ∀ p, p ≠ 0 → p < h 0 0 → p ≠ 454 → jst g7 454 153 1 p = h p := fun p y1 y2 y3 => funext fun s => F7 p s y1 y2 (by omega)
    have T8 : TL (jst g7 454 153 1) (h 0 0) (h 0 0 + 1) (h 0 0 + 2) := TL_h T (fun a s y => by { rw [jst_o (by omega)] })
    have M8 : jst g7 454 153 1 454 152 = 0 := by { rw [jst_ni (by decide), ff _ _ (by omega) (by omega) (by omega)]; exact h0.2 }
    have O8 : jst g7 454 153 1 454 153 = 1 := jst_eq
    have Z8 : ∀ s, 0 ≤ s → jst g7 454 153 1 (h 0 0 + 2) s = 0 := fun s y => by { rw [jst_ne (by omega)]; exact zz s y }
    have A8 : jst g7 454 153 1 0 0 = h 0 0 + 3 ∧ jst g7 454 153 1 0 1 = h 0 1 + 3 ∧ jst g7 454 153 1 0 2 = h 0 2 + 1048576 := by { rw [jst_ne (by decide), jst_ne (by decide), jst_ne (by decide)]; exact nn }
    refine OK_jl ?_
    generalize jst g7 454 153 1 = g8 at *
    refine OK_jlx (fun x9 ex9 => ?_)
    try simp (disch := omega) only [jst_eq, jst_ne, jst_ni, jI_i, jcmp_lt, jcmp_gt, w32_id, jcpy_out, Sum.elim_inl, Sum.elim_inr, jt2, jt3, jt4, jt5, jt6, jt7, jt8] at ex9
    have e9 : x9 = h 871 4 := by { rw [ex9, E8 871 (by omega) (by omega) (by omega)] }
    have TK8 : TK g8 p1 p2 p3 p4 p8 := by { obtain ⟨⟨k1, k2, k3, k4, k8⟩, s, _⟩ := id hk; unfold TK; rw [E8 p1 (by omega) (by omega) (by omega), E8 p2 (by omega) (by omega) (by omega), E8 p3 (by omega) (by omega) (by omega), E8 p4 (by omega) (by omega) (by omega), E8 p8 (by omega) (by omega) (by omega), F7 454 141 (by omega) (by omega) (by omega), F7 454 142 (by omega) (by omega) (by omega), F7 454 143 (by omega) (by omega) (by omega), F7 454 144 (by omega) (by omega) (by omega), F7 454 148 (by omega) (by omega) (by omega)]; exact hk }
    have J8 : LTJ g8 p1 p2 p3 p4 p8 (h 0 0) (h 0 0 + 1) (h 0 0 + 2) (18 * h 871 4) := by { refine ⟨TK8, hb, ?_, T8, ?_, ?_, ?_, ?_, Or.inl O8⟩; { rw [E8 871 (by omega) (by omega) (by omega), E8 p1 (by omega) (by omega) (by omega), E8 p2 (by omega) (by omega) (by omega)]; exact hg }; { unfold PL; rw [M8]; exact prT_0 (by omega) (fun p p0 p1 => Z8 p p0) }; { rw [M8]; omega }; { intro m y1 y2; rw [M8] at y2; omega }; { intro _ k x y1 y2 y3; rw [E8 871 (by omega) (by omega) (by omega)] at y1; omega } }
    refine OK_jb (vX14_findLast_l47 (p1 := p1) (p2 := p2) (p3 := p3) (p4 := p4) (p8 := p8) (r1 := h 0 0) (r2 := h 0 0 + 1) (r3 := h 0 0 + 2) _ (by (rw [e9]; exact J8)) (by (rw [e9, E8 871 (by omega) (by omega) (by omega)]; exact ⟨rfl, h45⟩))) (fun o10 r1 => ?_)
    try dsimp only [Sum.elim_inl, Sum.elim_inr, jt2, jt3, jt4, jt5, jt6, jt7, jt8] at r1
    obtain ⟨l1, fr1⟩ := r1
    try simp (disch := omega) only [jst_eq, jst_ne, jst_ni, jI_i, jcmp_lt, jcmp_gt, w32_id, jcpy_out, Sum.elim_inl, Sum.elim_inr, jt2, jt3, jt4, jt5, jt6, jt7, jt8] at l1
    try simp (disch := omega) only [jst_eq, jst_ne, jst_ni, jI_i, jcmp_lt, jcmp_gt, w32_id, jcpy_out, Sum.elim_inl, Sum.elim_inr, jt2, jt3, jt4, jt5, jt6, jt7, jt8] at fr1
    refine OK_some ?_
    try dsimp only [Sum.elim_inl, Sum.elim_inr, jt2, jt3, jt4, jt5, jt6, jt7, jt8]
    try dsimp only [Sum.elim_inl, Sum.elim_inr, jt2, jt3, jt4, jt5, jt6, jt7, jt8]
    refine ⟨?_, ?_, ?_⟩
    · (first | ((exact ⟨by decide, by omega, by omega⟩)) | (first | assumption | omega | ((try dsimp only [jt2, jt3, jt4]); first | omega | (simp (disch := omega) only [jst_eq, jst_ne, jst_ni, jst_o, jI_i, jcpy_out, w32_id, jdiv_nn, jshr_k, jand_255] <;> first | done | omega | assumption)) | (intros; simp (disch := omega) only [jst_eq, jst_ne, jst_ni, jst_o, jI_i, jcpy_out, w32_id, jdiv_nn, *] <;> first | done | omega) | (intros; simp (disch := omega) only [jst_eq, jst_ne, jst_ni, jst_o, jI_i, jcpy_out, w32_id, jdiv_nn] at * <;> first | done | omega | assumption) | (intros; first | rfl | (exfalso; omega) | ((repeat' apply And.intro) <;> first | assumption | rfl | omega | trivial)))) -- o6 e1.1
    · (rw [fr1 _ _ (by omega) (by omega), fr1 _ _ (by omega) (by omega), fr1 _ _ (by omega) (by omega)]; exact A8) -- o7 e1.2
    · (intro a s y1 y2 y3; rw [fr1 a s (by omega) (by omega)]; exact F7 a s y1 y2 y3) -- o8 e1.3
  · skip
    try simp (disch := omega) only [jst_eq, jst_ne, jst_ni, jI_i, jcmp_lt, jcmp_gt, w32_id, jcpy_out, Sum.elim_inl, Sum.elim_inr, jt2, jt3, jt4, jt5, jt6, jt7, jt8] at c1
    exfalso
    exact c1 h0.1
theorem vX14_findLast1 {h : AH} (h0 : h 454 151 ≠ 0) : OK (gX14_findLast h) (fun h' => h' = h) := by
  unfold gX14_findLast
  refine OK_if (fun c1 => ?_) (fun c1 => ?_)
  · skip
    try simp (disch := omega) only [jst_eq, jst_ne, jst_ni, jI_i, jcmp_lt, jcmp_gt, w32_id, jcpy_out, Sum.elim_inl, Sum.elim_inr, jt2, jt3, jt4, jt5, jt6, jt7, jt8] at c1
    exfalso
    exact h0 c1
  · skip
    try simp (disch := omega) only [jst_eq, jst_ne, jst_ni, jI_i, jcmp_lt, jcmp_gt, w32_id, jcpy_out, Sum.elim_inl, Sum.elim_inr, jt2, jt3, jt4, jt5, jt6, jt7, jt8] at c1
    refine OK_some ?_
    try dsimp only [Sum.elim_inl, Sum.elim_inr, jt2, jt3, jt4, jt5, jt6, jt7, jt8]
    all_goals rfl -- o1 e1

