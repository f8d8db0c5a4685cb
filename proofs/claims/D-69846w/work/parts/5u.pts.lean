/-! rows of values; x: a term's answers at all points -/
def dvT (kf : Int → Int) (n p : Int) : Nat → Int
  | 0 => p
  | m + 1 => dvT kf n p m / bsK (kf (n - 1 - m))
def pvA (n : Int) (kf : Int → Int) (wh : Int) (rv : Int → Int) (p k : Int) : Int := if wh = 0 then rv (3 * p + k) else dvT kf n p (n - 1 - k).toNat % bsK (kf k)
theorem dvT_r {kf : Int → Int} {n p : Int} (h : 0 ≤ p) : ∀ m : Nat, 0 ≤ dvT kf n p m ∧ dvT kf n p m ≤ p
  | 0 => ⟨h, Int.le_refl _⟩
  | m + 1 => by
    have ih := dvT_r (kf := kf) (n := n) h m
    have b := bsK_r (kf (n - 1 - m))
    show 0 ≤ dvT kf n p m / bsK (kf (n - 1 - m)) ∧ dvT kf n p m / bsK (kf (n - 1 - m)) ≤ p
    exact ⟨Int.ediv_nonneg ih.1 (by omega), Int.le_trans (Int.ediv_le_self _ ih.1) ih.2⟩
/-- what of an ask tells its points: x -/
def pkX (h : AH) (n : Int) (kf : Int → Int) (wh : Int) (rv : Int → Int) (pts : Int) : Prop := isX4 (h 200 16) ∧ h (h 200 16) 1 = n ∧ 1 ≤ n ∧ n ≤ 3 ∧ (∀ k, 0 ≤ k → k < n → h (h 200 16 + 1) k = kf k ∧ 0 ≤ kf k ∧ kf k ≤ 2) ∧ h (h 200 16) 17 = wh ∧ (wh = 0 ∨ wh = 1) ∧ h (h 200 16) 18 = pts ∧ 0 ≤ pts ∧ pts ≤ 256 ∧ (wh = 0 → pts ≤ 12 ∧ ∀ s, 0 ≤ s → s < 36 → h (h 200 16 + 6) s = rv s) ∧ (∀ p k, 0 ≤ p → p < pts → 0 ≤ k → k < n → vlR (kf k) (pvA n kf wh rv p k))
theorem vX4_valueAt_l28 (i0 : Int) (i2 : Int) (a30 : Int) (a40 : Int) {h : AH} {n p : Int} {kf : Int → Int} (x : isX4 i0 ∧ 1 ≤ n ∧ n ≤ 3 ∧ (∀ k, 0 ≤ k → k < n → h (i0 + 1) k = kf k)) (pk : 0 ≤ p ∧ p ≤ 100000 ∧ 0 ≤ i2 ∧ i2 < n) (z : a30 = p ∧ a40 = n - 1) : OK (gX4_valueAt_l28 i0 i2 a30 a40 h) (fun v => v = dvT kf n p (n - 1 - i2).toNat) := by
  unfold gX4_valueAt_l28
  refine OK_jit (I := (fun (s : Int × Int) => jt2 s fun a3 a4 => (i2 ≤ a4 ∧ a4 ≤ n - 1) ∧ (a3 = dvT kf n p (n - 1 - a4).toNat))) (m := (fun (s : Int × Int) => jt2 s fun a3 a4 => (a4 - i2).toNat)) ?_ ?_
  · intro s hs
    obtain ⟨a3, a4⟩ := s
    dsimp only [Sum.elim_inl, Sum.elim_inr, jt2, jt3, jt4, jt5, jt6, jt7, jt8] at hs
    obtain ⟨q0, q1⟩ := hs
    unfold gX4_valueAt_b28
    refine OK_jt2 ?_
    have dr := dvT_r (kf := kf) (n := n) pk.1 (n - 1 - a4).toNat
    have xk := x.2.2.2
    refine OK_if (fun c1 => ?_) (fun c1 => ?_)
    · skip
      try simp (disch := omega) only [jst_eq, jst_ne, jst_ni, jI_i, jcmp_lt, jcmp_gt, w32_id, jcpy_out, Sum.elim_inl, Sum.elim_inr, jt2, jt3, jt4, jt5, jt6, jt7, jt8] at c1
      refine OK_ir ?_
      (rw [show i2 = a4 by omega]; exact q1) -- o1 e1
    · skip
      try simp (disch := omega) only [jst_eq, jst_ne, jst_ni, jI_i, jcmp_lt, jcmp_gt, w32_id, jcpy_out, Sum.elim_inl, Sum.elim_inr, jt2, jt3, jt4, jt5, jt6, jt7, jt8] at c1
      have ck := xk a4 (by omega) (by omega)
      have bk := bsK_r (kf a4)
      refine OK_jg (by (first | assumption | omega | ((try dsimp only [jt2, jt3, jt4]); first | omega | (simp (disch := omega) only [jst_eq, jst_ne, jst_ni, jst_o, jI_i, jcpy_out, w32_id, jdiv_nn, jshr_k, jand_255] <;> first | done | omega | assumption)) | (intros; simp (disch := omega) only [jst_eq, jst_ne, jst_ni, jst_o, jI_i, jcpy_out, w32_id, jdiv_nn, *] <;> first | done | omega) | (intros; simp (disch := omega) only [jst_eq, jst_ne, jst_ni, jst_o, jI_i, jcpy_out, w32_id, jdiv_nn] at * <;> first | done | omega | assumption) | (intros; first | rfl | (exfalso; omega) | ((repeat' apply And.intro) <;> first | assumption | rfl | omega | trivial)))) ?_ -- o2
      refine OK_jb (vX4_valuesOf _) (fun v9 r1 => ?_)
      try dsimp only [Sum.elim_inl, Sum.elim_inr, jt2, jt3, jt4, jt5, jt6, jt7, jt8] at r1
      have bv1 := r1
      clear r1
      try simp (disch := omega) only [jst_eq, jst_ne, jst_ni, jI_i, jcmp_lt, jcmp_gt, w32_id, jcpy_out, Sum.elim_inl, Sum.elim_inr, jt2, jt3, jt4, jt5, jt6, jt7, jt8] at bv1
      rw [ck] at bv1
      have v9z : ¬ v9 = 0 := by omega
      have st : dvT kf n p (n - 1 - (a4 - 1)).toNat = dvT kf n p (n - 1 - a4).toNat / bsK (kf a4) := by { rw [show (n - 1 - (a4 - 1)).toNat = (n - 1 - a4).toNat + 1 by omega]; show _ / bsK (kf (n - 1 - (((n - 1 - a4).toNat : Nat) : Int))) = _; rw [show n - 1 - (((n - 1 - a4).toNat : Nat) : Int) = a4 by omega] }
      refine OK_jg (by (first | assumption | omega | ((try dsimp only [jt2, jt3, jt4]); first | omega | (simp (disch := omega) only [jst_eq, jst_ne, jst_ni, jst_o, jI_i, jcpy_out, w32_id, jdiv_nn, jshr_k, jand_255] <;> first | done | omega | assumption)) | (intros; simp (disch := omega) only [jst_eq, jst_ne, jst_ni, jst_o, jI_i, jcpy_out, w32_id, jdiv_nn, *] <;> first | done | omega) | (intros; simp (disch := omega) only [jst_eq, jst_ne, jst_ni, jst_o, jI_i, jcpy_out, w32_id, jdiv_nn] at * <;> first | done | omega | assumption) | (intros; first | rfl | (exfalso; omega) | ((repeat' apply And.intro) <;> first | assumption | rfl | omega | trivial)))) ?_ -- o3
      refine OK_jlx (fun x10 ex10 => ?_)
      try simp (disch := omega) only [jst_eq, jst_ne, jst_ni, jI_i, jcmp_lt, jcmp_gt, w32_id, jcpy_out, Sum.elim_inl, Sum.elim_inr, jt2, jt3, jt4, jt5, jt6, jt7, jt8] at ex10
      have e10 : x10 = dvT kf n p (n - 1 - a4).toNat / bsK (kf a4) := by { rw [ex10, q1, bv1]; exact jdiv_nn (by omega) (by omega) (by omega) (by omega) }
      refine OK_jlx (fun x11 ex11 => ?_)
      try simp (disch := omega) only [jst_eq, jst_ne, jst_ni, jI_i, jcmp_lt, jcmp_gt, w32_id, jcpy_out, Sum.elim_inl, Sum.elim_inr, jt2, jt3, jt4, jt5, jt6, jt7, jt8] at ex11
      have e11 : x11 = a4 - 1 := by omega
      refine OK_il ?_ ?_
      · try dsimp only [Sum.elim_inl, Sum.elim_inr, jt2, jt3, jt4, jt5, jt6, jt7, jt8]
        refine ⟨?_, ?_⟩
        · (first | assumption | omega | ((try dsimp only [jt2, jt3, jt4]); first | omega | (simp (disch := omega) only [jst_eq, jst_ne, jst_ni, jst_o, jI_i, jcpy_out, w32_id, jdiv_nn, jshr_k, jand_255] <;> first | done | omega | assumption)) | (intros; simp (disch := omega) only [jst_eq, jst_ne, jst_ni, jst_o, jI_i, jcpy_out, w32_id, jdiv_nn, *] <;> first | done | omega) | (intros; simp (disch := omega) only [jst_eq, jst_ne, jst_ni, jst_o, jI_i, jcpy_out, w32_id, jdiv_nn] at * <;> first | done | omega | assumption) | (intros; first | rfl | (exfalso; omega) | ((repeat' apply And.intro) <;> first | assumption | rfl | omega | trivial))) -- o4 e2i.1
        · (rw [e11, st, e10]) -- o5 e2i.2
      · (first | assumption | omega | ((try dsimp only [jt2, jt3, jt4]); first | omega | (simp (disch := omega) only [jst_eq, jst_ne, jst_ni, jst_o, jI_i, jcpy_out, w32_id, jdiv_nn, jshr_k, jand_255] <;> first | done | omega | assumption)) | (intros; simp (disch := omega) only [jst_eq, jst_ne, jst_ni, jst_o, jI_i, jcpy_out, w32_id, jdiv_nn, *] <;> first | done | omega) | (intros; simp (disch := omega) only [jst_eq, jst_ne, jst_ni, jst_o, jI_i, jcpy_out, w32_id, jdiv_nn] at * <;> first | done | omega | assumption) | (intros; first | rfl | (exfalso; omega) | ((repeat' apply And.intro) <;> first | assumption | rfl | omega | trivial))) -- o6 e2m
  · try dsimp only [Sum.elim_inl, Sum.elim_inr, jt2, jt3, jt4, jt5, jt6, jt7, jt8]
    refine ⟨?_, ?_⟩
    · (first | assumption | omega | ((try dsimp only [jt2, jt3, jt4]); first | omega | (simp (disch := omega) only [jst_eq, jst_ne, jst_ni, jst_o, jI_i, jcpy_out, w32_id, jdiv_nn, jshr_k, jand_255] <;> first | done | omega | assumption)) | (intros; simp (disch := omega) only [jst_eq, jst_ne, jst_ni, jst_o, jI_i, jcpy_out, w32_id, jdiv_nn, *] <;> first | done | omega) | (intros; simp (disch := omega) only [jst_eq, jst_ne, jst_ni, jst_o, jI_i, jcpy_out, w32_id, jdiv_nn] at * <;> first | done | omega | assumption) | (intros; first | rfl | (exfalso; omega) | ((repeat' apply And.intro) <;> first | assumption | rfl | omega | trivial))) -- o7 init.1
    · (rw [z.1, z.2, show n - 1 - (n - 1) = 0 by omega]; rfl) -- o8 init.2
theorem vX4_valueAt (a0 : Int) (a1 : Int) (a2 : Int) {h : AH} {n pts wh : Int} {kf rv : Int → Int} (x : isX4 a0 ∧ h a0 1 = n ∧ 1 ≤ n ∧ n ≤ 3 ∧ (∀ k, 0 ≤ k → k < n → h (a0 + 1) k = kf k)) (w : h a0 17 = wh ∧ (wh = 0 → pts ≤ 12 ∧ ∀ s, 0 ≤ s → s < 36 → h (a0 + 6) s = rv s) ∧ pts ≤ 256) (pk : 0 ≤ a1 ∧ a1 < pts ∧ 0 ≤ a2 ∧ a2 < n) : OK (gX4_valueAt a0 a1 a2 h) (fun v => v = pvA n kf wh rv a1 a2) := by
  have xk := x.2.2.2.2
  have bk := bsK_r (kf a2)
  unfold gX4_valueAt
  refine OK_if (fun c1 => ?_) (fun c1 => ?_)
  · skip
    try simp (disch := omega) only [jst_eq, jst_ne, jst_ni, jI_i, jcmp_lt, jcmp_gt, w32_id, jcpy_out, Sum.elim_inl, Sum.elim_inr, jt2, jt3, jt4, jt5, jt6, jt7, jt8] at c1
    have w0 := w.2.1 (by omega)
    have iw : w32 (w32 (3 * a1) + a2) = 3 * a1 + a2 := by { rw [w32_id (x := 3 * a1) (by omega) (by omega), w32_id (by omega) (by omega)] }
    refine OK_jg (by (first | assumption | omega | ((try dsimp only [jt2, jt3, jt4]); first | omega | (simp (disch := omega) only [jst_eq, jst_ne, jst_ni, jst_o, jI_i, jcpy_out, w32_id, jdiv_nn, jshr_k, jand_255] <;> first | done | omega | assumption)) | (intros; simp (disch := omega) only [jst_eq, jst_ne, jst_ni, jst_o, jI_i, jcpy_out, w32_id, jdiv_nn, *] <;> first | done | omega) | (intros; simp (disch := omega) only [jst_eq, jst_ne, jst_ni, jst_o, jI_i, jcpy_out, w32_id, jdiv_nn] at * <;> first | done | omega | assumption) | (intros; first | rfl | (exfalso; omega) | ((repeat' apply And.intro) <;> first | assumption | rfl | omega | trivial)))) ?_ -- o1
    refine OK_some ?_
    try dsimp only [Sum.elim_inl, Sum.elim_inr, jt2, jt3, jt4, jt5, jt6, jt7, jt8]
    (unfold pvA; rw [if_pos (by omega)]; first | (rw [iw]; exact w0.2 _ (by omega) (by omega)) | exact w0.2 _ (by omega) (by omega)) -- o2 e1
  · skip
    try simp (disch := omega) only [jst_eq, jst_ne, jst_ni, jI_i, jcmp_lt, jcmp_gt, w32_id, jcpy_out, Sum.elim_inl, Sum.elim_inr, jt2, jt3, jt4, jt5, jt6, jt7, jt8] at c1
    refine OK_jlx (fun x2 ex2 => ?_)
    try simp (disch := omega) only [jst_eq, jst_ne, jst_ni, jI_i, jcmp_lt, jcmp_gt, w32_id, jcpy_out, Sum.elim_inl, Sum.elim_inr, jt2, jt3, jt4, jt5, jt6, jt7, jt8] at ex2
    refine OK_jb (vX4_valueAt_l28 (n := n) (p := a1) (kf := kf) _ _ _ _ (by exact ⟨x.1, x.2.2.1, x.2.2.2.1, xk⟩) (by (first | assumption | omega | ((try dsimp only [jt2, jt3, jt4]); first | omega | (simp (disch := omega) only [jst_eq, jst_ne, jst_ni, jst_o, jI_i, jcpy_out, w32_id, jdiv_nn, jshr_k, jand_255] <;> first | done | omega | assumption)) | (intros; simp (disch := omega) only [jst_eq, jst_ne, jst_ni, jst_o, jI_i, jcpy_out, w32_id, jdiv_nn, *] <;> first | done | omega) | (intros; simp (disch := omega) only [jst_eq, jst_ne, jst_ni, jst_o, jI_i, jcpy_out, w32_id, jdiv_nn] at * <;> first | done | omega | assumption) | (intros; first | rfl | (exfalso; omega) | ((repeat' apply And.intro) <;> first | assumption | rfl | omega | trivial)))) (by (first | assumption | omega | ((try dsimp only [jt2, jt3, jt4]); first | omega | (simp (disch := omega) only [jst_eq, jst_ne, jst_ni, jst_o, jI_i, jcpy_out, w32_id, jdiv_nn, jshr_k, jand_255] <;> first | done | omega | assumption)) | (intros; simp (disch := omega) only [jst_eq, jst_ne, jst_ni, jst_o, jI_i, jcpy_out, w32_id, jdiv_nn, *] <;> first | done | omega) | (intros; simp (disch := omega) only [jst_eq, jst_ne, jst_ni, jst_o, jI_i, jcpy_out, w32_id, jdiv_nn] at * <;> first | done | omega | assumption) | (intros; first | rfl | (exfalso; omega) | ((repeat' apply And.intro) <;> first | assumption | rfl | omega | trivial))))) (fun o3 r1 => ?_)
    try dsimp only [Sum.elim_inl, Sum.elim_inr, jt2, jt3, jt4, jt5, jt6, jt7, jt8] at r1
    have pv1 := r1
    clear r1
    try simp (disch := omega) only [jst_eq, jst_ne, jst_ni, jI_i, jcmp_lt, jcmp_gt, w32_id, jcpy_out, Sum.elim_inl, Sum.elim_inr, jt2, jt3, jt4, jt5, jt6, jt7, jt8] at pv1
    refine OK_jg (by (first | assumption | omega | ((try dsimp only [jt2, jt3, jt4]); first | omega | (simp (disch := omega) only [jst_eq, jst_ne, jst_ni, jst_o, jI_i, jcpy_out, w32_id, jdiv_nn, jshr_k, jand_255] <;> first | done | omega | assumption)) | (intros; simp (disch := omega) only [jst_eq, jst_ne, jst_ni, jst_o, jI_i, jcpy_out, w32_id, jdiv_nn, *] <;> first | done | omega) | (intros; simp (disch := omega) only [jst_eq, jst_ne, jst_ni, jst_o, jI_i, jcpy_out, w32_id, jdiv_nn] at * <;> first | done | omega | assumption) | (intros; first | rfl | (exfalso; omega) | ((repeat' apply And.intro) <;> first | assumption | rfl | omega | trivial)))) ?_ -- o6
    refine OK_jb (vX4_valuesOf _) (fun v6 r2 => ?_)
    try dsimp only [Sum.elim_inl, Sum.elim_inr, jt2, jt3, jt4, jt5, jt6, jt7, jt8] at r2
    have bv2 := r2
    clear r2
    try simp (disch := omega) only [jst_eq, jst_ne, jst_ni, jI_i, jcmp_lt, jcmp_gt, w32_id, jcpy_out, Sum.elim_inl, Sum.elim_inr, jt2, jt3, jt4, jt5, jt6, jt7, jt8] at bv2
    have ck := xk a2 (by omega) (by omega)
    rw [ck] at bv2
    have v6z : ¬ v6 = 0 := by omega
    have dr := dvT_r (kf := kf) (n := n) pk.1 (n - 1 - a2).toNat
    refine OK_jg (by (first | assumption | omega | ((try dsimp only [jt2, jt3, jt4]); first | omega | (simp (disch := omega) only [jst_eq, jst_ne, jst_ni, jst_o, jI_i, jcpy_out, w32_id, jdiv_nn, jshr_k, jand_255] <;> first | done | omega | assumption)) | (intros; simp (disch := omega) only [jst_eq, jst_ne, jst_ni, jst_o, jI_i, jcpy_out, w32_id, jdiv_nn, *] <;> first | done | omega) | (intros; simp (disch := omega) only [jst_eq, jst_ne, jst_ni, jst_o, jI_i, jcpy_out, w32_id, jdiv_nn] at * <;> first | done | omega | assumption) | (intros; first | rfl | (exfalso; omega) | ((repeat' apply And.intro) <;> first | assumption | rfl | omega | trivial)))) ?_ -- o7
    refine OK_some ?_
    try dsimp only [Sum.elim_inl, Sum.elim_inr, jt2, jt3, jt4, jt5, jt6, jt7, jt8]
    (unfold pvA; rw [if_neg (by omega), pv1, bv2]; exact jrem_nn (by omega) (by omega) (by omega) (by omega)) -- o8 e2
theorem vX1_answer_l16 (i1 : Int) (i2 : Int) (i3 : Int) (a40 : Int) {h0 : AH} {n pts wh : Int} {kf rv : Int → Int} (a : pkX h0 n kf wh rv pts) (p : 0 ≤ i3 ∧ i3 < pts) (z : a40 = 0) : OK (gX1_answer_l16 i1 i2 i3 a40 h0) (fun h' => (∀ k, 0 ≤ k → k < n → h' 269 k = pvA n kf wh rv i3 k) ∧ (∀ a s, ¬ (a = 269 ∧ 0 ≤ s) → h' a s = h0 a s)) := by
  unfold gX1_answer_l16
  refine OK_jit (I := (fun (s : Int × AH) => jt2 s fun a4 h => (0 ≤ a4 ∧ a4 ≤ n) ∧ (∀ k, 0 ≤ k → k < a4 → h 269 k = pvA n kf wh rv i3 k) ∧ (∀ a s, ¬ (a = 269 ∧ 0 ≤ s) → h a s = h0 a s))) (m := (fun (s : Int × AH) => jt2 s fun a4 h => (n - a4).toNat)) ?_ ?_
  · intro s hs
    obtain ⟨a4, h⟩ := s
    dsimp only [Sum.elim_inl, Sum.elim_inr, jt2, jt3, jt4, jt5, jt6, jt7, jt8] at hs
    obtain ⟨q0, q1, fr⟩ := hs
    unfold gX1_answer_b16
    refine OK_jt2 ?_
    obtain ⟨p1, p2, p3, p4, p5, p6, p7, p8, p9, p10, p11, p12⟩ := a
    have x4 : h0 200 16 = 271 ∨ h0 200 16 = 289 := p1
    have e16 : h 200 16 = h0 200 16 := fr _ _ (by omega)
    have eX : ∀ s, h (h0 200 16) s = h0 (h0 200 16) s := fun s => fr _ _ (by omega)
    have e1 := eX 1
    rw [e16, e1, p2]
    refine OK_if (fun c1 => ?_) (fun c1 => ?_)
    · skip
      try simp (disch := omega) only [jst_eq, jst_ne, jst_ni, jI_i, jcmp_lt, jcmp_gt, w32_id, jcpy_out, Sum.elim_inl, Sum.elim_inr, jt2, jt3, jt4, jt5, jt6, jt7, jt8] at c1
      refine OK_ir ?_
      try dsimp only [Sum.elim_inl, Sum.elim_inr, jt2, jt3, jt4, jt5, jt6, jt7, jt8]
      refine ⟨?_, ?_⟩
      · (intro k k0 k1; exact q1 k k0 (by omega)) -- o1 e1.1
      · (first | assumption | omega | ((try dsimp only [jt2, jt3, jt4]); first | omega | (simp (disch := omega) only [jst_eq, jst_ne, jst_ni, jst_o, jI_i, jcpy_out, w32_id, jdiv_nn, jshr_k, jand_255] <;> first | done | omega | assumption)) | (intros; simp (disch := omega) only [jst_eq, jst_ne, jst_ni, jst_o, jI_i, jcpy_out, w32_id, jdiv_nn, *] <;> first | done | omega) | (intros; simp (disch := omega) only [jst_eq, jst_ne, jst_ni, jst_o, jI_i, jcpy_out, w32_id, jdiv_nn] at * <;> first | done | omega | assumption) | (intros; first | rfl | (exfalso; omega) | ((repeat' apply And.intro) <;> first | assumption | rfl | omega | trivial))) -- o2 e1.2
    · skip
      try simp (disch := omega) only [jst_eq, jst_ne, jst_ni, jI_i, jcmp_lt, jcmp_gt, w32_id, jcpy_out, Sum.elim_inl, Sum.elim_inr, jt2, jt3, jt4, jt5, jt6, jt7, jt8] at c1
      refine OK_jb (vX4_valueAt (n := n) (pts := pts) (wh := wh) (kf := kf) (rv := rv) _ _ _ (by exact ⟨p1, by rw [eX]; exact p2, p3, p4, fun k k0 k1 => by rw [fr _ _ (by omega)]; exact (p5 k k0 k1).1⟩) (by exact ⟨by rw [eX]; exact p6, fun y => ⟨(p11 y).1, fun s s0 s1 => by rw [fr _ _ (by omega)]; exact (p11 y).2 s s0 s1⟩, p10⟩) (by (first | assumption | omega | ((try dsimp only [jt2, jt3, jt4]); first | omega | (simp (disch := omega) only [jst_eq, jst_ne, jst_ni, jst_o, jI_i, jcpy_out, w32_id, jdiv_nn, jshr_k, jand_255] <;> first | done | omega | assumption)) | (intros; simp (disch := omega) only [jst_eq, jst_ne, jst_ni, jst_o, jI_i, jcpy_out, w32_id, jdiv_nn, *] <;> first | done | omega) | (intros; simp (disch := omega) only [jst_eq, jst_ne, jst_ni, jst_o, jI_i, jcpy_out, w32_id, jdiv_nn] at * <;> first | done | omega | assumption) | (intros; first | rfl | (exfalso; omega) | ((repeat' apply And.intro) <;> first | assumption | rfl | omega | trivial))))) (fun v15 r1 => ?_)
      try dsimp only [Sum.elim_inl, Sum.elim_inr, jt2, jt3, jt4, jt5, jt6, jt7, jt8] at r1
      have vv1 := r1
      clear r1
      try simp (disch := omega) only [jst_eq, jst_ne, jst_ni, jI_i, jcmp_lt, jcmp_gt, w32_id, jcpy_out, Sum.elim_inl, Sum.elim_inr, jt2, jt3, jt4, jt5, jt6, jt7, jt8] at vv1
      refine OK_jg (by (first | assumption | omega | ((try dsimp only [jt2, jt3, jt4]); first | omega | (simp (disch := omega) only [jst_eq, jst_ne, jst_ni, jst_o, jI_i, jcpy_out, w32_id, jdiv_nn, jshr_k, jand_255] <;> first | done | omega | assumption)) | (intros; simp (disch := omega) only [jst_eq, jst_ne, jst_ni, jst_o, jI_i, jcpy_out, w32_id, jdiv_nn, *] <;> first | done | omega) | (intros; simp (disch := omega) only [jst_eq, jst_ne, jst_ni, jst_o, jI_i, jcpy_out, w32_id, jdiv_nn] at * <;> first | done | omega | assumption) | (intros; first | rfl | (exfalso; omega) | ((repeat' apply And.intro) <;> first | assumption | rfl | omega | trivial)))) ?_ -- o6
      refine OK_jl ?_
      refine OK_jlx (fun x17 ex17 => ?_)
      try simp (disch := omega) only [jst_eq, jst_ne, jst_ni, jI_i, jcmp_lt, jcmp_gt, w32_id, jcpy_out, Sum.elim_inl, Sum.elim_inr, jt2, jt3, jt4, jt5, jt6, jt7, jt8] at ex17
      refine OK_il ?_ ?_
      · try dsimp only [Sum.elim_inl, Sum.elim_inr, jt2, jt3, jt4, jt5, jt6, jt7, jt8]
        refine ⟨?_, ?_, ?_⟩
        · (first | assumption | omega | ((try dsimp only [jt2, jt3, jt4]); first | omega | (simp (disch := omega) only [jst_eq, jst_ne, jst_ni, jst_o, jI_i, jcpy_out, w32_id, jdiv_nn, jshr_k, jand_255] <;> first | done | omega | assumption)) | (intros; simp (disch := omega) only [jst_eq, jst_ne, jst_ni, jst_o, jI_i, jcpy_out, w32_id, jdiv_nn, *] <;> first | done | omega) | (intros; simp (disch := omega) only [jst_eq, jst_ne, jst_ni, jst_o, jI_i, jcpy_out, w32_id, jdiv_nn] at * <;> first | done | omega | assumption) | (intros; first | rfl | (exfalso; omega) | ((repeat' apply And.intro) <;> first | assumption | rfl | omega | trivial))) -- o7 e2i.1
        · (intro k k0 k1; rw [jst_at]; by_cases y : k = a4; { rw [if_pos y, vv1, y] }; { rw [if_neg y]; exact q1 k k0 (by omega) }) -- o8 e2i.2
        · (intro a s y; rw [jst_o (by omega)]; exact fr a s y) -- o9 e2i.3
      · (first | assumption | omega | ((try dsimp only [jt2, jt3, jt4]); first | omega | (simp (disch := omega) only [jst_eq, jst_ne, jst_ni, jst_o, jI_i, jcpy_out, w32_id, jdiv_nn, jshr_k, jand_255] <;> first | done | omega | assumption)) | (intros; simp (disch := omega) only [jst_eq, jst_ne, jst_ni, jst_o, jI_i, jcpy_out, w32_id, jdiv_nn, *] <;> first | done | omega) | (intros; simp (disch := omega) only [jst_eq, jst_ne, jst_ni, jst_o, jI_i, jcpy_out, w32_id, jdiv_nn] at * <;> first | done | omega | assumption) | (intros; first | rfl | (exfalso; omega) | ((repeat' apply And.intro) <;> first | assumption | rfl | omega | trivial))) -- o10 e2m
  · try dsimp only [Sum.elim_inl, Sum.elim_inr, jt2, jt3, jt4, jt5, jt6, jt7, jt8]
    refine ⟨?_, ?_, ?_⟩
    · (have := a.2.2.1; omega) -- o11 init.1
    · (first | assumption | omega | ((try dsimp only [jt2, jt3, jt4]); first | omega | (simp (disch := omega) only [jst_eq, jst_ne, jst_ni, jst_o, jI_i, jcpy_out, w32_id, jdiv_nn, jshr_k, jand_255] <;> first | done | omega | assumption)) | (intros; simp (disch := omega) only [jst_eq, jst_ne, jst_ni, jst_o, jI_i, jcpy_out, w32_id, jdiv_nn, *] <;> first | done | omega) | (intros; simp (disch := omega) only [jst_eq, jst_ne, jst_ni, jst_o, jI_i, jcpy_out, w32_id, jdiv_nn] at * <;> first | done | omega | assumption) | (intros; first | rfl | (exfalso; omega) | ((repeat' apply And.intro) <;> first | assumption | rfl | omega | trivial))) -- o12 init.2
    · (first | assumption | omega | ((try dsimp only [jt2, jt3, jt4]); first | omega | (simp (disch := omega) only [jst_eq, jst_ne, jst_ni, jst_o, jI_i, jcpy_out, w32_id, jdiv_nn, jshr_k, jand_255] <;> first | done | omega | assumption)) | (intros; simp (disch := omega) only [jst_eq, jst_ne, jst_ni, jst_o, jI_i, jcpy_out, w32_id, jdiv_nn, *] <;> first | done | omega) | (intros; simp (disch := omega) only [jst_eq, jst_ne, jst_ni, jst_o, jI_i, jcpy_out, w32_id, jdiv_nn] at * <;> first | done | omega | assumption) | (intros; first | rfl | (exfalso; omega) | ((repeat' apply And.intro) <;> first | assumption | rfl | omega | trivial))) -- o13 init.3
/-- what an answer at all points needs: x -/
def prA (h : AH) (E : EV) (Rf : Int → TR) (W : Int → Int → Int → VW) (f : Int → Int → Int → Int) (T N n : Int) (kf : Int → Int) (wh : Int) (rv : Int → Int) (pts : Int) (R : TR) (d : Int) : Prop := pkX h n kf wh rv pts ∧ enuX h E Rf W f ∧ E.2.2.1 = 0 ∧ capX h T N ∧ vwX h T N (-1) 0 R d 0 ∧ tyT E n kf R 0 ∧ h 200 11 = -1 ∧ dpE E.1.2.2.2.1 R ≤ 100 ∧ (∀ c, 0 ≤ c → c ≤ 2 → 0 ≤ h 270 c ∧ h 270 c ≤ 15) ∧ -2147483648 ≤ h 200 10 ∧ h 200 10 < 2147483648 ∧ 200 < T
def fr323 (pts : Int) (h h' : AH) : Prop := ∀ a s, ¬ (a = 200 ∧ (s = 9 ∨ s = 10)) → ¬ (a = 269 ∧ 0 ≤ s) → ¬ (a = 323 ∧ 0 ≤ s ∧ s < pts) → h' a s = h a s
theorem prA_fr {h h' : AH} {E : EV} {Rf : Int → TR} {W : Int → Int → Int → VW} {f : Int → Int → Int → Int} {T N n wh pts d : Int} {kf rv : Int → Int} {R : TR} (p : prA h E Rf W f T N n kf wh rv pts R d) (g : fr323 pts h h') (b : -2147483648 ≤ h' 200 10 ∧ h' 200 10 < 2147483648) : prA h' E Rf W f T N n kf wh rv pts R d := by
  obtain ⟨⟨p1, p2, p3, p4, p5, p6, p7, p8, p9, p10, p11, p12⟩, q2, q3, q4, q5, q6, q7, q8, q9, q10, q11, q12⟩ := p
  have x4 : h 200 16 = 271 ∨ h 200 16 = 289 := p1
  have t3 := isX3_p q4.1
  have t4 : T = 258 ∨ T = 283 ∨ T = 301 ∨ T = 324 ∨ T = 330 ∨ T = 341 ∨ T = 347 ∨ T = 357 ∨ T = 363 ∨ T = 383 ∨ T = 396 := q4.1
  have e16 : h' 200 16 = h 200 16 := g _ _ (by omega) (by omega) (by omega)
  have eX : ∀ s, h' (h 200 16) s = h (h 200 16) s := fun s => g _ _ (by omega) (by omega) (by omega)
  refine ⟨⟨?_, ?_, p3, p4, ?_, ?_, p7, ?_, p9, p10, ?_, p12⟩, ?_, q3, capX_fr q4 (fun a a0 a1 => g _ _ (by omega) (by omega) (by omega)), vwX_fr (fun a s y => g _ _ (by omega) (by omega) (by omega)) q5, q6, by rw [g _ _ (by omega) (by omega) (by omega)]; exact q7, q8, fun c c0 c1 => by rw [g _ _ (by omega) (by omega) (by omega)]; exact q9 c c0 c1, b.1, b.2, q12⟩
  · rw [e16]; exact p1
  · rw [e16, eX]; exact p2
  · rw [e16]; intro k k0 k1; rw [g _ _ (by omega) (by omega) (by omega)]; exact p5 k k0 k1
  · rw [e16, eX]; exact p6
  · rw [e16, eX]; exact p8
  · rw [e16]; intro y; exact ⟨(p11 y).1, fun s s0 s1 => by rw [g _ _ (by omega) (by omega) (by omega)]; exact (p11 y).2 s s0 s1⟩
  · obtain ⟨e1, e2, e3, e4, e5, e6, e8, e7⟩ := q2
    refine ⟨actX_fr e1 (fun a s q => by unfold actC at q; exact g a s (by omega) (by omega) (by omega)), e2, e3, e4, ?_, fun z => by omega, ⟨by rw [g _ _ (by omega) (by omega) (by omega)]; exact e8.1, by rw [g _ _ (by omega) (by omega) (by omega)]; exact e8.2⟩, e7⟩
    obtain ⟨N, c, o⟩ := e5
    refine ⟨N, capX_fr c (fun a a0 a1 => g _ _ (by omega) (by omega) (by omega)), fun a a0 a1 => ?_⟩
    obtain ⟨o1, o2⟩ := o a a0 a1
    rw [g 264 _ (by omega) (by omega) (by omega)]
    exact ⟨vwX_fr (fun a s q => g _ _ (by omega) (by omega) (by omega)) o1, o2⟩
theorem vX1_answer_l2 (i1 : Int) (i2 : Int) (a30 : Int) {h0 : AH} {E : EV} {Rf : Int → TR} {W : Int → Int → Int → VW} {f : Int → Int → Int → Int} {N n wh pts : Int} {kf rv hl : Int → Int} {R : TR} (a : prA h0 E Rf W f i1 N n kf wh rv pts R i2) (hlc : ∀ s, h0 270 s = hl s) (z : a30 = 0) : OK (gX1_answer_l2 i1 i2 a30 h0) (fun h' => (∀ p, 0 ≤ p → p < pts → h' 323 p = (evT W f (pvA n kf wh rv p) hl R).1) ∧ (fr323 pts h0 h') ∧ (-2147483648 ≤ h' 200 10 ∧ h' 200 10 < 2147483648)) := by
  unfold gX1_answer_l2
  refine OK_jit (I := (fun (s : Int × AH) => jt2 s fun a3 h => (0 ≤ a3 ∧ a3 ≤ pts) ∧ (∀ p, 0 ≤ p → p < a3 → h 323 p = (evT W f (pvA n kf wh rv p) hl R).1) ∧ (fr323 pts h0 h) ∧ (-2147483648 ≤ h 200 10 ∧ h 200 10 < 2147483648))) (m := (fun (s : Int × AH) => jt2 s fun a3 h => (pts - a3).toNat)) ?_ ?_
  · intro s hs
    obtain ⟨a3, h⟩ := s
    dsimp only [Sum.elim_inl, Sum.elim_inr, jt2, jt3, jt4, jt5, jt6, jt7, jt8] at hs
    obtain ⟨q0, q1, fr, b⟩ := hs
    unfold gX1_answer_b2
    refine OK_jt2 ?_
    have A := prA_fr a fr b
    obtain ⟨⟨p1, p2, p3, p4, p5, p6, p7, p8, p9, p10, p11, p12⟩, q2', q3', q4', q5', q6', q7', q8', q9', q10', q11', q12'⟩ := A
    have A := prA_fr a fr b
    have x4 : h 200 16 = 271 ∨ h 200 16 = 289 := p1
    have d0 := dpE_0 q2'.2.2.2.2.2.2.2 R
    refine OK_if (fun c1 => ?_) (fun c1 => ?_)
    · skip
      try simp (disch := omega) only [jst_eq, jst_ne, jst_ni, jI_i, jcmp_lt, jcmp_gt, w32_id, jcpy_out, Sum.elim_inl, Sum.elim_inr, jt2, jt3, jt4, jt5, jt6, jt7, jt8] at c1
      refine OK_ir ?_
      try dsimp only [Sum.elim_inl, Sum.elim_inr, jt2, jt3, jt4, jt5, jt6, jt7, jt8]
      refine ⟨?_, ?_, ?_⟩
      · (intro p x0 x1; exact q1 p x0 (by omega)) -- o1 e1.1
      · (first | assumption | omega | ((try dsimp only [jt2, jt3, jt4]); first | omega | (simp (disch := omega) only [jst_eq, jst_ne, jst_ni, jst_o, jI_i, jcpy_out, w32_id, jdiv_nn, jshr_k, jand_255] <;> first | done | omega | assumption)) | (intros; simp (disch := omega) only [jst_eq, jst_ne, jst_ni, jst_o, jI_i, jcpy_out, w32_id, jdiv_nn, *] <;> first | done | omega) | (intros; simp (disch := omega) only [jst_eq, jst_ne, jst_ni, jst_o, jI_i, jcpy_out, w32_id, jdiv_nn] at * <;> first | done | omega | assumption) | (intros; first | rfl | (exfalso; omega) | ((repeat' apply And.intro) <;> first | assumption | rfl | omega | trivial))) -- o2 e1.2
      · (first | assumption | omega | ((try dsimp only [jt2, jt3, jt4]); first | omega | (simp (disch := omega) only [jst_eq, jst_ne, jst_ni, jst_o, jI_i, jcpy_out, w32_id, jdiv_nn, jshr_k, jand_255] <;> first | done | omega | assumption)) | (intros; simp (disch := omega) only [jst_eq, jst_ne, jst_ni, jst_o, jI_i, jcpy_out, w32_id, jdiv_nn, *] <;> first | done | omega) | (intros; simp (disch := omega) only [jst_eq, jst_ne, jst_ni, jst_o, jI_i, jcpy_out, w32_id, jdiv_nn] at * <;> first | done | omega | assumption) | (intros; first | rfl | (exfalso; omega) | ((repeat' apply And.intro) <;> first | assumption | rfl | omega | trivial))) -- o3 e1.3
    · skip
      try simp (disch := omega) only [jst_eq, jst_ne, jst_ni, jI_i, jcmp_lt, jcmp_gt, w32_id, jcpy_out, Sum.elim_inl, Sum.elim_inr, jt2, jt3, jt4, jt5, jt6, jt7, jt8] at c1
      refine OK_jb (vX1_answer_l16 (n := n) (pts := pts) (wh := wh) (kf := kf) (rv := rv) _ _ _ _ (by exact A.1) (by (first | assumption | omega | ((try dsimp only [jt2, jt3, jt4]); first | omega | (simp (disch := omega) only [jst_eq, jst_ne, jst_ni, jst_o, jI_i, jcpy_out, w32_id, jdiv_nn, jshr_k, jand_255] <;> first | done | omega | assumption)) | (intros; simp (disch := omega) only [jst_eq, jst_ne, jst_ni, jst_o, jI_i, jcpy_out, w32_id, jdiv_nn, *] <;> first | done | omega) | (intros; simp (disch := omega) only [jst_eq, jst_ne, jst_ni, jst_o, jI_i, jcpy_out, w32_id, jdiv_nn] at * <;> first | done | omega | assumption) | (intros; first | rfl | (exfalso; omega) | ((repeat' apply And.intro) <;> first | assumption | rfl | omega | trivial)))) (by (first | assumption | omega | ((try dsimp only [jt2, jt3, jt4]); first | omega | (simp (disch := omega) only [jst_eq, jst_ne, jst_ni, jst_o, jI_i, jcpy_out, w32_id, jdiv_nn, jshr_k, jand_255] <;> first | done | omega | assumption)) | (intros; simp (disch := omega) only [jst_eq, jst_ne, jst_ni, jst_o, jI_i, jcpy_out, w32_id, jdiv_nn, *] <;> first | done | omega) | (intros; simp (disch := omega) only [jst_eq, jst_ne, jst_ni, jst_o, jI_i, jcpy_out, w32_id, jdiv_nn] at * <;> first | done | omega | assumption) | (intros; first | rfl | (exfalso; omega) | ((repeat' apply And.intro) <;> first | assumption | rfl | omega | trivial))))) (fun o5 r1 => ?_)
      try dsimp only [Sum.elim_inl, Sum.elim_inr, jt2, jt3, jt4, jt5, jt6, jt7, jt8] at r1
      obtain ⟨cs1, fs1⟩ := r1
      try simp (disch := omega) only [jst_eq, jst_ne, jst_ni, jI_i, jcmp_lt, jcmp_gt, w32_id, jcpy_out, Sum.elim_inl, Sum.elim_inr, jt2, jt3, jt4, jt5, jt6, jt7, jt8] at cs1
      try simp (disch := omega) only [jst_eq, jst_ne, jst_ni, jI_i, jcmp_lt, jcmp_gt, w32_id, jcpy_out, Sum.elim_inl, Sum.elim_inr, jt2, jt3, jt4, jt5, jt6, jt7, jt8] at fs1
      refine OK_jl ?_
      have F7 : ∀ a s, ¬ (a = 200 ∧ s = 9) → ¬ (a = 269 ∧ 0 ≤ s) → jst o5 200 9 (o5 (o5 200 16) 1) a s = h a s := fun a s y1 y2 => by { rw [jst_o y1]; exact fs1 a s y2 }
      have C7 : jst o5 200 9 (o5 (o5 200 16) 1) 200 9 = n := by { rw [jst_eq, fs1 200 16 (by omega), fs1 _ _ (by omega)]; exact p2 }
      have c7 : ∀ k, 0 ≤ k → k < n → jst o5 200 9 (o5 (o5 200 16) 1) 269 k = pvA n kf wh rv a3 k := fun k k0 k1 => by { rw [jst_o (by omega)]; exact cs1 k k0 k1 }
      generalize e7 : jst o5 200 9 (o5 (o5 200 16) 1) = hq at *
      have A7 := prA_fr A (fun a s y1 y2 y3 => F7 a s (by omega) y2) (by rw [F7 _ _ (by omega) (by omega)]; exact b)
      refine OK_jb2 (vX1_work (E := E) (Rf := Rf) (W := W) (f := f) (N := N) (w := -1) (wv := 0) (np := n) (kp := kf) (p := pvA n kf wh rv a3) (hl := hl) (R := R) _ _ _ (by exact ⟨A7.2.1, A7.2.2.2.1, A7.2.2.2.2.1, A7.2.2.2.2.2.1, A7.2.2.2.2.2.2.1, Or.inl rfl, by decide, by rw [C7]; omega, by rw [C7]; omega, by omega, fun c c0 c1 => ⟨by rw [Int.zero_add]; exact c7 c c0 c1, p12 a3 c q0.1 (by omega) c0 c1⟩, fun c c0 c1 => ⟨by rw [F7 _ _ (by omega) (by omega), fr _ _ (by omega) (by omega) (by omega)]; exact hlc c, by have := A7.2.2.2.2.2.2.2.2.1 c c0 c1; rw [F7 _ _ (by omega) (by omega), fr _ _ (by omega) (by omega) (by omega), hlc] at this; exact this⟩, A7.2.2.2.2.2.2.2.2.2.1, A7.2.2.2.2.2.2.2.2.2.2.1⟩) (by (first | assumption | omega | ((try dsimp only [jt2, jt3, jt4]); first | omega | (simp (disch := omega) only [jst_eq, jst_ne, jst_ni, jst_o, jI_i, jcpy_out, w32_id, jdiv_nn, jshr_k, jand_255] <;> first | done | omega | assumption)) | (intros; simp (disch := omega) only [jst_eq, jst_ne, jst_ni, jst_o, jI_i, jcpy_out, w32_id, jdiv_nn, *] <;> first | done | omega) | (intros; simp (disch := omega) only [jst_eq, jst_ne, jst_ni, jst_o, jI_i, jcpy_out, w32_id, jdiv_nn] at * <;> first | done | omega | assumption) | (intros; first | rfl | (exfalso; omega) | ((repeat' apply And.intro) <;> first | assumption | rfl | omega | trivial))))) (fun v9 h10 r2 => ?_)
      try dsimp only [Sum.elim_inl, Sum.elim_inr, jt2, jt3, jt4, jt5, jt6, jt7, jt8] at r2
      obtain ⟨ev2, pe2⟩ := r2
      try simp (disch := omega) only [jst_eq, jst_ne, jst_ni, jI_i, jcmp_lt, jcmp_gt, w32_id, jcpy_out, Sum.elim_inl, Sum.elim_inr, jt2, jt3, jt4, jt5, jt6, jt7, jt8] at ev2
      try simp (disch := omega) only [jst_eq, jst_ne, jst_ni, jI_i, jcmp_lt, jcmp_gt, w32_id, jcpy_out, Sum.elim_inl, Sum.elim_inr, jt2, jt3, jt4, jt5, jt6, jt7, jt8] at pe2
      have wr := w32_r (hq 200 10 + (evT W f (pvA n kf wh rv a3) hl R).2)
      have P10 := pe2.1
      refine OK_jg (by (first | assumption | omega | ((try dsimp only [jt2, jt3, jt4]); first | omega | (simp (disch := omega) only [jst_eq, jst_ne, jst_ni, jst_o, jI_i, jcpy_out, w32_id, jdiv_nn, jshr_k, jand_255] <;> first | done | omega | assumption)) | (intros; simp (disch := omega) only [jst_eq, jst_ne, jst_ni, jst_o, jI_i, jcpy_out, w32_id, jdiv_nn, *] <;> first | done | omega) | (intros; simp (disch := omega) only [jst_eq, jst_ne, jst_ni, jst_o, jI_i, jcpy_out, w32_id, jdiv_nn] at * <;> first | done | omega | assumption) | (intros; first | rfl | (exfalso; omega) | ((repeat' apply And.intro) <;> first | assumption | rfl | omega | trivial)))) ?_ -- o9
      refine OK_jl ?_
      refine OK_jlx (fun x12 ex12 => ?_)
      try simp (disch := omega) only [jst_eq, jst_ne, jst_ni, jI_i, jcmp_lt, jcmp_gt, w32_id, jcpy_out, Sum.elim_inl, Sum.elim_inr, jt2, jt3, jt4, jt5, jt6, jt7, jt8] at ex12
      refine OK_il ?_ ?_
      · try dsimp only [Sum.elim_inl, Sum.elim_inr, jt2, jt3, jt4, jt5, jt6, jt7, jt8]
        refine ⟨?_, ?_, ?_, ?_⟩
        · (first | assumption | omega | ((try dsimp only [jt2, jt3, jt4]); first | omega | (simp (disch := omega) only [jst_eq, jst_ne, jst_ni, jst_o, jI_i, jcpy_out, w32_id, jdiv_nn, jshr_k, jand_255] <;> first | done | omega | assumption)) | (intros; simp (disch := omega) only [jst_eq, jst_ne, jst_ni, jst_o, jI_i, jcpy_out, w32_id, jdiv_nn, *] <;> first | done | omega) | (intros; simp (disch := omega) only [jst_eq, jst_ne, jst_ni, jst_o, jI_i, jcpy_out, w32_id, jdiv_nn] at * <;> first | done | omega | assumption) | (intros; first | rfl | (exfalso; omega) | ((repeat' apply And.intro) <;> first | assumption | rfl | omega | trivial))) -- o10 e2i.1
        · (intro p x0 x1; rw [jst_at]; by_cases y : p = a3; { rw [if_pos y, y]; exact ev2 }; { rw [if_neg y, pe2.2 _ _ (by omega) (by omega), F7 _ _ (by omega) (by omega)]; exact q1 p x0 (by omega) }) -- o11 e2i.2
        · (intro a s y1 y2 y3; rw [jst_o (by omega), pe2.2 a s (by omega) (by omega), F7 a s (by omega) y2]; exact fr a s y1 y2 y3) -- o12 e2i.3
        · (rw [jst_o (by omega), P10]; exact wr) -- o13 e2i.4
      · (first | assumption | omega | ((try dsimp only [jt2, jt3, jt4]); first | omega | (simp (disch := omega) only [jst_eq, jst_ne, jst_ni, jst_o, jI_i, jcpy_out, w32_id, jdiv_nn, jshr_k, jand_255] <;> first | done | omega | assumption)) | (intros; simp (disch := omega) only [jst_eq, jst_ne, jst_ni, jst_o, jI_i, jcpy_out, w32_id, jdiv_nn, *] <;> first | done | omega) | (intros; simp (disch := omega) only [jst_eq, jst_ne, jst_ni, jst_o, jI_i, jcpy_out, w32_id, jdiv_nn] at * <;> first | done | omega | assumption) | (intros; first | rfl | (exfalso; omega) | ((repeat' apply And.intro) <;> first | assumption | rfl | omega | trivial))) -- o14 e2m
  · try dsimp only [Sum.elim_inl, Sum.elim_inr, jt2, jt3, jt4, jt5, jt6, jt7, jt8]
    refine ⟨?_, ?_, ?_, ?_⟩
    · (have := a.1.2.2.2.2.2.2.2.2.1; omega) -- o15 init.1
    · (first | assumption | omega | ((try dsimp only [jt2, jt3, jt4]); first | omega | (simp (disch := omega) only [jst_eq, jst_ne, jst_ni, jst_o, jI_i, jcpy_out, w32_id, jdiv_nn, jshr_k, jand_255] <;> first | done | omega | assumption)) | (intros; simp (disch := omega) only [jst_eq, jst_ne, jst_ni, jst_o, jI_i, jcpy_out, w32_id, jdiv_nn, *] <;> first | done | omega) | (intros; simp (disch := omega) only [jst_eq, jst_ne, jst_ni, jst_o, jI_i, jcpy_out, w32_id, jdiv_nn] at * <;> first | done | omega | assumption) | (intros; first | rfl | (exfalso; omega) | ((repeat' apply And.intro) <;> first | assumption | rfl | omega | trivial))) -- o16 init.2
    · exact fun _ _ _ _ _ => rfl -- o17 init.3
    · exact ⟨a.2.2.2.2.2.2.2.2.2.1, a.2.2.2.2.2.2.2.2.2.2.1⟩ -- o18 init.4
theorem vX1_answer (a1 : Int) (a2 : Int) {h : AH} {E : EV} {Rf : Int → TR} {W : Int → Int → Int → VW} {f : Int → Int → Int → Int} {N n wh pts : Int} {kf rv hl : Int → Int} {R : TR} (a : prA h E Rf W f a1 N n kf wh rv pts R a2) (hlc : ∀ s, h 270 s = hl s) : OK (gX1_answer a1 a2 h) (fun h' => (∀ p, 0 ≤ p → p < pts → h' 323 p = (evT W f (pvA n kf wh rv p) hl R).1) ∧ (fr323 pts h h') ∧ (h' 200 9 = 0 ∧ -2147483648 ≤ h' 200 10 ∧ h' 200 10 < 2147483648)) := by
  unfold gX1_answer
  refine OK_jb (vX1_answer_l2 (E := E) (Rf := Rf) (W := W) (f := f) (N := N) (n := n) (wh := wh) (pts := pts) (kf := kf) (rv := rv) (hl := hl) (R := R) _ _ _ (by (first | assumption | omega | ((try dsimp only [jt2, jt3, jt4]); first | omega | (simp (disch := omega) only [jst_eq, jst_ne, jst_ni, jst_o, jI_i, jcpy_out, w32_id, jdiv_nn, jshr_k, jand_255] <;> first | done | omega | assumption)) | (intros; simp (disch := omega) only [jst_eq, jst_ne, jst_ni, jst_o, jI_i, jcpy_out, w32_id, jdiv_nn, *] <;> first | done | omega) | (intros; simp (disch := omega) only [jst_eq, jst_ne, jst_ni, jst_o, jI_i, jcpy_out, w32_id, jdiv_nn] at * <;> first | done | omega | assumption) | (intros; first | rfl | (exfalso; omega) | ((repeat' apply And.intro) <;> first | assumption | rfl | omega | trivial)))) (by (first | assumption | omega | ((try dsimp only [jt2, jt3, jt4]); first | omega | (simp (disch := omega) only [jst_eq, jst_ne, jst_ni, jst_o, jI_i, jcpy_out, w32_id, jdiv_nn, jshr_k, jand_255] <;> first | done | omega | assumption)) | (intros; simp (disch := omega) only [jst_eq, jst_ne, jst_ni, jst_o, jI_i, jcpy_out, w32_id, jdiv_nn, *] <;> first | done | omega) | (intros; simp (disch := omega) only [jst_eq, jst_ne, jst_ni, jst_o, jI_i, jcpy_out, w32_id, jdiv_nn] at * <;> first | done | omega | assumption) | (intros; first | rfl | (exfalso; omega) | ((repeat' apply And.intro) <;> first | assumption | rfl | omega | trivial)))) (by (first | assumption | omega | ((try dsimp only [jt2, jt3, jt4]); first | omega | (simp (disch := omega) only [jst_eq, jst_ne, jst_ni, jst_o, jI_i, jcpy_out, w32_id, jdiv_nn, jshr_k, jand_255] <;> first | done | omega | assumption)) | (intros; simp (disch := omega) only [jst_eq, jst_ne, jst_ni, jst_o, jI_i, jcpy_out, w32_id, jdiv_nn, *] <;> first | done | omega) | (intros; simp (disch := omega) only [jst_eq, jst_ne, jst_ni, jst_o, jI_i, jcpy_out, w32_id, jdiv_nn] at * <;> first | done | omega | assumption) | (intros; first | rfl | (exfalso; omega) | ((repeat' apply And.intro) <;> first | assumption | rfl | omega | trivial))))) (fun o1 r1 => ?_)
  try dsimp only [Sum.elim_inl, Sum.elim_inr, jt2, jt3, jt4, jt5, jt6, jt7, jt8] at r1
  obtain ⟨an1, fs1, bs1⟩ := r1
  try simp (disch := omega) only [jst_eq, jst_ne, jst_ni, jI_i, jcmp_lt, jcmp_gt, w32_id, jcpy_out, Sum.elim_inl, Sum.elim_inr, jt2, jt3, jt4, jt5, jt6, jt7, jt8] at an1
  try simp (disch := omega) only [jst_eq, jst_ne, jst_ni, jI_i, jcmp_lt, jcmp_gt, w32_id, jcpy_out, Sum.elim_inl, Sum.elim_inr, jt2, jt3, jt4, jt5, jt6, jt7, jt8] at fs1
  try simp (disch := omega) only [jst_eq, jst_ne, jst_ni, jI_i, jcmp_lt, jcmp_gt, w32_id, jcpy_out, Sum.elim_inl, Sum.elim_inr, jt2, jt3, jt4, jt5, jt6, jt7, jt8] at bs1
  refine OK_jl ?_
  refine OK_some ?_
  try dsimp only [Sum.elim_inl, Sum.elim_inr, jt2, jt3, jt4, jt5, jt6, jt7, jt8]
  try dsimp only [Sum.elim_inl, Sum.elim_inr, jt2, jt3, jt4, jt5, jt6, jt7, jt8]
  refine ⟨?_, ?_, ?_⟩
  · (intro p x0 x1; rw [jst_o (by omega)]; exact an1 p x0 x1) -- o4 e1.1
  · (intro a s y1 y2 y3; rw [jst_o (by omega)]; exact fs1 a s y1 y2 y3) -- o5 e1.2
  · exact ⟨jst_eq, by rw [jst_o (by omega)]; exact bs1⟩ -- o6 e1.3

