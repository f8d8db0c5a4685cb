/-! x: what a pattern saves -/
def SBX (F : Int → Int → AH → Option (Int × AH)) (E : EV) (T M p : Int) (P : TR) (k : Nat) : Prop := ∀ (t : Int) (h : AH) (R : TR), (h 200 32 = T ∧ capT h 357 32 ∧ capT h T M) → trX h 357 0 32 P p 0 → trX h T 0 M R t 0 → tzT E R 0 → (dpT R ≤ 39 ∧ sz R ≤ 1000) → dpT R + 1 ≤ (k : Int) → OK (F p t h) (fun r => jt2 r fun v h' => v = swN k P R ∧ ∀ a s, ¬ (a = 377 ∧ 0 ≤ s ∧ s < 2) → h' a s = h a s)
theorem vX7_sizeBehind_l71 {F : Int → Int → AH → Option (Int × AH)} (i2 : Int) (i3 : Int) (a40 : Int) (a50 : Int) {h0 : AH} {E : EV} {T M : Int} {k : Nat} {P R : TR} (hF : SBX F E T M i2 P k) (dj : T + 6 ≤ 357 ∧ 200 < T) (cc : h0 200 32 = T ∧ capT h0 357 32 ∧ capT h0 T M) (tp : trX h0 357 0 32 P i2 0) (tr : trX h0 T 0 M R i3 0) (yr : tzT E R 0) (dr : dpT R ≤ 39 ∧ sz R ≤ 1000) (p0 : (inf P).1 ≠ 0) (dk : dpT R ≤ (k : Int)) (z : a40 = 1 ∧ a50 = 0) : OK (gX7_sizeBehind_l71 F i2 i3 a40 a50 h0) (fun r => jt2 r fun v h' => (v = 1 + sumK (swN k P) R) ∧ (∀ a s, ¬ (a = 377 ∧ 0 ≤ s ∧ s < 2) → h' a s = h0 a s)) := by
  unfold gX7_sizeBehind_l71
  refine OK_jit (I := (fun (s : Int × Int × AH) => jt3 s fun a4 a5 h => (0 ≤ a5 ∧ a5 ≤ 3) ∧ (a4 = 1 + kss (swN k P) R a5.toNat) ∧ (∀ a s, ¬ (a = 377 ∧ 0 ≤ s ∧ s < 2) → h a s = h0 a s))) (m := (fun (s : Int × Int × AH) => jt3 s fun a4 a5 h => (3 - a5).toNat)) ?_ ?_
  · intro s hs
    obtain ⟨a4, a5, h⟩ := s
    dsimp only [Sum.elim_inl, Sum.elim_inr, jt2, jt3, jt4, jt5, jt6, jt7, jt8] at hs
    obtain ⟨q0, q1, q2⟩ := hs
    unfold gX7_sizeBehind_b71
    refine OK_jt3 ?_
    have Q2 := q2
    have CC : h 200 32 = T ∧ capT h 357 32 ∧ capT h T M := ⟨by rw [q2 _ _ (by omega)]; exact cc.1, capT_fr cc.2.1 (fun a a0 a1 => q2 _ _ (by omega)), capT_fr cc.2.2 (fun a a0 a1 => q2 _ _ (by omega))⟩
    have ea : ((a5.toNat : Nat) : Int) = a5 := by omega
    have TP := trX_fr (h' := h) (fun a s a0 a1 _ _ => q2 _ _ (by omega)) (fun s _ _ => q2 _ _ (by omega)) tp (Int.le_refl 0)
    have TR' := trX_fr (h' := h) (fun a s a0 a1 _ _ => q2 _ _ (by omega)) (fun s _ _ => q2 _ _ (by omega)) tr (Int.le_refl 0)
    have no := trX_no TR' a5 q0.1
    have n3 := (trX_nd TR').2.2.2.2.2 (Int.le_refl 0) (by decide)
    have nd := trX_nd TR'
    have SB := swN_b p0 k
    have s3 := sumK_kss (f := swN k P) R 3 (by omega)
    have SK := sumK_b SB R
    refine OK_if (fun c1 => ?_) (fun c1 => ?_)
    · skip
      try simp (disch := omega) only [jst_eq, jst_ne, jst_ni, jI_i, jcmp_lt, jcmp_gt, w32_id, jcpy_out, Sum.elim_inl, Sum.elim_inr, jt2, jt3, jt4, jt5, jt6, jt7, jt8] at c1
      refine OK_ir ?_
      try dsimp only [Sum.elim_inl, Sum.elim_inr, jt2, jt3, jt4, jt5, jt6, jt7, jt8]
      refine ⟨?_, ?_⟩
      · (rw [q1, show a5.toNat = 3 by omega, s3]) -- o1 e1.1
      · exact Q2 -- o2 e1.2
    · skip
      try simp (disch := omega) only [jst_eq, jst_ne, jst_ni, jI_i, jcmp_lt, jcmp_gt, w32_id, jcpy_out, Sum.elim_inl, Sum.elim_inr, jt2, jt3, jt4, jt5, jt6, jt7, jt8] at c1
      have K0 : ¬ a5 < nk R → h (T + 5) (3 * i3 + a5) = -1 := fun y => no (by omega) (by omega)
      have K1 : a5 < nk R → trX h T 0 M (kdA R a5.toNat) (h (T + 5) (3 * i3 + a5)) 0 := fun y => by { have q := trX_kd a5.toNat TR' (by omega); rw [ea, Int.zero_add] at q; exact q }
      have K5 : ¬ a5 < nk R → kss (swN k P) R (a5 + 1).toNat = kss (swN k P) R a5.toNat := fun y => by { rw [show (a5 + 1).toNat = a5.toNat + 1 by omega]; exact kss_n (by omega) }
      have K6 : a5 < nk R → kss (swN k P) R (a5 + 1).toNat = kss (swN k P) R a5.toNat + swN k P (kdA R a5.toNat) := fun y => by { rw [show (a5 + 1).toNat = a5.toNat + 1 by omega]; exact kss_s (by omega) }
      refine OK_jb (vX3_part (M := M) _ _ _ (by (rw [CC.1]; exact CC.2.2)) (by (first | assumption | omega | ((try dsimp only [jt2, jt3, jt4]); first | omega | (simp (disch := omega) only [jst_eq, jst_ne, jst_ni, jst_o, jI_i, jcpy_out, w32_id, jdiv_nn, jshr_k, jand_255] <;> first | done | omega | assumption)) | (intros; simp (disch := omega) only [jst_eq, jst_ne, jst_ni, jst_o, jI_i, jcpy_out, w32_id, jdiv_nn, *] <;> first | done | omega) | (intros; simp (disch := omega) only [jst_eq, jst_ne, jst_ni, jst_o, jI_i, jcpy_out, w32_id, jdiv_nn] at * <;> first | done | omega | assumption) | (intros; first | rfl | (exfalso; omega) | ((repeat' apply And.intro) <;> first | assumption | rfl | omega | trivial))))) (fun v23 r1 => ?_)
      try dsimp only [Sum.elim_inl, Sum.elim_inr, jt2, jt3, jt4, jt5, jt6, jt7, jt8] at r1
      have v1 := r1
      clear r1
      try simp (disch := omega) only [jst_eq, jst_ne, jst_ni, jI_i, jcmp_lt, jcmp_gt, w32_id, jcpy_out, Sum.elim_inl, Sum.elim_inr, jt2, jt3, jt4, jt5, jt6, jt7, jt8] at v1
      rw [CC.1, if_neg (by omega)] at v1
      refine OK_if (fun c2 => ?_) (fun c2 => ?_)
      · skip
        try simp (disch := omega) only [jst_eq, jst_ne, jst_ni, jI_i, jcmp_lt, jcmp_gt, w32_id, jcpy_out, Sum.elim_inl, Sum.elim_inr, jt2, jt3, jt4, jt5, jt6, jt7, jt8] at c2
        have lk : ¬ a5 < nk R := fun y => by { have q := (trX_nd (K1 y)).1; omega }
        unfold gX7_sizeBehind_j117_71
        refine OK_jlx (fun x31 ex31 => ?_)
        try simp (disch := omega) only [jst_eq, jst_ne, jst_ni, jI_i, jcmp_lt, jcmp_gt, w32_id, jcpy_out, Sum.elim_inl, Sum.elim_inr, jt2, jt3, jt4, jt5, jt6, jt7, jt8] at ex31
        refine OK_il ?_ ?_
        · try dsimp only [Sum.elim_inl, Sum.elim_inr, jt2, jt3, jt4, jt5, jt6, jt7, jt8]
          refine ⟨?_, ?_, ?_⟩
          · (first | assumption | omega | ((try dsimp only [jt2, jt3, jt4]); first | omega | (simp (disch := omega) only [jst_eq, jst_ne, jst_ni, jst_o, jI_i, jcpy_out, w32_id, jdiv_nn, jshr_k, jand_255] <;> first | done | omega | assumption)) | (intros; simp (disch := omega) only [jst_eq, jst_ne, jst_ni, jst_o, jI_i, jcpy_out, w32_id, jdiv_nn, *] <;> first | done | omega) | (intros; simp (disch := omega) only [jst_eq, jst_ne, jst_ni, jst_o, jI_i, jcpy_out, w32_id, jdiv_nn] at * <;> first | done | omega | assumption) | (intros; first | rfl | (exfalso; omega) | ((repeat' apply And.intro) <;> first | assumption | rfl | omega | trivial))) -- o5 e2i.1
          · (rw [ex31]; (try rw [w32_id (by omega) (by omega)]); rw [K5 lk]; exact q1) -- o6 e2i.2
          · exact Q2 -- o7 e2i.3
        · (first | assumption | omega | ((try dsimp only [jt2, jt3, jt4]); first | omega | (simp (disch := omega) only [jst_eq, jst_ne, jst_ni, jst_o, jI_i, jcpy_out, w32_id, jdiv_nn, jshr_k, jand_255] <;> first | done | omega | assumption)) | (intros; simp (disch := omega) only [jst_eq, jst_ne, jst_ni, jst_o, jI_i, jcpy_out, w32_id, jdiv_nn, *] <;> first | done | omega) | (intros; simp (disch := omega) only [jst_eq, jst_ne, jst_ni, jst_o, jI_i, jcpy_out, w32_id, jdiv_nn] at * <;> first | done | omega | assumption) | (intros; first | rfl | (exfalso; omega) | ((repeat' apply And.intro) <;> first | assumption | rfl | omega | trivial))) -- o8 e2m
      · skip
        try simp (disch := omega) only [jst_eq, jst_ne, jst_ni, jI_i, jcmp_lt, jcmp_gt, w32_id, jcpy_out, Sum.elim_inl, Sum.elim_inr, jt2, jt3, jt4, jt5, jt6, jt7, jt8] at c2
        have lk : a5 < nk R := Classical.byContradiction fun y => by { have := K0 y; omega }
        refine OK_jb (vX3_part (M := M) _ _ _ (by (rw [CC.1]; exact CC.2.2)) (by (first | assumption | omega | ((try dsimp only [jt2, jt3, jt4]); first | omega | (simp (disch := omega) only [jst_eq, jst_ne, jst_ni, jst_o, jI_i, jcpy_out, w32_id, jdiv_nn, jshr_k, jand_255] <;> first | done | omega | assumption)) | (intros; simp (disch := omega) only [jst_eq, jst_ne, jst_ni, jst_o, jI_i, jcpy_out, w32_id, jdiv_nn, *] <;> first | done | omega) | (intros; simp (disch := omega) only [jst_eq, jst_ne, jst_ni, jst_o, jI_i, jcpy_out, w32_id, jdiv_nn] at * <;> first | done | omega | assumption) | (intros; first | rfl | (exfalso; omega) | ((repeat' apply And.intro) <;> first | assumption | rfl | omega | trivial))))) (fun v26 r2 => ?_)
        try dsimp only [Sum.elim_inl, Sum.elim_inr, jt2, jt3, jt4, jt5, jt6, jt7, jt8] at r2
        have v2 := r2
        clear r2
        try simp (disch := omega) only [jst_eq, jst_ne, jst_ni, jI_i, jcmp_lt, jcmp_gt, w32_id, jcpy_out, Sum.elim_inl, Sum.elim_inr, jt2, jt3, jt4, jt5, jt6, jt7, jt8] at v2
        rw [CC.1, if_neg (by omega)] at v2
        have kd := dpT_kd R a5.toNat (by omega)
        have k6 := K6 lk
        have SBk := SB (kdA R a5.toNat)
        have k0 := kss_0 (g := swN k P) (fun t => (SB t).1) R a5.toNat
        have kl := kss_le (g := swN k P) (fun t => (SB t).1) R (k := (a5 + 1).toNat) 3 (by omega)
        have szk := szK_le (R := R) (k := a5.toNat) (by omega) n3
        have sk0 := kss_0 (g := sz) sz_0 R a5.toNat
        refine OK_jb2 (hF _ _ (kdA R a5.toNat) (by exact CC) (by exact TP) (by (rw [v2]; exact K1 lk)) (by exact (tzT_kd a5.toNat yr (by omega)).1) (by omega) (by omega)) (fun v28 h29 r3 => ?_)
        try dsimp only [Sum.elim_inl, Sum.elim_inr, jt2, jt3, jt4, jt5, jt6, jt7, jt8] at r3
        obtain ⟨sv3, fr3⟩ := r3
        try simp (disch := omega) only [jst_eq, jst_ne, jst_ni, jI_i, jcmp_lt, jcmp_gt, w32_id, jcpy_out, Sum.elim_inl, Sum.elim_inr, jt2, jt3, jt4, jt5, jt6, jt7, jt8] at sv3
        try simp (disch := omega) only [jst_eq, jst_ne, jst_ni, jI_i, jcmp_lt, jcmp_gt, w32_id, jcpy_out, Sum.elim_inl, Sum.elim_inr, jt2, jt3, jt4, jt5, jt6, jt7, jt8] at fr3
        refine OK_jlx (fun x30 ex30 => ?_)
        try simp (disch := omega) only [jst_eq, jst_ne, jst_ni, jI_i, jcmp_lt, jcmp_gt, w32_id, jcpy_out, Sum.elim_inl, Sum.elim_inr, jt2, jt3, jt4, jt5, jt6, jt7, jt8] at ex30
        unfold gX7_sizeBehind_j117_71
        refine OK_jlx (fun x31 ex31 => ?_)
        try simp (disch := omega) only [jst_eq, jst_ne, jst_ni, jI_i, jcmp_lt, jcmp_gt, w32_id, jcpy_out, Sum.elim_inl, Sum.elim_inr, jt2, jt3, jt4, jt5, jt6, jt7, jt8] at ex31
        refine OK_il ?_ ?_
        · try dsimp only [Sum.elim_inl, Sum.elim_inr, jt2, jt3, jt4, jt5, jt6, jt7, jt8]
          refine ⟨?_, ?_, ?_⟩
          · (first | assumption | omega | ((try dsimp only [jt2, jt3, jt4]); first | omega | (simp (disch := omega) only [jst_eq, jst_ne, jst_ni, jst_o, jI_i, jcpy_out, w32_id, jdiv_nn, jshr_k, jand_255] <;> first | done | omega | assumption)) | (intros; simp (disch := omega) only [jst_eq, jst_ne, jst_ni, jst_o, jI_i, jcpy_out, w32_id, jdiv_nn, *] <;> first | done | omega) | (intros; simp (disch := omega) only [jst_eq, jst_ne, jst_ni, jst_o, jI_i, jcpy_out, w32_id, jdiv_nn] at * <;> first | done | omega | assumption) | (intros; first | rfl | (exfalso; omega) | ((repeat' apply And.intro) <;> first | assumption | rfl | omega | trivial))) -- o17 e3i.1
          · (rw [ex31]; (try rw [w32_id (x := a5 + 1) (by omega) (by omega)]); rw [k6, ex30, sv3, q1]; (try rw [w32_id (by omega) (by omega)]); omega) -- o18 e3i.2
          · (intro a s y; rw [fr3 a s y]; exact Q2 a s y) -- o19 e3i.3
        · (first | assumption | omega | ((try dsimp only [jt2, jt3, jt4]); first | omega | (simp (disch := omega) only [jst_eq, jst_ne, jst_ni, jst_o, jI_i, jcpy_out, w32_id, jdiv_nn, jshr_k, jand_255] <;> first | done | omega | assumption)) | (intros; simp (disch := omega) only [jst_eq, jst_ne, jst_ni, jst_o, jI_i, jcpy_out, w32_id, jdiv_nn, *] <;> first | done | omega) | (intros; simp (disch := omega) only [jst_eq, jst_ne, jst_ni, jst_o, jI_i, jcpy_out, w32_id, jdiv_nn] at * <;> first | done | omega | assumption) | (intros; first | rfl | (exfalso; omega) | ((repeat' apply And.intro) <;> first | assumption | rfl | omega | trivial))) -- o20 e3m
  · try dsimp only [Sum.elim_inl, Sum.elim_inr, jt2, jt3, jt4, jt5, jt6, jt7, jt8]
    refine ⟨?_, ?_, ?_⟩
    · (first | assumption | omega | ((try dsimp only [jt2, jt3, jt4]); first | omega | (simp (disch := omega) only [jst_eq, jst_ne, jst_ni, jst_o, jI_i, jcpy_out, w32_id, jdiv_nn, jshr_k, jand_255] <;> first | done | omega | assumption)) | (intros; simp (disch := omega) only [jst_eq, jst_ne, jst_ni, jst_o, jI_i, jcpy_out, w32_id, jdiv_nn, *] <;> first | done | omega) | (intros; simp (disch := omega) only [jst_eq, jst_ne, jst_ni, jst_o, jI_i, jcpy_out, w32_id, jdiv_nn] at * <;> first | done | omega | assumption) | (intros; first | rfl | (exfalso; omega) | ((repeat' apply And.intro) <;> first | assumption | rfl | omega | trivial))) -- o21 init.1
    · (rw [z.1, z.2]; rfl) -- o22 init.2
    · exact fun _ _ _ => rfl -- o23 init.3
theorem vX7_sizeBehind_j47 {F : Int → Int → AH → Option (Int × AH)} (a2 : Int) (a4 : Int) (a6 : Int) {h : AH} {E : EV} {T M : Int} {k : Nat} {P : TR} {o : Option TR} (hF : SBX F E T M a2 P k) (cc : h 200 32 = T ∧ capT h 357 32 ∧ capT h T M) (tp : trX h 357 0 32 P a2 0) (oo : (o = none ∧ a6 = -1) ∨ ∃ u, o = some u ∧ trX h T 0 M u a6 0 ∧ tzT E u 0 ∧ (dpT u ≤ 39 ∧ sz u ≤ 1000) ∧ dpT u + 1 ≤ (k : Int)) (p0 : (inf P).1 ≠ 0) (b : 0 ≤ a4 ∧ a4 ≤ 2000) : OK (gX7_sizeBehind_j47 F a2 a4 a6 h) (fun r => jt2 r fun v h' => (v = a4 + opI o (swN k P)) ∧ (∀ a s, ¬ (a = 377 ∧ 0 ≤ s ∧ s < 2) → h' a s = h a s)) := by
  unfold gX7_sizeBehind_j47
  refine OK_if (fun c1 => ?_) (fun c1 => ?_)
  · skip
    try simp (disch := omega) only [jst_eq, jst_ne, jst_ni, jI_i, jcmp_lt, jcmp_gt, w32_id, jcpy_out, Sum.elim_inl, Sum.elim_inr, jt2, jt3, jt4, jt5, jt6, jt7, jt8] at c1
    refine OK_some ?_
    try dsimp only [Sum.elim_inl, Sum.elim_inr, jt2, jt3, jt4, jt5, jt6, jt7, jt8]
    try dsimp only [Sum.elim_inl, Sum.elim_inr, jt2, jt3, jt4, jt5, jt6, jt7, jt8]
    refine ⟨?_, ?_⟩
    · (rcases oo with y | ⟨u, u1, u2, u3⟩; { rw [y.1]; show a4 = a4 + 0; omega }; { have := (trX_nd u2).1; omega }) -- o1 e1.1
    · exact fun _ _ _ => rfl -- o2 e1.2
  · skip
    try simp (disch := omega) only [jst_eq, jst_ne, jst_ni, jI_i, jcmp_lt, jcmp_gt, w32_id, jcpy_out, Sum.elim_inl, Sum.elim_inr, jt2, jt3, jt4, jt5, jt6, jt7, jt8] at c1
    obtain ⟨u, u1, u2, u3, u4, u5⟩ := oo.resolve_left (fun y => by omega)
    subst u1
    have SB := swN_b p0 k u
    refine OK_jb2 (hF _ _ (o.getD (.leaf (0, 0, 0, 0))) (by (first | assumption | omega | ((try dsimp only [jt2, jt3, jt4]); first | omega | (simp (disch := omega) only [jst_eq, jst_ne, jst_ni, jst_o, jI_i, jcpy_out, w32_id, jdiv_nn, jshr_k, jand_255] <;> first | done | omega | assumption)) | (intros; simp (disch := omega) only [jst_eq, jst_ne, jst_ni, jst_o, jI_i, jcpy_out, w32_id, jdiv_nn, *] <;> first | done | omega) | (intros; simp (disch := omega) only [jst_eq, jst_ne, jst_ni, jst_o, jI_i, jcpy_out, w32_id, jdiv_nn] at * <;> first | done | omega | assumption) | (intros; first | rfl | (exfalso; omega) | ((repeat' apply And.intro) <;> first | assumption | rfl | omega | trivial)))) (by (first | assumption | omega | ((try dsimp only [jt2, jt3, jt4]); first | omega | (simp (disch := omega) only [jst_eq, jst_ne, jst_ni, jst_o, jI_i, jcpy_out, w32_id, jdiv_nn, jshr_k, jand_255] <;> first | done | omega | assumption)) | (intros; simp (disch := omega) only [jst_eq, jst_ne, jst_ni, jst_o, jI_i, jcpy_out, w32_id, jdiv_nn, *] <;> first | done | omega) | (intros; simp (disch := omega) only [jst_eq, jst_ne, jst_ni, jst_o, jI_i, jcpy_out, w32_id, jdiv_nn] at * <;> first | done | omega | assumption) | (intros; first | rfl | (exfalso; omega) | ((repeat' apply And.intro) <;> first | assumption | rfl | omega | trivial)))) (by exact u2) (by exact u3) (by exact u4) (by exact u5)) (fun v18 h19 r1 => ?_)
    try dsimp only [Sum.elim_inl, Sum.elim_inr, jt2, jt3, jt4, jt5, jt6, jt7, jt8] at r1
    obtain ⟨sv1, fr1⟩ := r1
    try simp (disch := omega) only [jst_eq, jst_ne, jst_ni, jI_i, jcmp_lt, jcmp_gt, w32_id, jcpy_out, Sum.elim_inl, Sum.elim_inr, jt2, jt3, jt4, jt5, jt6, jt7, jt8] at sv1
    try simp (disch := omega) only [jst_eq, jst_ne, jst_ni, jI_i, jcmp_lt, jcmp_gt, w32_id, jcpy_out, Sum.elim_inl, Sum.elim_inr, jt2, jt3, jt4, jt5, jt6, jt7, jt8] at fr1
    have S19 : v18 = swN k P u := sv1
    refine OK_jlx (fun x20 ex20 => ?_)
    try simp (disch := omega) only [jst_eq, jst_ne, jst_ni, jI_i, jcmp_lt, jcmp_gt, w32_id, jcpy_out, Sum.elim_inl, Sum.elim_inr, jt2, jt3, jt4, jt5, jt6, jt7, jt8] at ex20
    refine OK_some ?_
    try dsimp only [Sum.elim_inl, Sum.elim_inr, jt2, jt3, jt4, jt5, jt6, jt7, jt8]
    try dsimp only [Sum.elim_inl, Sum.elim_inr, jt2, jt3, jt4, jt5, jt6, jt7, jt8]
    refine ⟨?_, ?_⟩
    · (rw [ex20]; (try rw [w32_id (by omega) (by omega)]); rw [S19]; rfl) -- o9 e2.1
    · exact fr1 -- o10 e2.2
/-- what is bound below a place -/
theorem met_oo {h : AH} {E : EV} {T M : Int} {k : Nat} {R : TR} {m : BD} {j : Int} (j0 : 0 ≤ j) (j2 : j < 2) (mx : metX h T M m) (sb : bnT (fun u => subT u R) m) (y : tzT E R 0) (d : dpT R ≤ (k : Int)) (s : sz R ≤ 1000) : (bget m j = none ∧ h 377 j = -1) ∨ ∃ u, bget m j = some u ∧ trX h T 0 M u (h 377 j) 0 ∧ tzT E u 0 ∧ (dpT u ≤ 39 ∧ sz u ≤ 1000) ∧ dpT u + 1 ≤ (k : Int) := by
  rcases mx j j0 j2 with w | ⟨u, w1, w2, w3⟩
  · exact .inl w
  · have q : subT u R := by
      unfold bget at w1
      by_cases z : j = 0
      · rw [if_pos z] at w1; exact sb.1 u w1
      · rw [if_neg z] at w1; exact sb.2 u w1
    have e := subT_dp q
    exact .inr ⟨u, w1, w2, tzT_sub q y, ⟨w3, by omega⟩, by omega⟩
theorem vX7_sizeBehind_ {F : Int → Int → AH → Option (Int × AH)} (a2 : Int) (a3 : Int) {h : AH} {E : EV} {T M : Int} {k : Nat} {P R : TR} (hF : SBX F E T M a2 P k) (dj : T + 6 ≤ 357 ∧ 200 < T) (cc : h 200 32 = T ∧ capT h 357 32 ∧ capT h T M) (tp : trX h 357 0 32 P a2 0) (tr : trX h T 0 M R a3 0) (yp : tzT E P 0) (pc : prC 2 P) (p0 : (inf P).1 ≠ 0) (dp : dpT P ≤ 39) (yr : tzT E R 0) (dr : dpT R ≤ 39 ∧ sz R ≤ 1000) (dk : dpT R ≤ (k : Int)) : OK (gX7_sizeBehind_ F a2 a3 h) (fun r => jt2 r fun v h' => (v = swN (k + 1) P R) ∧ (∀ a s, ¬ (a = 377 ∧ 0 ≤ s ∧ s < 2) → h' a s = h a s)) := by
  have DJ : T + 6 ≤ 377 ∧ (357 : Int) + 6 ≤ 377 ∧ 200 < T ∧ 200 < (357 : Int) := by omega
  have SUB := ftT_sub (p := P) (t := R) p0
  have SZ := ftT_sz (p := P) (t := R) p0
  have SB := swN_b p0 k
  unfold gX7_sizeBehind_
  refine OK_jb2 (vX7_isMet (E := E) (T := T) (Mp := 32) (M := M) (P := P) (R := R) _ _ _ (by (first | assumption | omega | ((try dsimp only [jt2, jt3, jt4]); first | omega | (simp (disch := omega) only [jst_eq, jst_ne, jst_ni, jst_o, jI_i, jcpy_out, w32_id, jdiv_nn, jshr_k, jand_255] <;> first | done | omega | assumption)) | (intros; simp (disch := omega) only [jst_eq, jst_ne, jst_ni, jst_o, jI_i, jcpy_out, w32_id, jdiv_nn, *] <;> first | done | omega) | (intros; simp (disch := omega) only [jst_eq, jst_ne, jst_ni, jst_o, jI_i, jcpy_out, w32_id, jdiv_nn] at * <;> first | done | omega | assumption) | (intros; first | rfl | (exfalso; omega) | ((repeat' apply And.intro) <;> first | assumption | rfl | omega | trivial)))) (by (first | assumption | omega | ((try dsimp only [jt2, jt3, jt4]); first | omega | (simp (disch := omega) only [jst_eq, jst_ne, jst_ni, jst_o, jI_i, jcpy_out, w32_id, jdiv_nn, jshr_k, jand_255] <;> first | done | omega | assumption)) | (intros; simp (disch := omega) only [jst_eq, jst_ne, jst_ni, jst_o, jI_i, jcpy_out, w32_id, jdiv_nn, *] <;> first | done | omega) | (intros; simp (disch := omega) only [jst_eq, jst_ne, jst_ni, jst_o, jI_i, jcpy_out, w32_id, jdiv_nn] at * <;> first | done | omega | assumption) | (intros; first | rfl | (exfalso; omega) | ((repeat' apply And.intro) <;> first | assumption | rfl | omega | trivial)))) (by (first | assumption | omega | ((try dsimp only [jt2, jt3, jt4]); first | omega | (simp (disch := omega) only [jst_eq, jst_ne, jst_ni, jst_o, jI_i, jcpy_out, w32_id, jdiv_nn, jshr_k, jand_255] <;> first | done | omega | assumption)) | (intros; simp (disch := omega) only [jst_eq, jst_ne, jst_ni, jst_o, jI_i, jcpy_out, w32_id, jdiv_nn, *] <;> first | done | omega) | (intros; simp (disch := omega) only [jst_eq, jst_ne, jst_ni, jst_o, jI_i, jcpy_out, w32_id, jdiv_nn] at * <;> first | done | omega | assumption) | (intros; first | rfl | (exfalso; omega) | ((repeat' apply And.intro) <;> first | assumption | rfl | omega | trivial)))) (by (first | assumption | omega | ((try dsimp only [jt2, jt3, jt4]); first | omega | (simp (disch := omega) only [jst_eq, jst_ne, jst_ni, jst_o, jI_i, jcpy_out, w32_id, jdiv_nn, jshr_k, jand_255] <;> first | done | omega | assumption)) | (intros; simp (disch := omega) only [jst_eq, jst_ne, jst_ni, jst_o, jI_i, jcpy_out, w32_id, jdiv_nn, *] <;> first | done | omega) | (intros; simp (disch := omega) only [jst_eq, jst_ne, jst_ni, jst_o, jI_i, jcpy_out, w32_id, jdiv_nn] at * <;> first | done | omega | assumption) | (intros; first | rfl | (exfalso; omega) | ((repeat' apply And.intro) <;> first | assumption | rfl | omega | trivial)))) (by (first | assumption | omega | ((try dsimp only [jt2, jt3, jt4]); first | omega | (simp (disch := omega) only [jst_eq, jst_ne, jst_ni, jst_o, jI_i, jcpy_out, w32_id, jdiv_nn, jshr_k, jand_255] <;> first | done | omega | assumption)) | (intros; simp (disch := omega) only [jst_eq, jst_ne, jst_ni, jst_o, jI_i, jcpy_out, w32_id, jdiv_nn, *] <;> first | done | omega) | (intros; simp (disch := omega) only [jst_eq, jst_ne, jst_ni, jst_o, jI_i, jcpy_out, w32_id, jdiv_nn] at * <;> first | done | omega | assumption) | (intros; first | rfl | (exfalso; omega) | ((repeat' apply And.intro) <;> first | assumption | rfl | omega | trivial)))) (by (first | assumption | omega | ((try dsimp only [jt2, jt3, jt4]); first | omega | (simp (disch := omega) only [jst_eq, jst_ne, jst_ni, jst_o, jI_i, jcpy_out, w32_id, jdiv_nn, jshr_k, jand_255] <;> first | done | omega | assumption)) | (intros; simp (disch := omega) only [jst_eq, jst_ne, jst_ni, jst_o, jI_i, jcpy_out, w32_id, jdiv_nn, *] <;> first | done | omega) | (intros; simp (disch := omega) only [jst_eq, jst_ne, jst_ni, jst_o, jI_i, jcpy_out, w32_id, jdiv_nn] at * <;> first | done | omega | assumption) | (intros; first | rfl | (exfalso; omega) | ((repeat' apply And.intro) <;> first | assumption | rfl | omega | trivial)))) (by (first | assumption | omega | ((try dsimp only [jt2, jt3, jt4]); first | omega | (simp (disch := omega) only [jst_eq, jst_ne, jst_ni, jst_o, jI_i, jcpy_out, w32_id, jdiv_nn, jshr_k, jand_255] <;> first | done | omega | assumption)) | (intros; simp (disch := omega) only [jst_eq, jst_ne, jst_ni, jst_o, jI_i, jcpy_out, w32_id, jdiv_nn, *] <;> first | done | omega) | (intros; simp (disch := omega) only [jst_eq, jst_ne, jst_ni, jst_o, jI_i, jcpy_out, w32_id, jdiv_nn] at * <;> first | done | omega | assumption) | (intros; first | rfl | (exfalso; omega) | ((repeat' apply And.intro) <;> first | assumption | rfl | omega | trivial)))) (by exact dr.1) (by (first | assumption | omega | ((try dsimp only [jt2, jt3, jt4]); first | omega | (simp (disch := omega) only [jst_eq, jst_ne, jst_ni, jst_o, jI_i, jcpy_out, w32_id, jdiv_nn, jshr_k, jand_255] <;> first | done | omega | assumption)) | (intros; simp (disch := omega) only [jst_eq, jst_ne, jst_ni, jst_o, jI_i, jcpy_out, w32_id, jdiv_nn, *] <;> first | done | omega) | (intros; simp (disch := omega) only [jst_eq, jst_ne, jst_ni, jst_o, jI_i, jcpy_out, w32_id, jdiv_nn] at * <;> first | done | omega | assumption) | (intros; first | rfl | (exfalso; omega) | ((repeat' apply And.intro) <;> first | assumption | rfl | omega | trivial))))) (fun v2 h3 r1 => ?_)
  try dsimp only [Sum.elim_inl, Sum.elim_inr, jt2, jt3, jt4, jt5, jt6, jt7, jt8] at r1
  obtain ⟨ft1, fr1⟩ := r1
  try simp (disch := omega) only [jst_eq, jst_ne, jst_ni, jI_i, jcmp_lt, jcmp_gt, w32_id, jcpy_out, Sum.elim_inl, Sum.elim_inr, jt2, jt3, jt4, jt5, jt6, jt7, jt8] at ft1
  try simp (disch := omega) only [jst_eq, jst_ne, jst_ni, jI_i, jcmp_lt, jcmp_gt, w32_id, jcpy_out, Sum.elim_inl, Sum.elim_inr, jt2, jt3, jt4, jt5, jt6, jt7, jt8] at fr1
  have CC3 : h3 200 32 = T ∧ capT h3 357 32 ∧ capT h3 T M := ⟨by rw [fr1 _ _ (by omega)]; exact cc.1, capT_fr cc.2.1 (fun a x0 x1 => fr1 _ _ (by omega)), capT_fr cc.2.2 (fun a x0 x1 => fr1 _ _ (by omega))⟩
  have TP3 := trX_fr (h' := h3) (fun a s x0 x1 _ _ => fr1 _ _ (by omega)) (fun s _ _ => fr1 _ _ (by omega)) tp (Int.le_refl 0)
  have TR3 := trX_fr (h' := h3) (fun a s x0 x1 _ _ => fr1 _ _ (by omega)) (fun s _ _ => fr1 _ _ (by omega)) tr (Int.le_refl 0)
  refine OK_if (fun c1 => ?_) (fun c1 => ?_)
  · skip
    try simp (disch := omega) only [jst_eq, jst_ne, jst_ni, jI_i, jcmp_lt, jcmp_gt, w32_id, jcpy_out, Sum.elim_inl, Sum.elim_inr, jt2, jt3, jt4, jt5, jt6, jt7, jt8] at c1
    have FF : (ftT P R (none, none)).1 ≠ true := by { rcases ft1 with w | w; { omega }; { rw [w.2]; decide } }
    refine OK_jb (vX7_sizeBehind_l71 (E := E) (T := T) (M := M) (k := k) (P := P) (R := R) _ _ _ _ (by (first | assumption | omega | ((try dsimp only [jt2, jt3, jt4]); first | omega | (simp (disch := omega) only [jst_eq, jst_ne, jst_ni, jst_o, jI_i, jcpy_out, w32_id, jdiv_nn, jshr_k, jand_255] <;> first | done | omega | assumption)) | (intros; simp (disch := omega) only [jst_eq, jst_ne, jst_ni, jst_o, jI_i, jcpy_out, w32_id, jdiv_nn, *] <;> first | done | omega) | (intros; simp (disch := omega) only [jst_eq, jst_ne, jst_ni, jst_o, jI_i, jcpy_out, w32_id, jdiv_nn] at * <;> first | done | omega | assumption) | (intros; first | rfl | (exfalso; omega) | ((repeat' apply And.intro) <;> first | assumption | rfl | omega | trivial)))) (by (first | assumption | omega | ((try dsimp only [jt2, jt3, jt4]); first | omega | (simp (disch := omega) only [jst_eq, jst_ne, jst_ni, jst_o, jI_i, jcpy_out, w32_id, jdiv_nn, jshr_k, jand_255] <;> first | done | omega | assumption)) | (intros; simp (disch := omega) only [jst_eq, jst_ne, jst_ni, jst_o, jI_i, jcpy_out, w32_id, jdiv_nn, *] <;> first | done | omega) | (intros; simp (disch := omega) only [jst_eq, jst_ne, jst_ni, jst_o, jI_i, jcpy_out, w32_id, jdiv_nn] at * <;> first | done | omega | assumption) | (intros; first | rfl | (exfalso; omega) | ((repeat' apply And.intro) <;> first | assumption | rfl | omega | trivial)))) (by (first | assumption | omega | ((try dsimp only [jt2, jt3, jt4]); first | omega | (simp (disch := omega) only [jst_eq, jst_ne, jst_ni, jst_o, jI_i, jcpy_out, w32_id, jdiv_nn, jshr_k, jand_255] <;> first | done | omega | assumption)) | (intros; simp (disch := omega) only [jst_eq, jst_ne, jst_ni, jst_o, jI_i, jcpy_out, w32_id, jdiv_nn, *] <;> first | done | omega) | (intros; simp (disch := omega) only [jst_eq, jst_ne, jst_ni, jst_o, jI_i, jcpy_out, w32_id, jdiv_nn] at * <;> first | done | omega | assumption) | (intros; first | rfl | (exfalso; omega) | ((repeat' apply And.intro) <;> first | assumption | rfl | omega | trivial)))) (by (first | assumption | omega | ((try dsimp only [jt2, jt3, jt4]); first | omega | (simp (disch := omega) only [jst_eq, jst_ne, jst_ni, jst_o, jI_i, jcpy_out, w32_id, jdiv_nn, jshr_k, jand_255] <;> first | done | omega | assumption)) | (intros; simp (disch := omega) only [jst_eq, jst_ne, jst_ni, jst_o, jI_i, jcpy_out, w32_id, jdiv_nn, *] <;> first | done | omega) | (intros; simp (disch := omega) only [jst_eq, jst_ne, jst_ni, jst_o, jI_i, jcpy_out, w32_id, jdiv_nn] at * <;> first | done | omega | assumption) | (intros; first | rfl | (exfalso; omega) | ((repeat' apply And.intro) <;> first | assumption | rfl | omega | trivial)))) (by (first | assumption | omega | ((try dsimp only [jt2, jt3, jt4]); first | omega | (simp (disch := omega) only [jst_eq, jst_ne, jst_ni, jst_o, jI_i, jcpy_out, w32_id, jdiv_nn, jshr_k, jand_255] <;> first | done | omega | assumption)) | (intros; simp (disch := omega) only [jst_eq, jst_ne, jst_ni, jst_o, jI_i, jcpy_out, w32_id, jdiv_nn, *] <;> first | done | omega) | (intros; simp (disch := omega) only [jst_eq, jst_ne, jst_ni, jst_o, jI_i, jcpy_out, w32_id, jdiv_nn] at * <;> first | done | omega | assumption) | (intros; first | rfl | (exfalso; omega) | ((repeat' apply And.intro) <;> first | assumption | rfl | omega | trivial)))) (by (first | assumption | omega | ((try dsimp only [jt2, jt3, jt4]); first | omega | (simp (disch := omega) only [jst_eq, jst_ne, jst_ni, jst_o, jI_i, jcpy_out, w32_id, jdiv_nn, jshr_k, jand_255] <;> first | done | omega | assumption)) | (intros; simp (disch := omega) only [jst_eq, jst_ne, jst_ni, jst_o, jI_i, jcpy_out, w32_id, jdiv_nn, *] <;> first | done | omega) | (intros; simp (disch := omega) only [jst_eq, jst_ne, jst_ni, jst_o, jI_i, jcpy_out, w32_id, jdiv_nn] at * <;> first | done | omega | assumption) | (intros; first | rfl | (exfalso; omega) | ((repeat' apply And.intro) <;> first | assumption | rfl | omega | trivial)))) (by (first | assumption | omega | ((try dsimp only [jt2, jt3, jt4]); first | omega | (simp (disch := omega) only [jst_eq, jst_ne, jst_ni, jst_o, jI_i, jcpy_out, w32_id, jdiv_nn, jshr_k, jand_255] <;> first | done | omega | assumption)) | (intros; simp (disch := omega) only [jst_eq, jst_ne, jst_ni, jst_o, jI_i, jcpy_out, w32_id, jdiv_nn, *] <;> first | done | omega) | (intros; simp (disch := omega) only [jst_eq, jst_ne, jst_ni, jst_o, jI_i, jcpy_out, w32_id, jdiv_nn] at * <;> first | done | omega | assumption) | (intros; first | rfl | (exfalso; omega) | ((repeat' apply And.intro) <;> first | assumption | rfl | omega | trivial)))) (by exact p0) (by (first | assumption | omega | ((try dsimp only [jt2, jt3, jt4]); first | omega | (simp (disch := omega) only [jst_eq, jst_ne, jst_ni, jst_o, jI_i, jcpy_out, w32_id, jdiv_nn, jshr_k, jand_255] <;> first | done | omega | assumption)) | (intros; simp (disch := omega) only [jst_eq, jst_ne, jst_ni, jst_o, jI_i, jcpy_out, w32_id, jdiv_nn, *] <;> first | done | omega) | (intros; simp (disch := omega) only [jst_eq, jst_ne, jst_ni, jst_o, jI_i, jcpy_out, w32_id, jdiv_nn] at * <;> first | done | omega | assumption) | (intros; first | rfl | (exfalso; omega) | ((repeat' apply And.intro) <;> first | assumption | rfl | omega | trivial)))) (by (first | assumption | omega | ((try dsimp only [jt2, jt3, jt4]); first | omega | (simp (disch := omega) only [jst_eq, jst_ne, jst_ni, jst_o, jI_i, jcpy_out, w32_id, jdiv_nn, jshr_k, jand_255] <;> first | done | omega | assumption)) | (intros; simp (disch := omega) only [jst_eq, jst_ne, jst_ni, jst_o, jI_i, jcpy_out, w32_id, jdiv_nn, *] <;> first | done | omega) | (intros; simp (disch := omega) only [jst_eq, jst_ne, jst_ni, jst_o, jI_i, jcpy_out, w32_id, jdiv_nn] at * <;> first | done | omega | assumption) | (intros; first | rfl | (exfalso; omega) | ((repeat' apply And.intro) <;> first | assumption | rfl | omega | trivial))))) (fun o5 r2 => ?_)
    obtain ⟨y7, h8⟩ := o5
    refine OK_jt2 ?_
    try dsimp only [Sum.elim_inl, Sum.elim_inr, jt2, jt3, jt4, jt5, jt6, jt7, jt8] at r2
    obtain ⟨sv2, fr2⟩ := r2
    try simp (disch := omega) only [jst_eq, jst_ne, jst_ni, jI_i, jcmp_lt, jcmp_gt, w32_id, jcpy_out, Sum.elim_inl, Sum.elim_inr, jt2, jt3, jt4, jt5, jt6, jt7, jt8] at sv2
    try simp (disch := omega) only [jst_eq, jst_ne, jst_ni, jI_i, jcmp_lt, jcmp_gt, w32_id, jcpy_out, Sum.elim_inl, Sum.elim_inr, jt2, jt3, jt4, jt5, jt6, jt7, jt8] at fr2
    refine OK_some ?_
    try dsimp only [Sum.elim_inl, Sum.elim_inr, jt2, jt3, jt4, jt5, jt6, jt7, jt8]
    try dsimp only [Sum.elim_inl, Sum.elim_inr, jt2, jt3, jt4, jt5, jt6, jt7, jt8]
    refine ⟨?_, ?_⟩
    · (rw [sv2]; exact (if_neg FF).symm) -- o20 e1.1
    · (intro a s y; rw [fr2 a s y]; exact fr1 a s y) -- o21 e1.2
  · skip
    try simp (disch := omega) only [jst_eq, jst_ne, jst_ni, jI_i, jcmp_lt, jcmp_gt, w32_id, jcpy_out, Sum.elim_inl, Sum.elim_inr, jt2, jt3, jt4, jt5, jt6, jt7, jt8] at c1
    obtain ⟨w1, FT, MX⟩ := ft1.resolve_right (fun y => c1 y.1)
    have O0 := met_oo (j := 0) (k := k) (E := E) (Int.le_refl 0) (by decide) MX SUB yr dk dr.2
    have O1 := met_oo (j := 1) (k := k) (E := E) (by decide) (by decide) MX SUB yr dk dr.2
    have eB : swN (k + 1) P R = 1 + opI (bget (ftT P R (none, none)).2 0) (swN k P) + opI (bget (ftT P R (none, none)).2 1) (swN k P) := if_pos FT
    generalize eo0 : bget (ftT P R (none, none)).2 0 = o0 at *
    generalize eo1 : bget (ftT P R (none, none)).2 1 = o1 at *
    refine OK_jlx (fun x9 ex9 => ?_)
    try simp (disch := omega) only [jst_eq, jst_ne, jst_ni, jI_i, jcmp_lt, jcmp_gt, w32_id, jcpy_out, Sum.elim_inl, Sum.elim_inr, jt2, jt3, jt4, jt5, jt6, jt7, jt8] at ex9
    refine OK_jlx (fun x10 ex10 => ?_)
    try simp (disch := omega) only [jst_eq, jst_ne, jst_ni, jI_i, jcmp_lt, jcmp_gt, w32_id, jcpy_out, Sum.elim_inl, Sum.elim_inr, jt2, jt3, jt4, jt5, jt6, jt7, jt8] at ex10
    rw [← ex10] at O1
    rw [← ex9] at O0
    refine OK_if (fun c2 => ?_) (fun c2 => ?_)
    · skip
      try simp (disch := omega) only [jst_eq, jst_ne, jst_ni, jI_i, jcmp_lt, jcmp_gt, w32_id, jcpy_out, Sum.elim_inl, Sum.elim_inr, jt2, jt3, jt4, jt5, jt6, jt7, jt8] at c2
      have N0 : o0 = none := by { rcases O0 with y | ⟨u, u1, u2, _⟩; { exact y.1 }; { have := (trX_nd u2).1; omega } }
      refine OK_mono (vX7_sizeBehind_j47 (E := E) (T := T) (M := M) (k := k) (P := P) (o := o1) _ _ _ (by (first | assumption | omega | ((try dsimp only [jt2, jt3, jt4]); first | omega | (simp (disch := omega) only [jst_eq, jst_ne, jst_ni, jst_o, jI_i, jcpy_out, w32_id, jdiv_nn, jshr_k, jand_255] <;> first | done | omega | assumption)) | (intros; simp (disch := omega) only [jst_eq, jst_ne, jst_ni, jst_o, jI_i, jcpy_out, w32_id, jdiv_nn, *] <;> first | done | omega) | (intros; simp (disch := omega) only [jst_eq, jst_ne, jst_ni, jst_o, jI_i, jcpy_out, w32_id, jdiv_nn] at * <;> first | done | omega | assumption) | (intros; first | rfl | (exfalso; omega) | ((repeat' apply And.intro) <;> first | assumption | rfl | omega | trivial)))) (by (first | assumption | omega | ((try dsimp only [jt2, jt3, jt4]); first | omega | (simp (disch := omega) only [jst_eq, jst_ne, jst_ni, jst_o, jI_i, jcpy_out, w32_id, jdiv_nn, jshr_k, jand_255] <;> first | done | omega | assumption)) | (intros; simp (disch := omega) only [jst_eq, jst_ne, jst_ni, jst_o, jI_i, jcpy_out, w32_id, jdiv_nn, *] <;> first | done | omega) | (intros; simp (disch := omega) only [jst_eq, jst_ne, jst_ni, jst_o, jI_i, jcpy_out, w32_id, jdiv_nn] at * <;> first | done | omega | assumption) | (intros; first | rfl | (exfalso; omega) | ((repeat' apply And.intro) <;> first | assumption | rfl | omega | trivial)))) (by (first | assumption | omega | ((try dsimp only [jt2, jt3, jt4]); first | omega | (simp (disch := omega) only [jst_eq, jst_ne, jst_ni, jst_o, jI_i, jcpy_out, w32_id, jdiv_nn, jshr_k, jand_255] <;> first | done | omega | assumption)) | (intros; simp (disch := omega) only [jst_eq, jst_ne, jst_ni, jst_o, jI_i, jcpy_out, w32_id, jdiv_nn, *] <;> first | done | omega) | (intros; simp (disch := omega) only [jst_eq, jst_ne, jst_ni, jst_o, jI_i, jcpy_out, w32_id, jdiv_nn] at * <;> first | done | omega | assumption) | (intros; first | rfl | (exfalso; omega) | ((repeat' apply And.intro) <;> first | assumption | rfl | omega | trivial)))) (by exact O1) (by exact p0) (by (first | assumption | omega | ((try dsimp only [jt2, jt3, jt4]); first | omega | (simp (disch := omega) only [jst_eq, jst_ne, jst_ni, jst_o, jI_i, jcpy_out, w32_id, jdiv_nn, jshr_k, jand_255] <;> first | done | omega | assumption)) | (intros; simp (disch := omega) only [jst_eq, jst_ne, jst_ni, jst_o, jI_i, jcpy_out, w32_id, jdiv_nn, *] <;> first | done | omega) | (intros; simp (disch := omega) only [jst_eq, jst_ne, jst_ni, jst_o, jI_i, jcpy_out, w32_id, jdiv_nn] at * <;> first | done | omega | assumption) | (intros; first | rfl | (exfalso; omega) | ((repeat' apply And.intro) <;> first | assumption | rfl | omega | trivial))))) (fun r r3 => ?_)
      obtain ⟨y1, y2⟩ := r
      try dsimp only [Sum.elim_inl, Sum.elim_inr, jt2, jt3, jt4, jt5, jt6, jt7, jt8] at r3
      obtain ⟨sv3, fr3⟩ := r3
      try simp (disch := omega) only [jst_eq, jst_ne, jst_ni, jI_i, jcmp_lt, jcmp_gt, w32_id, jcpy_out, Sum.elim_inl, Sum.elim_inr, jt2, jt3, jt4, jt5, jt6, jt7, jt8] at sv3
      try simp (disch := omega) only [jst_eq, jst_ne, jst_ni, jI_i, jcmp_lt, jcmp_gt, w32_id, jcpy_out, Sum.elim_inl, Sum.elim_inr, jt2, jt3, jt4, jt5, jt6, jt7, jt8] at fr3
      try dsimp only [Sum.elim_inl, Sum.elim_inr, jt2, jt3, jt4, jt5, jt6, jt7, jt8]
      try dsimp only [Sum.elim_inl, Sum.elim_inr, jt2, jt3, jt4, jt5, jt6, jt7, jt8]
      refine ⟨?_, ?_⟩
      · (rw [sv3, eB, N0]; show _ = 1 + 0 + _; omega) -- o28 e2.1
      · (intro a s y; rw [fr3 a s y]; exact fr1 a s y) -- o29 e2.2
    · skip
      try simp (disch := omega) only [jst_eq, jst_ne, jst_ni, jI_i, jcmp_lt, jcmp_gt, w32_id, jcpy_out, Sum.elim_inl, Sum.elim_inr, jt2, jt3, jt4, jt5, jt6, jt7, jt8] at c2
      obtain ⟨u, u1, u2, u3, u4, u5⟩ := O0.resolve_left (fun y => by omega)
      subst u1
      have SBu := SB u
      refine OK_jb2 (hF _ _ (o0.getD (.leaf (0, 0, 0, 0))) (by exact CC3) (by exact TP3) (by exact u2) (by exact u3) (by exact u4) (by exact u5)) (fun v13 h14 r4 => ?_)
      try dsimp only [Sum.elim_inl, Sum.elim_inr, jt2, jt3, jt4, jt5, jt6, jt7, jt8] at r4
      obtain ⟨sv4, fr4⟩ := r4
      try simp (disch := omega) only [jst_eq, jst_ne, jst_ni, jI_i, jcmp_lt, jcmp_gt, w32_id, jcpy_out, Sum.elim_inl, Sum.elim_inr, jt2, jt3, jt4, jt5, jt6, jt7, jt8] at sv4
      try simp (disch := omega) only [jst_eq, jst_ne, jst_ni, jI_i, jcmp_lt, jcmp_gt, w32_id, jcpy_out, Sum.elim_inl, Sum.elim_inr, jt2, jt3, jt4, jt5, jt6, jt7, jt8] at fr4
      have S14 : v13 = swN k P u := sv4
      refine OK_jlx (fun x15 ex15 => ?_)
      try simp (disch := omega) only [jst_eq, jst_ne, jst_ni, jI_i, jcmp_lt, jcmp_gt, w32_id, jcpy_out, Sum.elim_inl, Sum.elim_inr, jt2, jt3, jt4, jt5, jt6, jt7, jt8] at ex15
      have X15 : x15 = 1 + swN k P u := by { rw [ex15, S14]; (try rw [w32_id (by omega) (by omega)]) }
      refine OK_mono (vX7_sizeBehind_j47 (E := E) (T := T) (M := M) (k := k) (P := P) (o := o1) _ _ _ (by (first | assumption | omega | ((try dsimp only [jt2, jt3, jt4]); first | omega | (simp (disch := omega) only [jst_eq, jst_ne, jst_ni, jst_o, jI_i, jcpy_out, w32_id, jdiv_nn, jshr_k, jand_255] <;> first | done | omega | assumption)) | (intros; simp (disch := omega) only [jst_eq, jst_ne, jst_ni, jst_o, jI_i, jcpy_out, w32_id, jdiv_nn, *] <;> first | done | omega) | (intros; simp (disch := omega) only [jst_eq, jst_ne, jst_ni, jst_o, jI_i, jcpy_out, w32_id, jdiv_nn] at * <;> first | done | omega | assumption) | (intros; first | rfl | (exfalso; omega) | ((repeat' apply And.intro) <;> first | assumption | rfl | omega | trivial)))) (by exact ⟨by (rw [fr4 _ _ (by omega)]; exact CC3.1), capT_fr CC3.2.1 (fun a x0 x1 => fr4 _ _ (by omega)), capT_fr CC3.2.2 (fun a x0 x1 => fr4 _ _ (by omega))⟩) (by exact trX_fr (fun a s x0 x1 _ _ => fr4 _ _ (by omega)) (fun s _ _ => fr4 _ _ (by omega)) TP3 (Int.le_refl 0)) (by (rcases O1 with y | ⟨w, w1, w2, w3⟩; { exact .inl y }; { exact .inr ⟨w, w1, trX_fr (fun a s x0 x1 _ _ => fr4 _ _ (by omega)) (fun s _ _ => fr4 _ _ (by omega)) w2 (Int.le_refl 0), w3⟩ })) (by exact p0) (by (first | assumption | omega | ((try dsimp only [jt2, jt3, jt4]); first | omega | (simp (disch := omega) only [jst_eq, jst_ne, jst_ni, jst_o, jI_i, jcpy_out, w32_id, jdiv_nn, jshr_k, jand_255] <;> first | done | omega | assumption)) | (intros; simp (disch := omega) only [jst_eq, jst_ne, jst_ni, jst_o, jI_i, jcpy_out, w32_id, jdiv_nn, *] <;> first | done | omega) | (intros; simp (disch := omega) only [jst_eq, jst_ne, jst_ni, jst_o, jI_i, jcpy_out, w32_id, jdiv_nn] at * <;> first | done | omega | assumption) | (intros; first | rfl | (exfalso; omega) | ((repeat' apply And.intro) <;> first | assumption | rfl | omega | trivial))))) (fun r r5 => ?_)
      obtain ⟨y3, y4⟩ := r
      try dsimp only [Sum.elim_inl, Sum.elim_inr, jt2, jt3, jt4, jt5, jt6, jt7, jt8] at r5
      obtain ⟨sv5, fr5⟩ := r5
      try simp (disch := omega) only [jst_eq, jst_ne, jst_ni, jI_i, jcmp_lt, jcmp_gt, w32_id, jcpy_out, Sum.elim_inl, Sum.elim_inr, jt2, jt3, jt4, jt5, jt6, jt7, jt8] at sv5
      try simp (disch := omega) only [jst_eq, jst_ne, jst_ni, jI_i, jcmp_lt, jcmp_gt, w32_id, jcpy_out, Sum.elim_inl, Sum.elim_inr, jt2, jt3, jt4, jt5, jt6, jt7, jt8] at fr5
      try dsimp only [Sum.elim_inl, Sum.elim_inr, jt2, jt3, jt4, jt5, jt6, jt7, jt8]
      try dsimp only [Sum.elim_inl, Sum.elim_inr, jt2, jt3, jt4, jt5, jt6, jt7, jt8]
      refine ⟨?_, ?_⟩
      · (rw [sv5, eB, X15]; rfl) -- o42 e3.1
      · (intro a s y; rw [fr5 a s y, fr4 a s y]; exact fr1 a s y) -- o43 e3.2
theorem SBX_D {E : EV} {T M p : Int} {P : TR} (dj : T + 6 ≤ 357 ∧ 200 < T) (yp : tzT E P 0) (pc : prC 2 P) (p0 : (inf P).1 ≠ 0) (dp : dpT P ≤ 39) : ∀ D : Nat, SBX (gX7_sizeBehindD D) E T M p P D
  | 0 => fun t h R _ _ _ _ _ dk => by have := dpT_0 R; have e : ((0 : Nat) : Int) = 0 := rfl; omega
  | D + 1 => fun t h R cc tp tr yr dr dk => vX7_sizeBehind_ p t (SBX_D dj yp pc p0 dp D) dj cc tp tr yp pc p0 dp yr dr (by omega)
theorem vX7_sizeBehind (a1 a2 : Int) {h : AH} {E : EV} {T M : Int} {P R : TR} (dj : T + 6 ≤ 357 ∧ 200 < T) (yp : tzT E P 0) (pc : prC 2 P) (p0 : (inf P).1 ≠ 0) (dp : dpT P ≤ 39) (cc : h 200 32 = T ∧ capT h 357 32 ∧ capT h T M) (tp : trX h 357 0 32 P a1 0) (tr : trX h T 0 M R a2 0) (yr : tzT E R 0) (dr : dpT R ≤ 39 ∧ sz R ≤ 1000) : OK (gX7_sizeBehind a1 a2 h) (fun r => jt2 r fun v h' => v = swN 40 P R ∧ ∀ a s, ¬ (a = 377 ∧ 0 ≤ s ∧ s < 2) → h' a s = h a s) := SBX_D dj yp pc p0 dp 40 a2 h R cc tp tr yr dr (by have e : ((40 : Nat) : Int) = 40 := rfl; omega)
/-- sums over the kept terms -/
def sumT (f : Int → Int) : Nat → Int
  | 0 => 0
  | n + 1 => sumT f n + f n
theorem sumT_b {f g : Int → Int} {n : Nat} : (∀ k, 0 ≤ k → k < (n : Int) → 0 ≤ f k ∧ f k ≤ g k) → 0 ≤ sumT f n ∧ sumT f n ≤ sumT g n := by
  induction n with
  | zero => intro _; exact ⟨Int.le_refl _, Int.le_refl _⟩
  | succ n ih =>
    intro h
    have a := ih (fun k k0 k1 => h k k0 (by omega))
    have b := h n (by omega) (by omega)
    show 0 ≤ sumT f n + f n ∧ sumT f n + f n ≤ sumT g n + g n
    omega
theorem sumT_c {f : Int → Int} {c : Int} {n : Nat} : (∀ k, 0 ≤ k → k < (n : Int) → 0 ≤ f k ∧ f k ≤ c) → 0 ≤ sumT f n ∧ sumT f n ≤ n * c := by
  induction n with
  | zero => intro _; exact ⟨Int.le_refl _, by show (0 : Int) ≤ ((0 : Nat) : Int) * c; rw [show ((0 : Nat) : Int) = 0 from rfl, Int.zero_mul]; exact Int.le_refl _⟩
  | succ n ih =>
    intro h
    have a := ih (fun k k0 k1 => h k k0 (by omega))
    have b := h n (by omega) (by omega)
    have e : ((n + 1 : Nat) : Int) * c = n * c + c := by rw [show ((n + 1 : Nat) : Int) = n + 1 from rfl, Int.add_mul, Int.one_mul]
    show 0 ≤ sumT f n + f n ∧ sumT f n + f n ≤ _
    omega
/-- the kept terms of x: where, how many -/
def kpX (h : AH) (E : EV) (T M : Int) (n : Nat) (Rq : Int → TR) : Prop := (h 200 32 = T ∧ capT h 357 32 ∧ capT h T M) ∧ (h 200 37 = n ∧ n ≤ 12) ∧ ∀ q, 0 ≤ q → q < (n : Int) → trX h T 0 M (Rq q) (h 353 q) 0 ∧ tzT E (Rq q) 0 ∧ dpT (Rq q) ≤ 39 ∧ sz (Rq q) ≤ 30
theorem kpX_f {h h' : AH} {E : EV} {T M : Int} {n : Nat} {Rq : Int → TR} (dj : T + 6 ≤ 353 ∧ 200 < T) (k : kpX h E T M n Rq) (f : ∀ a s, ¬ (a = 377 ∧ 0 ≤ s ∧ s < 2) → h' a s = h a s) : kpX h' E T M n Rq := ⟨⟨by rw [f _ _ (by omega)]; exact k.1.1, capT_fr k.1.2.1 (fun a a0 a1 => f _ _ (by omega)), capT_fr k.1.2.2 (fun a a0 a1 => f _ _ (by omega))⟩, ⟨by rw [f _ _ (by omega)]; exact k.2.1.1, k.2.1.2⟩, fun q q0 q1 => by
  have z := k.2.2 q q0 q1
  rw [f _ _ (by omega)]
  exact ⟨trX_fr (fun a s a0 a1 _ _ => f _ _ (by omega)) (fun s _ _ => f _ _ (by omega)) z.1 (Int.le_refl 0), z.2⟩⟩
theorem vX7_saving_l7 (i1 : Int) (a20 : Int) (a30 : Int) (a40 : Int) {h0 : AH} {E : EV} {T M : Int} {n : Nat} {Rq : Int → TR} {P : TR} (dj : T + 6 ≤ 353 ∧ 200 < T) (kp : kpX h0 E T M n Rq) (tp : trX h0 357 0 32 P i1 0) (yp : tzT E P 0) (pc : prC 2 P) (p0 : (inf P).1 ≠ 0) (dp : dpT P ≤ 39) (z : a20 = 0 ∧ a30 = 0 ∧ a40 = 0) : OK (gX7_saving_l7 i1 a20 a30 a40 h0) (fun r => jt3 r fun x y h' => (x = sumT (fun q => sz (Rq q)) n ∧ y = sumT (fun q => swN 40 P (Rq q)) n) ∧ (∀ a s, ¬ (a = 377 ∧ 0 ≤ s ∧ s < 2) → h' a s = h0 a s)) := by
  unfold gX7_saving_l7
  refine OK_jit (I := (fun (s : Int × Int × Int × AH) => jt4 s fun a2 a3 a4 h => (0 ≤ a4 ∧ a4 ≤ n) ∧ (a2 = sumT (fun q => sz (Rq q)) a4.toNat ∧ a3 = sumT (fun q => swN 40 P (Rq q)) a4.toNat) ∧ (∀ a s, ¬ (a = 377 ∧ 0 ≤ s ∧ s < 2) → h a s = h0 a s))) (m := (fun (s : Int × Int × Int × AH) => jt4 s fun a2 a3 a4 h => ((n : Int) - a4).toNat)) ?_ ?_
  · intro s hs
    obtain ⟨a2, a3, a4, h⟩ := s
    dsimp only [Sum.elim_inl, Sum.elim_inr, jt2, jt3, jt4, jt5, jt6, jt7, jt8] at hs
    obtain ⟨q0, q1, q2⟩ := hs
    unfold gX7_saving_b7
    refine OK_jt4 ?_
    have Q2 := q2
    have KP := kpX_f dj kp q2
    have TP := trX_fr (h' := h) (fun a s a0 a1 _ _ => q2 _ _ (by omega)) (fun s _ _ => q2 _ _ (by omega)) tp (Int.le_refl 0)
    have n12 := KP.2.1.2
    have e37 : h 200 37 = n := KP.2.1.1
    have ea : ((a4.toNat : Nat) : Int) = a4 := by omega
    have SB := swN_b p0 40
    have b1 := sumT_c (f := fun q => sz (Rq q)) (c := 30) (n := a4.toNat) (fun k k0 k1 => ⟨by have := sz_pos (Rq k); show 0 ≤ sz (Rq k); omega, (KP.2.2 k k0 (by omega)).2.2.2⟩)
    have b2 := sumT_c (f := fun q => swN 40 P (Rq q)) (c := 30) (n := a4.toNat) (fun k k0 k1 => ⟨(SB (Rq k)).1, by have a := (SB (Rq k)).2; have b := (KP.2.2 k k0 (by omega)).2.2.2; show swN 40 P (Rq k) ≤ 30; omega⟩)
    refine OK_if (fun c1 => ?_) (fun c1 => ?_)
    · skip
      try simp (disch := omega) only [jst_eq, jst_ne, jst_ni, jI_i, jcmp_lt, jcmp_gt, w32_id, jcpy_out, Sum.elim_inl, Sum.elim_inr, jt2, jt3, jt4, jt5, jt6, jt7, jt8] at c1
      refine OK_ir ?_
      try dsimp only [Sum.elim_inl, Sum.elim_inr, jt2, jt3, jt4, jt5, jt6, jt7, jt8]
      refine ⟨?_, ?_⟩
      · (rw [q1.1, q1.2, show a4.toNat = n by omega]; exact ⟨rfl, rfl⟩) -- o1 e1.1
      · exact Q2 -- o2 e1.2
    · skip
      try simp (disch := omega) only [jst_eq, jst_ne, jst_ni, jI_i, jcmp_lt, jcmp_gt, w32_id, jcpy_out, Sum.elim_inl, Sum.elim_inr, jt2, jt3, jt4, jt5, jt6, jt7, jt8] at c1
      have KQ := KP.2.2 a4 q0.1 (by omega)
      have SBq := SB (Rq a4)
      have szq := sz_pos (Rq a4)
      refine OK_jg (by (first | assumption | omega | ((try dsimp only [jt2, jt3, jt4]); first | omega | (simp (disch := omega) only [jst_eq, jst_ne, jst_ni, jst_o, jI_i, jcpy_out, w32_id, jdiv_nn, jshr_k, jand_255] <;> first | done | omega | assumption)) | (intros; simp (disch := omega) only [jst_eq, jst_ne, jst_ni, jst_o, jI_i, jcpy_out, w32_id, jdiv_nn, *] <;> first | done | omega) | (intros; simp (disch := omega) only [jst_eq, jst_ne, jst_ni, jst_o, jI_i, jcpy_out, w32_id, jdiv_nn] at * <;> first | done | omega | assumption) | (intros; first | rfl | (exfalso; omega) | ((repeat' apply And.intro) <;> first | assumption | rfl | omega | trivial)))) ?_ -- o3
      refine OK_jb (vX3_size (M := M) (R := Rq a4) _ _ (by (rw [KP.1.1]; exact KP.1.2.2)) (by (rw [KP.1.1]; exact KQ.1)) (by omega) (by omega)) (fun v10 r1 => ?_)
      try dsimp only [Sum.elim_inl, Sum.elim_inr, jt2, jt3, jt4, jt5, jt6, jt7, jt8] at r1
      have sv1 := r1
      clear r1
      try simp (disch := omega) only [jst_eq, jst_ne, jst_ni, jI_i, jcmp_lt, jcmp_gt, w32_id, jcpy_out, Sum.elim_inl, Sum.elim_inr, jt2, jt3, jt4, jt5, jt6, jt7, jt8] at sv1
      refine OK_jlx (fun x11 ex11 => ?_)
      try simp (disch := omega) only [jst_eq, jst_ne, jst_ni, jI_i, jcmp_lt, jcmp_gt, w32_id, jcpy_out, Sum.elim_inl, Sum.elim_inr, jt2, jt3, jt4, jt5, jt6, jt7, jt8] at ex11
      refine OK_jb2 (vX7_sizeBehind (E := E) (T := T) (M := M) (P := P) (R := Rq a4) _ _ (by omega) (by (first | assumption | omega | ((try dsimp only [jt2, jt3, jt4]); first | omega | (simp (disch := omega) only [jst_eq, jst_ne, jst_ni, jst_o, jI_i, jcpy_out, w32_id, jdiv_nn, jshr_k, jand_255] <;> first | done | omega | assumption)) | (intros; simp (disch := omega) only [jst_eq, jst_ne, jst_ni, jst_o, jI_i, jcpy_out, w32_id, jdiv_nn, *] <;> first | done | omega) | (intros; simp (disch := omega) only [jst_eq, jst_ne, jst_ni, jst_o, jI_i, jcpy_out, w32_id, jdiv_nn] at * <;> first | done | omega | assumption) | (intros; first | rfl | (exfalso; omega) | ((repeat' apply And.intro) <;> first | assumption | rfl | omega | trivial)))) (by (first | assumption | omega | ((try dsimp only [jt2, jt3, jt4]); first | omega | (simp (disch := omega) only [jst_eq, jst_ne, jst_ni, jst_o, jI_i, jcpy_out, w32_id, jdiv_nn, jshr_k, jand_255] <;> first | done | omega | assumption)) | (intros; simp (disch := omega) only [jst_eq, jst_ne, jst_ni, jst_o, jI_i, jcpy_out, w32_id, jdiv_nn, *] <;> first | done | omega) | (intros; simp (disch := omega) only [jst_eq, jst_ne, jst_ni, jst_o, jI_i, jcpy_out, w32_id, jdiv_nn] at * <;> first | done | omega | assumption) | (intros; first | rfl | (exfalso; omega) | ((repeat' apply And.intro) <;> first | assumption | rfl | omega | trivial)))) (by (first | assumption | omega | ((try dsimp only [jt2, jt3, jt4]); first | omega | (simp (disch := omega) only [jst_eq, jst_ne, jst_ni, jst_o, jI_i, jcpy_out, w32_id, jdiv_nn, jshr_k, jand_255] <;> first | done | omega | assumption)) | (intros; simp (disch := omega) only [jst_eq, jst_ne, jst_ni, jst_o, jI_i, jcpy_out, w32_id, jdiv_nn, *] <;> first | done | omega) | (intros; simp (disch := omega) only [jst_eq, jst_ne, jst_ni, jst_o, jI_i, jcpy_out, w32_id, jdiv_nn] at * <;> first | done | omega | assumption) | (intros; first | rfl | (exfalso; omega) | ((repeat' apply And.intro) <;> first | assumption | rfl | omega | trivial)))) (by (first | assumption | omega | ((try dsimp only [jt2, jt3, jt4]); first | omega | (simp (disch := omega) only [jst_eq, jst_ne, jst_ni, jst_o, jI_i, jcpy_out, w32_id, jdiv_nn, jshr_k, jand_255] <;> first | done | omega | assumption)) | (intros; simp (disch := omega) only [jst_eq, jst_ne, jst_ni, jst_o, jI_i, jcpy_out, w32_id, jdiv_nn, *] <;> first | done | omega) | (intros; simp (disch := omega) only [jst_eq, jst_ne, jst_ni, jst_o, jI_i, jcpy_out, w32_id, jdiv_nn] at * <;> first | done | omega | assumption) | (intros; first | rfl | (exfalso; omega) | ((repeat' apply And.intro) <;> first | assumption | rfl | omega | trivial)))) (by exact KP.1) (by exact TP) (by exact KQ.1) (by exact KQ.2.1) (by omega)) (fun v13 h14 r2 => ?_)
      try dsimp only [Sum.elim_inl, Sum.elim_inr, jt2, jt3, jt4, jt5, jt6, jt7, jt8] at r2
      obtain ⟨sv2, fr2⟩ := r2
      try simp (disch := omega) only [jst_eq, jst_ne, jst_ni, jI_i, jcmp_lt, jcmp_gt, w32_id, jcpy_out, Sum.elim_inl, Sum.elim_inr, jt2, jt3, jt4, jt5, jt6, jt7, jt8] at sv2
      try simp (disch := omega) only [jst_eq, jst_ne, jst_ni, jI_i, jcmp_lt, jcmp_gt, w32_id, jcpy_out, Sum.elim_inl, Sum.elim_inr, jt2, jt3, jt4, jt5, jt6, jt7, jt8] at fr2
      refine OK_jlx (fun x15 ex15 => ?_)
      try simp (disch := omega) only [jst_eq, jst_ne, jst_ni, jI_i, jcmp_lt, jcmp_gt, w32_id, jcpy_out, Sum.elim_inl, Sum.elim_inr, jt2, jt3, jt4, jt5, jt6, jt7, jt8] at ex15
      refine OK_jlx (fun x16 ex16 => ?_)
      try simp (disch := omega) only [jst_eq, jst_ne, jst_ni, jI_i, jcmp_lt, jcmp_gt, w32_id, jcpy_out, Sum.elim_inl, Sum.elim_inr, jt2, jt3, jt4, jt5, jt6, jt7, jt8] at ex16
      refine OK_il ?_ ?_
      · try dsimp only [Sum.elim_inl, Sum.elim_inr, jt2, jt3, jt4, jt5, jt6, jt7, jt8]
        refine ⟨?_, ?_, ?_⟩
        · (first | assumption | omega | ((try dsimp only [jt2, jt3, jt4]); first | omega | (simp (disch := omega) only [jst_eq, jst_ne, jst_ni, jst_o, jI_i, jcpy_out, w32_id, jdiv_nn, jshr_k, jand_255] <;> first | done | omega | assumption)) | (intros; simp (disch := omega) only [jst_eq, jst_ne, jst_ni, jst_o, jI_i, jcpy_out, w32_id, jdiv_nn, *] <;> first | done | omega) | (intros; simp (disch := omega) only [jst_eq, jst_ne, jst_ni, jst_o, jI_i, jcpy_out, w32_id, jdiv_nn] at * <;> first | done | omega | assumption) | (intros; first | rfl | (exfalso; omega) | ((repeat' apply And.intro) <;> first | assumption | rfl | omega | trivial))) -- o18 e2i.1
        · (rw [ex16]; (try rw [w32_id (x := a4 + 1) (by omega) (by omega)]); rw [show (a4 + 1).toNat = a4.toNat + 1 by omega, ex11, ex15, sv1, sv2]; (try rw [w32_id (by omega) (by omega)]); (try rw [w32_id (by omega) (by omega)]); rw [q1.1, q1.2]; show _ = _ + (fun q => sz (Rq q)) ((a4.toNat : Nat) : Int) ∧ _ = _ + (fun q => swN 40 P (Rq q)) ((a4.toNat : Nat) : Int); rw [ea]; exact ⟨rfl, rfl⟩) -- o19 e2i.2
        · (intro a s y; rw [fr2 a s y]; exact Q2 a s y) -- o20 e2i.3
      · (first | assumption | omega | ((try dsimp only [jt2, jt3, jt4]); first | omega | (simp (disch := omega) only [jst_eq, jst_ne, jst_ni, jst_o, jI_i, jcpy_out, w32_id, jdiv_nn, jshr_k, jand_255] <;> first | done | omega | assumption)) | (intros; simp (disch := omega) only [jst_eq, jst_ne, jst_ni, jst_o, jI_i, jcpy_out, w32_id, jdiv_nn, *] <;> first | done | omega) | (intros; simp (disch := omega) only [jst_eq, jst_ne, jst_ni, jst_o, jI_i, jcpy_out, w32_id, jdiv_nn] at * <;> first | done | omega | assumption) | (intros; first | rfl | (exfalso; omega) | ((repeat' apply And.intro) <;> first | assumption | rfl | omega | trivial))) -- o21 e2m
  · try dsimp only [Sum.elim_inl, Sum.elim_inr, jt2, jt3, jt4, jt5, jt6, jt7, jt8]
    refine ⟨?_, ?_, ?_⟩
    · (first | assumption | omega | ((try dsimp only [jt2, jt3, jt4]); first | omega | (simp (disch := omega) only [jst_eq, jst_ne, jst_ni, jst_o, jI_i, jcpy_out, w32_id, jdiv_nn, jshr_k, jand_255] <;> first | done | omega | assumption)) | (intros; simp (disch := omega) only [jst_eq, jst_ne, jst_ni, jst_o, jI_i, jcpy_out, w32_id, jdiv_nn, *] <;> first | done | omega) | (intros; simp (disch := omega) only [jst_eq, jst_ne, jst_ni, jst_o, jI_i, jcpy_out, w32_id, jdiv_nn] at * <;> first | done | omega | assumption) | (intros; first | rfl | (exfalso; omega) | ((repeat' apply And.intro) <;> first | assumption | rfl | omega | trivial))) -- o22 init.1
    · (rw [z.1, z.2.1, z.2.2]; exact ⟨rfl, rfl⟩) -- o23 init.2
    · exact fun _ _ _ => rfl -- o24 init.3
noncomputable def savP (n : Nat) (Rq : Int → TR) (P : TR) : Int := sumT (fun q => sz (Rq q)) n - sumT (fun q => swN 40 P (Rq q)) n - sz P
theorem vX7_saving (a1 : Int) {h : AH} {E : EV} {T M : Int} {n : Nat} {Rq : Int → TR} {P : TR} (dj : T + 6 ≤ 353 ∧ 200 < T) (kp : kpX h E T M n Rq) (tp : trX h 357 0 32 P a1 0) (yp : tzT E P 0) (pc : prC 2 P) (p0 : (inf P).1 ≠ 0) (dp : dpT P ≤ 39) (sp : sz P ≤ 32) : OK (gX7_saving a1 h) (fun r => jt2 r fun v h' => (v = savP n Rq P) ∧ (∀ a s, ¬ (a = 377 ∧ 0 ≤ s ∧ s < 2) → h' a s = h a s)) := by
  have SB := swN_b p0 40
  have b1 := sumT_c (f := fun q => sz (Rq q)) (c := 30) (n := n) (fun k k0 k1 => ⟨by have := sz_pos (Rq k); show 0 ≤ sz (Rq k); omega, (kp.2.2 k k0 k1).2.2.2⟩)
  have b2 := sumT_c (f := fun q => swN 40 P (Rq q)) (c := 30) (n := n) (fun k k0 k1 => ⟨(SB (Rq k)).1, by have a := (SB (Rq k)).2; have b := (kp.2.2 k k0 k1).2.2.2; show swN 40 P (Rq k) ≤ 30; omega⟩)
  have n12 := kp.2.1.2
  have s1 := sz_pos P
  unfold gX7_saving
  refine OK_jb (vX7_saving_l7 (E := E) (T := T) (M := M) (n := n) (Rq := Rq) (P := P) _ _ _ _ (by (first | assumption | omega | ((try dsimp only [jt2, jt3, jt4]); first | omega | (simp (disch := omega) only [jst_eq, jst_ne, jst_ni, jst_o, jI_i, jcpy_out, w32_id, jdiv_nn, jshr_k, jand_255] <;> first | done | omega | assumption)) | (intros; simp (disch := omega) only [jst_eq, jst_ne, jst_ni, jst_o, jI_i, jcpy_out, w32_id, jdiv_nn, *] <;> first | done | omega) | (intros; simp (disch := omega) only [jst_eq, jst_ne, jst_ni, jst_o, jI_i, jcpy_out, w32_id, jdiv_nn] at * <;> first | done | omega | assumption) | (intros; first | rfl | (exfalso; omega) | ((repeat' apply And.intro) <;> first | assumption | rfl | omega | trivial)))) (by (first | assumption | omega | ((try dsimp only [jt2, jt3, jt4]); first | omega | (simp (disch := omega) only [jst_eq, jst_ne, jst_ni, jst_o, jI_i, jcpy_out, w32_id, jdiv_nn, jshr_k, jand_255] <;> first | done | omega | assumption)) | (intros; simp (disch := omega) only [jst_eq, jst_ne, jst_ni, jst_o, jI_i, jcpy_out, w32_id, jdiv_nn, *] <;> first | done | omega) | (intros; simp (disch := omega) only [jst_eq, jst_ne, jst_ni, jst_o, jI_i, jcpy_out, w32_id, jdiv_nn] at * <;> first | done | omega | assumption) | (intros; first | rfl | (exfalso; omega) | ((repeat' apply And.intro) <;> first | assumption | rfl | omega | trivial)))) (by (first | assumption | omega | ((try dsimp only [jt2, jt3, jt4]); first | omega | (simp (disch := omega) only [jst_eq, jst_ne, jst_ni, jst_o, jI_i, jcpy_out, w32_id, jdiv_nn, jshr_k, jand_255] <;> first | done | omega | assumption)) | (intros; simp (disch := omega) only [jst_eq, jst_ne, jst_ni, jst_o, jI_i, jcpy_out, w32_id, jdiv_nn, *] <;> first | done | omega) | (intros; simp (disch := omega) only [jst_eq, jst_ne, jst_ni, jst_o, jI_i, jcpy_out, w32_id, jdiv_nn] at * <;> first | done | omega | assumption) | (intros; first | rfl | (exfalso; omega) | ((repeat' apply And.intro) <;> first | assumption | rfl | omega | trivial)))) (by (first | assumption | omega | ((try dsimp only [jt2, jt3, jt4]); first | omega | (simp (disch := omega) only [jst_eq, jst_ne, jst_ni, jst_o, jI_i, jcpy_out, w32_id, jdiv_nn, jshr_k, jand_255] <;> first | done | omega | assumption)) | (intros; simp (disch := omega) only [jst_eq, jst_ne, jst_ni, jst_o, jI_i, jcpy_out, w32_id, jdiv_nn, *] <;> first | done | omega) | (intros; simp (disch := omega) only [jst_eq, jst_ne, jst_ni, jst_o, jI_i, jcpy_out, w32_id, jdiv_nn] at * <;> first | done | omega | assumption) | (intros; first | rfl | (exfalso; omega) | ((repeat' apply And.intro) <;> first | assumption | rfl | omega | trivial)))) (by (first | assumption | omega | ((try dsimp only [jt2, jt3, jt4]); first | omega | (simp (disch := omega) only [jst_eq, jst_ne, jst_ni, jst_o, jI_i, jcpy_out, w32_id, jdiv_nn, jshr_k, jand_255] <;> first | done | omega | assumption)) | (intros; simp (disch := omega) only [jst_eq, jst_ne, jst_ni, jst_o, jI_i, jcpy_out, w32_id, jdiv_nn, *] <;> first | done | omega) | (intros; simp (disch := omega) only [jst_eq, jst_ne, jst_ni, jst_o, jI_i, jcpy_out, w32_id, jdiv_nn] at * <;> first | done | omega | assumption) | (intros; first | rfl | (exfalso; omega) | ((repeat' apply And.intro) <;> first | assumption | rfl | omega | trivial)))) (by (first | assumption | omega | ((try dsimp only [jt2, jt3, jt4]); first | omega | (simp (disch := omega) only [jst_eq, jst_ne, jst_ni, jst_o, jI_i, jcpy_out, w32_id, jdiv_nn, jshr_k, jand_255] <;> first | done | omega | assumption)) | (intros; simp (disch := omega) only [jst_eq, jst_ne, jst_ni, jst_o, jI_i, jcpy_out, w32_id, jdiv_nn, *] <;> first | done | omega) | (intros; simp (disch := omega) only [jst_eq, jst_ne, jst_ni, jst_o, jI_i, jcpy_out, w32_id, jdiv_nn] at * <;> first | done | omega | assumption) | (intros; first | rfl | (exfalso; omega) | ((repeat' apply And.intro) <;> first | assumption | rfl | omega | trivial)))) (by (first | assumption | omega | ((try dsimp only [jt2, jt3, jt4]); first | omega | (simp (disch := omega) only [jst_eq, jst_ne, jst_ni, jst_o, jI_i, jcpy_out, w32_id, jdiv_nn, jshr_k, jand_255] <;> first | done | omega | assumption)) | (intros; simp (disch := omega) only [jst_eq, jst_ne, jst_ni, jst_o, jI_i, jcpy_out, w32_id, jdiv_nn, *] <;> first | done | omega) | (intros; simp (disch := omega) only [jst_eq, jst_ne, jst_ni, jst_o, jI_i, jcpy_out, w32_id, jdiv_nn] at * <;> first | done | omega | assumption) | (intros; first | rfl | (exfalso; omega) | ((repeat' apply And.intro) <;> first | assumption | rfl | omega | trivial)))) (by exact ⟨rfl, rfl, rfl⟩)) (fun o1 r1 => ?_)
  obtain ⟨y3, y4, h5⟩ := o1
  refine OK_jt3 ?_
  try dsimp only [Sum.elim_inl, Sum.elim_inr, jt2, jt3, jt4, jt5, jt6, jt7, jt8] at r1
  obtain ⟨sm1, fr1⟩ := r1
  try simp (disch := omega) only [jst_eq, jst_ne, jst_ni, jI_i, jcmp_lt, jcmp_gt, w32_id, jcpy_out, Sum.elim_inl, Sum.elim_inr, jt2, jt3, jt4, jt5, jt6, jt7, jt8] at sm1
  try simp (disch := omega) only [jst_eq, jst_ne, jst_ni, jI_i, jcmp_lt, jcmp_gt, w32_id, jcpy_out, Sum.elim_inl, Sum.elim_inr, jt2, jt3, jt4, jt5, jt6, jt7, jt8] at fr1
  refine OK_jb (vX3_size (M := 32) (R := P) _ _ (by exact (kpX_f dj kp fr1).1.2.1) (by exact trX_fr (fun a s x0 x1 _ _ => fr1 _ _ (by omega)) (fun s _ _ => fr1 _ _ (by omega)) tp (Int.le_refl 0)) (by omega) (by exact dp)) (fun v7 r2 => ?_)
  try dsimp only [Sum.elim_inl, Sum.elim_inr, jt2, jt3, jt4, jt5, jt6, jt7, jt8] at r2
  have sv2 := r2
  clear r2
  try simp (disch := omega) only [jst_eq, jst_ne, jst_ni, jI_i, jcmp_lt, jcmp_gt, w32_id, jcpy_out, Sum.elim_inl, Sum.elim_inr, jt2, jt3, jt4, jt5, jt6, jt7, jt8] at sv2
  refine OK_some ?_
  try dsimp only [Sum.elim_inl, Sum.elim_inr, jt2, jt3, jt4, jt5, jt6, jt7, jt8]
  try dsimp only [Sum.elim_inl, Sum.elim_inr, jt2, jt3, jt4, jt5, jt6, jt7, jt8]
  refine ⟨?_, ?_⟩
  · (rw [sm1.1, sm1.2, sv2, w32_id (x := sumT (fun q => sz (Rq q)) n - sumT (fun q => swN 40 P (Rq q)) n) (by omega) (by omega), w32_id (by omega) (by omega)]; rfl) -- o13 e1.1
  · exact fr1 -- o14 e1.2

