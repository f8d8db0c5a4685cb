/-! m: all that a node leads to is put into the table -/
theorem tgC_se {e : CE} {u : Nat} {a b c d : Int} (v : vCE e) (x : seE e a c) (y : seE e b d) : tgC e u a b = tgC e u c d := by
  have hx : ∀ r : Nat, (r : Int) < e.1 → ps e a r = ps e c r := fun r l => x r (by omega) l
  have hy : ∀ r : Nat, (r : Int) < e.1 → ps e b r = ps e d r := fun r l => y r (by omega) l
  have hn : nxC e u a b = nxC e u c d := mkU_c (fun r l => by
    unfold fnC
    rw [hx r (by have := v.1; omega), hy r (by have := v.1; omega)])
  by_cases o : okU e u a b
  · have o2 : okU e u c d := fun r l => by
      have := o r l
      rw [hx r l, hy r l] at this
      exact this
    rw [tgC_y o, tgC_y o2, hn]
  · have o2 : ¬ okU e u c d := fun z => o (fun r l => by
      have := z r l
      rw [← hx r l, ← hy r l] at this
      exact this)
    rw [tgC_n o, tgC_n o2]
def XNQ (h : AH) (e : CE) (t0 d0 : Int → Int) (N0 D : Int) (t d : Int → Int) (N : Int) : Prop := NDT h e t N ∧ (∀ k, 0 ≤ k → k < N → (0 ≤ d k ∧ d k ≤ D + 1) ∧ rcP e (d k).toNat (t k)) ∧ N0 ≤ N ∧ (∀ k, 0 ≤ k → k < N0 → t k = t0 k ∧ d k = d0 k) ∧ ∀ k, N0 ≤ k → k < N → d k = D + 1
def EXI (h : AH) (e : CE) (t0 d0 : Int → Int) (N0 D : Int) (Q : Int → Prop) : Prop := ∃ (t d : Int → Int) (N : Int), XNQ h e t0 d0 N0 D t d N ∧ (N = 401 ∨ ∀ w, Q w → ∃ j, 0 ≤ j ∧ j < N ∧ t j = w)
theorem EXI_w {h : AH} {e : CE} {t0 d0 : Int → Int} {N0 D : Int} {Q R : Int → Prop} (x : EXI h e t0 d0 N0 D Q) (q : ∀ w, R w → Q w) : EXI h e t0 d0 N0 D R := by
  obtain ⟨t, d, N, x, y⟩ := x
  exact ⟨t, d, N, x, y.imp id (fun z w r => z w (q w r))⟩
theorem EXI_f {h h' : AH} {e : CE} {t0 d0 : Int → Int} {N0 D : Int} {Q : Int → Prop} (x : EXI h e t0 d0 N0 D Q) (f : ∀ a x, ¬ (a = 828 ∧ 0 ≤ x) → h' a x = h a x) : EXI h' e t0 d0 N0 D Q := by
  obtain ⟨t, d, N, x, y⟩ := x
  exact ⟨t, d, N, ⟨NDT_f x.1 (fun a s z => f a s (by omega)), x.2⟩, y⟩
theorem EXI_n {h h' : AH} {e : CE} {t0 d0 t d : Int → Int} {N0 D N v : Int} {w : Nat} {Q : Int → Prop} (D0 : 0 ≤ D) (x : XNQ h e t0 d0 N0 D t d N) (y : N = 401 ∨ ∀ w, Q w → ∃ j, 0 ≤ j ∧ j < N ∧ t j = w) (rc : rcP e (D + 1).toNat w) (nf : (0 ≤ v ∧ v < N ∧ t v = w ∧ h' = h) ∨ (v = -1 ∧ N = 401 ∧ (∀ k, 0 ≤ k → k < N → t k ≠ w) ∧ h' = h) ∨ (v = N ∧ N ≤ 400 ∧ (∀ k, 0 ≤ k → k < N → t k ≠ w) ∧ NDT h' e (up1 t N w) (N + 1) ∧ ∀ a x, ¬ (a = 454 ∧ x = 114) → ¬ ((a = 821 ∨ a = 822) ∧ 0 ≤ x) → h' a x = h a x)) : EXI h' e t0 d0 N0 D (fun x => Q x ∨ x = w) := by
  rcases nf with ⟨a, b, c, g⟩ | ⟨a, b, c, g⟩ | ⟨a, b, c, g, k⟩
  · rw [g]
    refine ⟨t, d, N, x, y.imp id (fun z q hq => ?_)⟩
    rcases hq with hq | hq
    · exact z q hq
    · exact ⟨v, a, b, by rw [hq]; exact c⟩
  · rw [g]
    exact ⟨t, d, N, x, Or.inl b⟩
  · obtain ⟨x1, x2, x3, x4, x5⟩ := x
    have n0 := x1.2.1
    refine ⟨up1 t N w, up1 d N (D + 1), N + 1, ⟨g, fun i i0 i1 => ?_, by omega, fun i i0 i1 => ?_, fun i i0 i1 => ?_⟩, ?_⟩
    · by_cases z : i = N
      · rw [z, up1_e, up1_e]
        exact ⟨by omega, rc⟩
      · rw [up1_o z, up1_o z]
        exact x2 i i0 (by omega)
    · rw [up1_o (by omega), up1_o (by omega)]
      exact x4 i i0 i1
    · by_cases z : i = N
      · rw [z, up1_e]
      · rw [up1_o z]
        exact x5 i i0 (by omega)
    · refine Or.inr (fun q hq => ?_)
      rcases hq with hq | hq
      · obtain ⟨j, j0, j1, j2⟩ := (y.resolve_left (by omega)) q hq
        exact ⟨j, j0, by omega, by rw [up1_o (by omega)]; exact j2⟩
      · exact ⟨N, by omega, by omega, by rw [up1_e, hq]⟩
theorem XNQ_i {h : AH} {e : CE} {t0 d0 t d : Int → Int} {N0 D N i : Int} {u : Nat} (x : XNQ h e t0 d0 N0 D t d N) (i0 : 0 ≤ i ∧ i < N0) (tu : t0 i = u) (di : d0 i = D) : ndQ h e i u ∧ stU e u ∧ rcP e D.toNat u ∧ N ≤ 401 := by
  obtain ⟨x1, x2, x3, x4, x5⟩ := x
  have q := x4 i i0.1 i0.2
  obtain ⟨w, w1, w2, w3⟩ := x1.2.2.1 i i0.1 (by omega)
  have e9 : w = u := by omega
  subst e9
  have r := (x2 i i0.1 (by omega)).2
  rw [q.1, q.2, tu, di] at r
  exact ⟨w3, w2, r, x1.2.1.2⟩
theorem nf_fr {h h' : AH} {e : CE} {t : Int → Int} {N v : Int} {w : Nat} (nf : (0 ≤ v ∧ v < N ∧ t v = w ∧ h' = h) ∨ (v = -1 ∧ N = 401 ∧ (∀ k, 0 ≤ k → k < N → t k ≠ w) ∧ h' = h) ∨ (v = N ∧ N ≤ 400 ∧ (∀ k, 0 ≤ k → k < N → t k ≠ w) ∧ NDT h' e (up1 t N w) (N + 1) ∧ ∀ a x, ¬ (a = 454 ∧ x = 114) → ¬ ((a = 821 ∨ a = 822) ∧ 0 ≤ x) → h' a x = h a x)) : ∀ a x, ¬ (a = 454 ∧ x = 114) → ¬ ((a = 821 ∨ a = 822) ∧ 0 ≤ x) → h' a x = h a x := by
  rcases nf with ⟨_, _, _, g⟩ | ⟨_, _, _, g⟩ | ⟨_, _, _, _, k⟩
  · rw [g]; exact fun _ _ _ _ => rfl
  · rw [g]; exact fun _ _ _ _ => rfl
  · exact k
theorem vX14_expand_l2 (i1 : Int) (a20 : Int) {h0 : AH} {e : CE} {t0 d0 : Int → Int} {N0 D : Int} {u : Nat} {Q : Int → Prop} (hc : cuM h0 e) (hv : vCE e) (ex : EXI h0 e t0 d0 N0 D Q) (hi : (0 ≤ i1 ∧ i1 < N0) ∧ t0 i1 = u ∧ d0 i1 = D ∧ 0 ≤ D) (h2 : a20 = 1) : OK (gX14_expand_l2 i1 a20 h0) (fun h' => (EXI h' e t0 d0 N0 D (fun x => Q x ∨ ∃ n : Int, 1 ≤ n ∧ n ≤ 3 ∧ x ≠ -1 ∧ tgL e u n = x)) ∧ (∀ a x, ¬ (a = 454 ∧ x = 114) → ¬ ((a = 821 ∨ a = 822 ∨ a = 828) ∧ 0 ≤ x) → h' a x = h0 a x)) := by
  have n8 := hv.1
  unfold gX14_expand_l2
  refine OK_jit (I := (fun (s : Int × AH) => jt2 s fun a2 h => (1 ≤ a2 ∧ a2 ≤ 4) ∧ (EXI h e t0 d0 N0 D (fun x => Q x ∨ ∃ n : Int, 1 ≤ n ∧ n < a2 ∧ x ≠ -1 ∧ tgL e u n = x)) ∧ (∀ a x, ¬ (a = 454 ∧ x = 114) → ¬ ((a = 821 ∨ a = 822 ∨ a = 828) ∧ 0 ≤ x) → h a x = h0 a x))) (m := (fun (s : Int × AH) => jt2 s fun a2 h => (4 - a2).toNat)) ?_ ?_
  · intro s hs
    obtain ⟨a2, h⟩ := s
    dsimp only [Sum.elim_inl, Sum.elim_inr, jt2, jt3, jt4, jt5, jt6, jt7, jt8] at hs
    obtain ⟨q0, q1, fr⟩ := hs
    unfold gX14_expand_b2
    refine OK_jt2 ?_
    have HC : cuM h e := cuM_f hc (fun a s y => fr a s (by omega) (by omega))
    obtain ⟨t, d, N, X, Y⟩ := q1
    obtain ⟨ND, SU, RCu, N4⟩ := XNQ_i X hi.1 hi.2.1 hi.2.2.1
    refine OK_if (fun c1 => ?_) (fun c1 => ?_)
    · skip
      try simp (disch := omega) only [jst_eq, jst_ne, jst_ni, jI_i, jcmp_lt, jcmp_gt, w32_id, jcpy_out, Sum.elim_inl, Sum.elim_inr, jt2, jt3, jt4, jt5, jt6, jt7, jt8] at c1
      refine OK_ir ?_
      try dsimp only [Sum.elim_inl, Sum.elim_inr, jt2, jt3, jt4, jt5, jt6, jt7, jt8]
      refine ⟨?_, ?_⟩
      · exact EXI_w ⟨t, d, N, X, Y⟩ (fun x hx => hx.imp id (fun ⟨n, n1, n2, n3⟩ => ⟨n, n1, by omega, n3⟩)) -- o1 e1.1
      · (first | assumption | omega | ((try dsimp only [jt2, jt3, jt4]); first | omega | (simp (disch := omega) only [jst_eq, jst_ne, jst_ni, jst_o, jI_i, jcpy_out, w32_id, jdiv_nn, jshr_k, jand_255] <;> first | done | omega | assumption)) | (intros; simp (disch := omega) only [jst_eq, jst_ne, jst_ni, jst_o, jI_i, jcpy_out, w32_id, jdiv_nn, *] <;> first | done | omega) | (intros; simp (disch := omega) only [jst_eq, jst_ne, jst_ni, jst_o, jI_i, jcpy_out, w32_id, jdiv_nn] at * <;> first | done | omega | assumption) | (intros; first | rfl | (exfalso; omega) | ((repeat' apply And.intro) <;> first | assumption | rfl | omega | trivial))) -- o2 e1.2
    · skip
      try simp (disch := omega) only [jst_eq, jst_ne, jst_ni, jI_i, jcmp_lt, jcmp_gt, w32_id, jcpy_out, Sum.elim_inl, Sum.elim_inr, jt2, jt3, jt4, jt5, jt6, jt7, jt8] at c1
      refine OK_jb2 (vX14_says (e := e) (u := u) _ _ (by exact HC) (by (first | assumption | omega | ((try dsimp only [jt2, jt3, jt4]); first | omega | (simp (disch := omega) only [jst_eq, jst_ne, jst_ni, jst_o, jI_i, jcpy_out, w32_id, jdiv_nn, jshr_k, jand_255] <;> first | done | omega | assumption)) | (intros; simp (disch := omega) only [jst_eq, jst_ne, jst_ni, jst_o, jI_i, jcpy_out, w32_id, jdiv_nn, *] <;> first | done | omega) | (intros; simp (disch := omega) only [jst_eq, jst_ne, jst_ni, jst_o, jI_i, jcpy_out, w32_id, jdiv_nn] at * <;> first | done | omega | assumption) | (intros; first | rfl | (exfalso; omega) | ((repeat' apply And.intro) <;> first | assumption | rfl | omega | trivial)))) (by (first | assumption | omega | ((try dsimp only [jt2, jt3, jt4]); first | omega | (simp (disch := omega) only [jst_eq, jst_ne, jst_ni, jst_o, jI_i, jcpy_out, w32_id, jdiv_nn, jshr_k, jand_255] <;> first | done | omega | assumption)) | (intros; simp (disch := omega) only [jst_eq, jst_ne, jst_ni, jst_o, jI_i, jcpy_out, w32_id, jdiv_nn, *] <;> first | done | omega) | (intros; simp (disch := omega) only [jst_eq, jst_ne, jst_ni, jst_o, jI_i, jcpy_out, w32_id, jdiv_nn] at * <;> first | done | omega | assumption) | (intros; first | rfl | (exfalso; omega) | ((repeat' apply And.intro) <;> first | assumption | rfl | omega | trivial)))) (by (have := X.2.2.1; omega))) (fun v7 h8 r1 => ?_)
      try dsimp only [Sum.elim_inl, Sum.elim_inr, jt2, jt3, jt4, jt5, jt6, jt7, jt8] at r1
      obtain ⟨sa1, fr1⟩ := r1
      try simp (disch := omega) only [jst_eq, jst_ne, jst_ni, jI_i, jcmp_lt, jcmp_gt, w32_id, jcpy_out, Sum.elim_inl, Sum.elim_inr, jt2, jt3, jt4, jt5, jt6, jt7, jt8] at sa1
      try simp (disch := omega) only [jst_eq, jst_ne, jst_ni, jI_i, jcmp_lt, jcmp_gt, w32_id, jcpy_out, Sum.elim_inl, Sum.elim_inr, jt2, jt3, jt4, jt5, jt6, jt7, jt8] at fr1
      have F8 : ∀ a x, ¬ (a = 828 ∧ 0 ≤ x) → h8 a x = h a x := by assumption
      refine OK_if (fun c2 => ?_) (fun c2 => ?_)
      · skip
        try simp (disch := omega) only [jst_eq, jst_ne, jst_ni, jI_i, jcmp_lt, jcmp_gt, w32_id, jcpy_out, Sum.elim_inl, Sum.elim_inr, jt2, jt3, jt4, jt5, jt6, jt7, jt8] at c2
        unfold gX14_expand_j21_2
        refine OK_jlx (fun x13 ex13 => ?_)
        try simp (disch := omega) only [jst_eq, jst_ne, jst_ni, jI_i, jcmp_lt, jcmp_gt, w32_id, jcpy_out, Sum.elim_inl, Sum.elim_inr, jt2, jt3, jt4, jt5, jt6, jt7, jt8] at ex13
        refine OK_il ?_ ?_
        · try dsimp only [Sum.elim_inl, Sum.elim_inr, jt2, jt3, jt4, jt5, jt6, jt7, jt8]
          refine ⟨?_, ?_, ?_⟩
          · (first | assumption | omega | ((try dsimp only [jt2, jt3, jt4]); first | omega | (simp (disch := omega) only [jst_eq, jst_ne, jst_ni, jst_o, jI_i, jcpy_out, w32_id, jdiv_nn, jshr_k, jand_255] <;> first | done | omega | assumption)) | (intros; simp (disch := omega) only [jst_eq, jst_ne, jst_ni, jst_o, jI_i, jcpy_out, w32_id, jdiv_nn, *] <;> first | done | omega) | (intros; simp (disch := omega) only [jst_eq, jst_ne, jst_ni, jst_o, jI_i, jcpy_out, w32_id, jdiv_nn] at * <;> first | done | omega | assumption) | (intros; first | rfl | (exfalso; omega) | ((repeat' apply And.intro) <;> first | assumption | rfl | omega | trivial))) -- o7 e2i.1
          · (have z0 : tgL e u a2 = -1 := (by rcases sa1 with z | z; { have := z.1; omega }; { exact z.2 }); refine EXI_w (EXI_f ⟨t, d, N, X, Y⟩ F8) (fun x hx => hx.imp id ?_); rintro ⟨n, n1, n2, n3, n4⟩; by_cases y : n = a2; { rw [y, z0] at n4; exact absurd n4.symm n3 }; { exact ⟨n, n1, by omega, n3, n4⟩ }) -- o8 e2i.2
          · exact fun a x y1 y2 => by rw [F8 a x (by omega)]; exact fr a x y1 y2 -- o9 e2i.3
        · (first | assumption | omega | ((try dsimp only [jt2, jt3, jt4]); first | omega | (simp (disch := omega) only [jst_eq, jst_ne, jst_ni, jst_o, jI_i, jcpy_out, w32_id, jdiv_nn, jshr_k, jand_255] <;> first | done | omega | assumption)) | (intros; simp (disch := omega) only [jst_eq, jst_ne, jst_ni, jst_o, jI_i, jcpy_out, w32_id, jdiv_nn, *] <;> first | done | omega) | (intros; simp (disch := omega) only [jst_eq, jst_ne, jst_ni, jst_o, jI_i, jcpy_out, w32_id, jdiv_nn] at * <;> first | done | omega | assumption) | (intros; first | rfl | (exfalso; omega) | ((repeat' apply And.intro) <;> first | assumption | rfl | omega | trivial))) -- o10 e2m
      · skip
        try simp (disch := omega) only [jst_eq, jst_ne, jst_ni, jI_i, jcmp_lt, jcmp_gt, w32_id, jcpy_out, Sum.elim_inl, Sum.elim_inr, jt2, jt3, jt4, jt5, jt6, jt7, jt8] at c2
        obtain ⟨w, w1, w2, w3⟩ : ∃ w : Nat, tgL e u a2 = w ∧ stU e w ∧ rwQ h8 e w := by { rcases sa1 with z | z; { exact z.2 }; { exact absurd z.1 c2 } }
        have X8 : XNQ h8 e t0 d0 N0 D t d N := ⟨NDT_f X.1 (fun a s z => F8 a s (by omega)), X.2⟩
        have RW : rcP e (D + 1).toNat w := by { rw [show (D + 1).toNat = D.toNat + 1 by omega]; exact ⟨u, RCu, (2 * a2, tgL e u a2), mvL_m.mpr (Or.inl ⟨a2.toNat, by omega, by omega, by rw [show ((a2.toNat : Nat) : Int) = a2 by omega]; omega, by rw [show ((a2.toNat : Nat) : Int) = a2 by omega]⟩), w1⟩ }
        refine OK_jb2 (vX14_nodeOf (e := e) (t := t) (N := N) (w := w) (by (rw [F8 _ _ (by omega)]; exact ⟨HC.1, by omega, by omega⟩)) (by exact w3) (by (first | assumption | omega | ((try dsimp only [jt2, jt3, jt4]); first | omega | (simp (disch := omega) only [jst_eq, jst_ne, jst_ni, jst_o, jI_i, jcpy_out, w32_id, jdiv_nn, jshr_k, jand_255] <;> first | done | omega | assumption)) | (intros; simp (disch := omega) only [jst_eq, jst_ne, jst_ni, jst_o, jI_i, jcpy_out, w32_id, jdiv_nn, *] <;> first | done | omega) | (intros; simp (disch := omega) only [jst_eq, jst_ne, jst_ni, jst_o, jI_i, jcpy_out, w32_id, jdiv_nn] at * <;> first | done | omega | assumption) | (intros; first | rfl | (exfalso; omega) | ((repeat' apply And.intro) <;> first | assumption | rfl | omega | trivial)))) (by exact X8.1)) (fun v11 h12 r2 => ?_)
        try dsimp only [Sum.elim_inl, Sum.elim_inr, jt2, jt3, jt4, jt5, jt6, jt7, jt8] at r2
        have nf2 := r2
        clear r2
        try simp (disch := omega) only [jst_eq, jst_ne, jst_ni, jI_i, jcmp_lt, jcmp_gt, w32_id, jcpy_out, Sum.elim_inl, Sum.elim_inr, jt2, jt3, jt4, jt5, jt6, jt7, jt8] at nf2
        have XX := EXI_n hi.2.2.2 X8 Y RW (by assumption)
        have FN : ∀ a x, ¬ (a = 454 ∧ x = 114) → ¬ ((a = 821 ∨ a = 822) ∧ 0 ≤ x) → h12 a x = h8 a x := nf_fr (by assumption)
        unfold gX14_expand_j21_2
        refine OK_jlx (fun x13 ex13 => ?_)
        try simp (disch := omega) only [jst_eq, jst_ne, jst_ni, jI_i, jcmp_lt, jcmp_gt, w32_id, jcpy_out, Sum.elim_inl, Sum.elim_inr, jt2, jt3, jt4, jt5, jt6, jt7, jt8] at ex13
        refine OK_il ?_ ?_
        · try dsimp only [Sum.elim_inl, Sum.elim_inr, jt2, jt3, jt4, jt5, jt6, jt7, jt8]
          refine ⟨?_, ?_, ?_⟩
          · (first | assumption | omega | ((try dsimp only [jt2, jt3, jt4]); first | omega | (simp (disch := omega) only [jst_eq, jst_ne, jst_ni, jst_o, jI_i, jcpy_out, w32_id, jdiv_nn, jshr_k, jand_255] <;> first | done | omega | assumption)) | (intros; simp (disch := omega) only [jst_eq, jst_ne, jst_ni, jst_o, jI_i, jcpy_out, w32_id, jdiv_nn, *] <;> first | done | omega) | (intros; simp (disch := omega) only [jst_eq, jst_ne, jst_ni, jst_o, jI_i, jcpy_out, w32_id, jdiv_nn] at * <;> first | done | omega | assumption) | (intros; first | rfl | (exfalso; omega) | ((repeat' apply And.intro) <;> first | assumption | rfl | omega | trivial))) -- o15 e3i.1
          · (refine EXI_w XX ?_; rintro x (hx | ⟨n, n1, n2, n3, n4⟩); { exact Or.inl (Or.inl hx) }; { by_cases y : n = a2; { right; rw [← n4, y]; exact w1 }; { exact Or.inl (Or.inr ⟨n, n1, by omega, n3, n4⟩) } }) -- o16 e3i.2
          · exact fun a x y1 y2 => by rw [FN a x y1 (by omega), F8 a x (by omega)]; exact fr a x y1 y2 -- o17 e3i.3
        · (first | assumption | omega | ((try dsimp only [jt2, jt3, jt4]); first | omega | (simp (disch := omega) only [jst_eq, jst_ne, jst_ni, jst_o, jI_i, jcpy_out, w32_id, jdiv_nn, jshr_k, jand_255] <;> first | done | omega | assumption)) | (intros; simp (disch := omega) only [jst_eq, jst_ne, jst_ni, jst_o, jI_i, jcpy_out, w32_id, jdiv_nn, *] <;> first | done | omega) | (intros; simp (disch := omega) only [jst_eq, jst_ne, jst_ni, jst_o, jI_i, jcpy_out, w32_id, jdiv_nn] at * <;> first | done | omega | assumption) | (intros; first | rfl | (exfalso; omega) | ((repeat' apply And.intro) <;> first | assumption | rfl | omega | trivial))) -- o18 e3m
  · try dsimp only [Sum.elim_inl, Sum.elim_inr, jt2, jt3, jt4, jt5, jt6, jt7, jt8]
    refine ⟨?_, ?_, ?_⟩
    · (first | assumption | omega | ((try dsimp only [jt2, jt3, jt4]); first | omega | (simp (disch := omega) only [jst_eq, jst_ne, jst_ni, jst_o, jI_i, jcpy_out, w32_id, jdiv_nn, jshr_k, jand_255] <;> first | done | omega | assumption)) | (intros; simp (disch := omega) only [jst_eq, jst_ne, jst_ni, jst_o, jI_i, jcpy_out, w32_id, jdiv_nn, *] <;> first | done | omega) | (intros; simp (disch := omega) only [jst_eq, jst_ne, jst_ni, jst_o, jI_i, jcpy_out, w32_id, jdiv_nn] at * <;> first | done | omega | assumption) | (intros; first | rfl | (exfalso; omega) | ((repeat' apply And.intro) <;> first | assumption | rfl | omega | trivial))) -- o19 init.1
    · (rw [h2]; refine EXI_w ex ?_; rintro x (hx | ⟨n, n1, n2, _⟩); { exact hx }; { omega }) -- o20 init.2
    · exact fun _ _ _ _ => rfl -- o21 init.3
theorem vX14_expand_l38 (i1 : Int) (i2 : Int) (a30 : Int) {h0 : AH} {e : CE} {t0 d0 o : Int → Int} {N0 D : Int} {u : Nat} {Q : Int → Prop} (hc : cuM h0 e) (hv : vCE e) (gi : ∀ s, 0 ≤ s → s < 178 → spM h0 e s ∧ h0 825 s = o s) (ex : EXI h0 e t0 d0 N0 D Q) (hi : (0 ≤ i1 ∧ i1 < N0) ∧ t0 i1 = u ∧ d0 i1 = D ∧ 0 ≤ D) (ha : 0 ≤ i2 ∧ i2 < 178) (h3 : a30 = 0) : OK (gX14_expand_l38 i1 i2 a30 h0) (fun h' => (EXI h' e t0 d0 N0 D (fun x => Q x ∨ ∃ b : Int, (0 ≤ b ∧ b < 178) ∧ (isP e i2 ∧ o i2 = i2) ∧ (isP e b ∧ o b = b) ∧ x ≠ -1 ∧ tgC e u i2 b = x)) ∧ (∀ a x, ¬ (a = 454 ∧ x = 114) → ¬ ((a = 821 ∨ a = 822 ∨ a = 828) ∧ 0 ≤ x) → h' a x = h0 a x)) := by
  have n8 := hv.1
  unfold gX14_expand_l38
  refine OK_jit (I := (fun (s : Int × AH) => jt2 s fun a3 h => (0 ≤ a3 ∧ a3 ≤ 178) ∧ (EXI h e t0 d0 N0 D (fun x => Q x ∨ ∃ b : Int, (0 ≤ b ∧ b < a3) ∧ (isP e i2 ∧ o i2 = i2) ∧ (isP e b ∧ o b = b) ∧ x ≠ -1 ∧ tgC e u i2 b = x)) ∧ (∀ a x, ¬ (a = 454 ∧ x = 114) → ¬ ((a = 821 ∨ a = 822 ∨ a = 828) ∧ 0 ≤ x) → h a x = h0 a x))) (m := (fun (s : Int × AH) => jt2 s fun a3 h => (178 - a3).toNat)) ?_ ?_
  · intro s hs
    obtain ⟨a3, h⟩ := s
    dsimp only [Sum.elim_inl, Sum.elim_inr, jt2, jt3, jt4, jt5, jt6, jt7, jt8] at hs
    obtain ⟨q0, q1, fr⟩ := hs
    unfold gX14_expand_b38
    refine OK_jt2 ?_
    have HC : cuM h e := cuM_f hc (fun a s y => fr a s (by omega) (by omega))
    have GI : ∀ s, 0 ≤ s → s < 178 → spM h e s ∧ h 825 s = o s := fun s s0 s1 => ⟨spM_f (gi s s0 s1).1 n8.2 (fun a x y => fr a x (by omega) (by omega)), by rw [fr _ _ (by omega) (by omega)]; exact (gi s s0 s1).2⟩
    obtain ⟨t, d, N, X, Y⟩ := q1
    obtain ⟨ND, SU, RCu, N4⟩ := XNQ_i X hi.1 hi.2.1 hi.2.2.1
    have G2 := GI i2 ha.1 ha.2
    refine OK_if (fun c1 => ?_) (fun c1 => ?_)
    · skip
      try simp (disch := omega) only [jst_eq, jst_ne, jst_ni, jI_i, jcmp_lt, jcmp_gt, w32_id, jcpy_out, Sum.elim_inl, Sum.elim_inr, jt2, jt3, jt4, jt5, jt6, jt7, jt8] at c1
      refine OK_ir ?_
      try dsimp only [Sum.elim_inl, Sum.elim_inr, jt2, jt3, jt4, jt5, jt6, jt7, jt8]
      refine ⟨?_, ?_⟩
      · exact EXI_w ⟨t, d, N, X, Y⟩ (fun x hx => hx.imp id (fun ⟨b, b1, r⟩ => ⟨b, ⟨b1.1, by omega⟩, r⟩)) -- o1 e1.1
      · (first | assumption | omega | ((try dsimp only [jt2, jt3, jt4]); first | omega | (simp (disch := omega) only [jst_eq, jst_ne, jst_ni, jst_o, jI_i, jcpy_out, w32_id, jdiv_nn, jshr_k, jand_255] <;> first | done | omega | assumption)) | (intros; simp (disch := omega) only [jst_eq, jst_ne, jst_ni, jst_o, jI_i, jcpy_out, w32_id, jdiv_nn, *] <;> first | done | omega) | (intros; simp (disch := omega) only [jst_eq, jst_ne, jst_ni, jst_o, jI_i, jcpy_out, w32_id, jdiv_nn] at * <;> first | done | omega | assumption) | (intros; first | rfl | (exfalso; omega) | ((repeat' apply And.intro) <;> first | assumption | rfl | omega | trivial))) -- o2 e1.2
    · skip
      try simp (disch := omega) only [jst_eq, jst_ne, jst_ni, jI_i, jcmp_lt, jcmp_gt, w32_id, jcpy_out, Sum.elim_inl, Sum.elim_inr, jt2, jt3, jt4, jt5, jt6, jt7, jt8] at c1
      have G3 := GI a3 q0.1 (by omega)
      refine OK_jg (by (first | assumption | omega | ((try dsimp only [jt2, jt3, jt4]); first | omega | (simp (disch := omega) only [jst_eq, jst_ne, jst_ni, jst_o, jI_i, jcpy_out, w32_id, jdiv_nn, jshr_k, jand_255] <;> first | done | omega | assumption)) | (intros; simp (disch := omega) only [jst_eq, jst_ne, jst_ni, jst_o, jI_i, jcpy_out, w32_id, jdiv_nn, *] <;> first | done | omega) | (intros; simp (disch := omega) only [jst_eq, jst_ne, jst_ni, jst_o, jI_i, jcpy_out, w32_id, jdiv_nn] at * <;> first | done | omega | assumption) | (intros; first | rfl | (exfalso; omega) | ((repeat' apply And.intro) <;> first | assumption | rfl | omega | trivial)))) ?_ -- o3
      refine OK_if (fun c2 => ?_) (fun c2 => ?_)
      · skip
        try simp (disch := omega) only [jst_eq, jst_ne, jst_ni, jI_i, jcmp_lt, jcmp_gt, w32_id, jcpy_out, Sum.elim_inl, Sum.elim_inr, jt2, jt3, jt4, jt5, jt6, jt7, jt8] at c2
        have NP2 : ¬ isP e i2 := by { rcases G2.1 with z | z; { have := z.1; omega }; { exact z.2 } }
        refine OK_ir ?_
        try dsimp only [Sum.elim_inl, Sum.elim_inr, jt2, jt3, jt4, jt5, jt6, jt7, jt8]
        refine ⟨?_, ?_⟩
        · (refine EXI_w ⟨t, d, N, X, Y⟩ (fun x hx => ?_); rcases hx with hx | ⟨b, b1, b2, _⟩; { exact Or.inl hx }; { exact absurd b2.1 NP2 }) -- o4 e2.1
        · (first | assumption | omega | ((try dsimp only [jt2, jt3, jt4]); first | omega | (simp (disch := omega) only [jst_eq, jst_ne, jst_ni, jst_o, jI_i, jcpy_out, w32_id, jdiv_nn, jshr_k, jand_255] <;> first | done | omega | assumption)) | (intros; simp (disch := omega) only [jst_eq, jst_ne, jst_ni, jst_o, jI_i, jcpy_out, w32_id, jdiv_nn, *] <;> first | done | omega) | (intros; simp (disch := omega) only [jst_eq, jst_ne, jst_ni, jst_o, jI_i, jcpy_out, w32_id, jdiv_nn] at * <;> first | done | omega | assumption) | (intros; first | rfl | (exfalso; omega) | ((repeat' apply And.intro) <;> first | assumption | rfl | omega | trivial))) -- o5 e2.2
      · skip
        try simp (disch := omega) only [jst_eq, jst_ne, jst_ni, jI_i, jcmp_lt, jcmp_gt, w32_id, jcpy_out, Sum.elim_inl, Sum.elim_inr, jt2, jt3, jt4, jt5, jt6, jt7, jt8] at c2
        have R2 := roQ_s G2.1 c2
        refine OK_if (fun c3 => ?_) (fun c3 => ?_)
        · skip
          try simp (disch := omega) only [jst_eq, jst_ne, jst_ni, jI_i, jcmp_lt, jcmp_gt, w32_id, jcpy_out, Sum.elim_inl, Sum.elim_inr, jt2, jt3, jt4, jt5, jt6, jt7, jt8] at c3
          refine OK_jg (by (first | assumption | omega | ((try dsimp only [jt2, jt3, jt4]); first | omega | (simp (disch := omega) only [jst_eq, jst_ne, jst_ni, jst_o, jI_i, jcpy_out, w32_id, jdiv_nn, jshr_k, jand_255] <;> first | done | omega | assumption)) | (intros; simp (disch := omega) only [jst_eq, jst_ne, jst_ni, jst_o, jI_i, jcpy_out, w32_id, jdiv_nn, *] <;> first | done | omega) | (intros; simp (disch := omega) only [jst_eq, jst_ne, jst_ni, jst_o, jI_i, jcpy_out, w32_id, jdiv_nn] at * <;> first | done | omega | assumption) | (intros; first | rfl | (exfalso; omega) | ((repeat' apply And.intro) <;> first | assumption | rfl | omega | trivial)))) ?_ -- o6
          refine OK_if (fun c4 => ?_) (fun c4 => ?_)
          · skip
            try simp (disch := omega) only [jst_eq, jst_ne, jst_ni, jI_i, jcmp_lt, jcmp_gt, w32_id, jcpy_out, Sum.elim_inl, Sum.elim_inr, jt2, jt3, jt4, jt5, jt6, jt7, jt8] at c4
            have NP3 : ¬ isP e a3 := by { rcases G3.1 with z | z; { have := z.1; omega }; { exact z.2 } }
            unfold gX14_expand_j99_38
            refine OK_jlx (fun x30 ex30 => ?_)
            try simp (disch := omega) only [jst_eq, jst_ne, jst_ni, jI_i, jcmp_lt, jcmp_gt, w32_id, jcpy_out, Sum.elim_inl, Sum.elim_inr, jt2, jt3, jt4, jt5, jt6, jt7, jt8] at ex30
            refine OK_il ?_ ?_
            · try dsimp only [Sum.elim_inl, Sum.elim_inr, jt2, jt3, jt4, jt5, jt6, jt7, jt8]
              refine ⟨?_, ?_, ?_⟩
              · (first | assumption | omega | ((try dsimp only [jt2, jt3, jt4]); first | omega | (simp (disch := omega) only [jst_eq, jst_ne, jst_ni, jst_o, jI_i, jcpy_out, w32_id, jdiv_nn, jshr_k, jand_255] <;> first | done | omega | assumption)) | (intros; simp (disch := omega) only [jst_eq, jst_ne, jst_ni, jst_o, jI_i, jcpy_out, w32_id, jdiv_nn, *] <;> first | done | omega) | (intros; simp (disch := omega) only [jst_eq, jst_ne, jst_ni, jst_o, jI_i, jcpy_out, w32_id, jdiv_nn] at * <;> first | done | omega | assumption) | (intros; first | rfl | (exfalso; omega) | ((repeat' apply And.intro) <;> first | assumption | rfl | omega | trivial))) -- o7 e3i.1
              · (refine EXI_w ⟨t, d, N, X, Y⟩ (fun x hx => hx.imp id ?_); rintro ⟨b, b1, b2, b3, b4⟩; by_cases y : b = a3; { rw [y] at b3; exact absurd b3.1 NP3 }; { exact ⟨b, ⟨b1.1, by omega⟩, b2, b3, b4⟩ }) -- o8 e3i.2
              · (first | assumption | omega | ((try dsimp only [jt2, jt3, jt4]); first | omega | (simp (disch := omega) only [jst_eq, jst_ne, jst_ni, jst_o, jI_i, jcpy_out, w32_id, jdiv_nn, jshr_k, jand_255] <;> first | done | omega | assumption)) | (intros; simp (disch := omega) only [jst_eq, jst_ne, jst_ni, jst_o, jI_i, jcpy_out, w32_id, jdiv_nn, *] <;> first | done | omega) | (intros; simp (disch := omega) only [jst_eq, jst_ne, jst_ni, jst_o, jI_i, jcpy_out, w32_id, jdiv_nn] at * <;> first | done | omega | assumption) | (intros; first | rfl | (exfalso; omega) | ((repeat' apply And.intro) <;> first | assumption | rfl | omega | trivial))) -- o9 e3i.3
            · (first | assumption | omega | ((try dsimp only [jt2, jt3, jt4]); first | omega | (simp (disch := omega) only [jst_eq, jst_ne, jst_ni, jst_o, jI_i, jcpy_out, w32_id, jdiv_nn, jshr_k, jand_255] <;> first | done | omega | assumption)) | (intros; simp (disch := omega) only [jst_eq, jst_ne, jst_ni, jst_o, jI_i, jcpy_out, w32_id, jdiv_nn, *] <;> first | done | omega) | (intros; simp (disch := omega) only [jst_eq, jst_ne, jst_ni, jst_o, jI_i, jcpy_out, w32_id, jdiv_nn] at * <;> first | done | omega | assumption) | (intros; first | rfl | (exfalso; omega) | ((repeat' apply And.intro) <;> first | assumption | rfl | omega | trivial))) -- o10 e3m
          · skip
            try simp (disch := omega) only [jst_eq, jst_ne, jst_ni, jI_i, jcmp_lt, jcmp_gt, w32_id, jcpy_out, Sum.elim_inl, Sum.elim_inr, jt2, jt3, jt4, jt5, jt6, jt7, jt8] at c4
            have R3 := roQ_s G3.1 c4
            refine OK_if (fun c5 => ?_) (fun c5 => ?_)
            · skip
              try simp (disch := omega) only [jst_eq, jst_ne, jst_ni, jI_i, jcmp_lt, jcmp_gt, w32_id, jcpy_out, Sum.elim_inl, Sum.elim_inr, jt2, jt3, jt4, jt5, jt6, jt7, jt8] at c5
              refine OK_jb2 (vX14_cuts (e := e) (u := u) _ _ _ (by exact HC) (by (first | assumption | omega | ((try dsimp only [jt2, jt3, jt4]); first | omega | (simp (disch := omega) only [jst_eq, jst_ne, jst_ni, jst_o, jI_i, jcpy_out, w32_id, jdiv_nn, jshr_k, jand_255] <;> first | done | omega | assumption)) | (intros; simp (disch := omega) only [jst_eq, jst_ne, jst_ni, jst_o, jI_i, jcpy_out, w32_id, jdiv_nn, *] <;> first | done | omega) | (intros; simp (disch := omega) only [jst_eq, jst_ne, jst_ni, jst_o, jI_i, jcpy_out, w32_id, jdiv_nn] at * <;> first | done | omega | assumption) | (intros; first | rfl | (exfalso; omega) | ((repeat' apply And.intro) <;> first | assumption | rfl | omega | trivial)))) (by (first | assumption | omega | ((try dsimp only [jt2, jt3, jt4]); first | omega | (simp (disch := omega) only [jst_eq, jst_ne, jst_ni, jst_o, jI_i, jcpy_out, w32_id, jdiv_nn, jshr_k, jand_255] <;> first | done | omega | assumption)) | (intros; simp (disch := omega) only [jst_eq, jst_ne, jst_ni, jst_o, jI_i, jcpy_out, w32_id, jdiv_nn, *] <;> first | done | omega) | (intros; simp (disch := omega) only [jst_eq, jst_ne, jst_ni, jst_o, jI_i, jcpy_out, w32_id, jdiv_nn] at * <;> first | done | omega | assumption) | (intros; first | rfl | (exfalso; omega) | ((repeat' apply And.intro) <;> first | assumption | rfl | omega | trivial)))) (by (have := X.2.2.1; omega)) (by (first | assumption | omega | ((try dsimp only [jt2, jt3, jt4]); first | omega | (simp (disch := omega) only [jst_eq, jst_ne, jst_ni, jst_o, jI_i, jcpy_out, w32_id, jdiv_nn, jshr_k, jand_255] <;> first | done | omega | assumption)) | (intros; simp (disch := omega) only [jst_eq, jst_ne, jst_ni, jst_o, jI_i, jcpy_out, w32_id, jdiv_nn, *] <;> first | done | omega) | (intros; simp (disch := omega) only [jst_eq, jst_ne, jst_ni, jst_o, jI_i, jcpy_out, w32_id, jdiv_nn] at * <;> first | done | omega | assumption) | (intros; first | rfl | (exfalso; omega) | ((repeat' apply And.intro) <;> first | assumption | rfl | omega | trivial)))) (by (first | assumption | omega | ((try dsimp only [jt2, jt3, jt4]); first | omega | (simp (disch := omega) only [jst_eq, jst_ne, jst_ni, jst_o, jI_i, jcpy_out, w32_id, jdiv_nn, jshr_k, jand_255] <;> first | done | omega | assumption)) | (intros; simp (disch := omega) only [jst_eq, jst_ne, jst_ni, jst_o, jI_i, jcpy_out, w32_id, jdiv_nn, *] <;> first | done | omega) | (intros; simp (disch := omega) only [jst_eq, jst_ne, jst_ni, jst_o, jI_i, jcpy_out, w32_id, jdiv_nn] at * <;> first | done | omega | assumption) | (intros; first | rfl | (exfalso; omega) | ((repeat' apply And.intro) <;> first | assumption | rfl | omega | trivial))))) (fun v24 h25 r1 => ?_)
              try dsimp only [Sum.elim_inl, Sum.elim_inr, jt2, jt3, jt4, jt5, jt6, jt7, jt8] at r1
              obtain ⟨sa1, fr1⟩ := r1
              try simp (disch := omega) only [jst_eq, jst_ne, jst_ni, jI_i, jcmp_lt, jcmp_gt, w32_id, jcpy_out, Sum.elim_inl, Sum.elim_inr, jt2, jt3, jt4, jt5, jt6, jt7, jt8] at sa1
              try simp (disch := omega) only [jst_eq, jst_ne, jst_ni, jI_i, jcmp_lt, jcmp_gt, w32_id, jcpy_out, Sum.elim_inl, Sum.elim_inr, jt2, jt3, jt4, jt5, jt6, jt7, jt8] at fr1
              have F8 : ∀ a x, ¬ (a = 828 ∧ 0 ≤ x) → h25 a x = h a x := by assumption
              refine OK_if (fun c6 => ?_) (fun c6 => ?_)
              · skip
                try simp (disch := omega) only [jst_eq, jst_ne, jst_ni, jI_i, jcmp_lt, jcmp_gt, w32_id, jcpy_out, Sum.elim_inl, Sum.elim_inr, jt2, jt3, jt4, jt5, jt6, jt7, jt8] at c6
                unfold gX14_expand_j99_38
                refine OK_jlx (fun x30 ex30 => ?_)
                try simp (disch := omega) only [jst_eq, jst_ne, jst_ni, jI_i, jcmp_lt, jcmp_gt, w32_id, jcpy_out, Sum.elim_inl, Sum.elim_inr, jt2, jt3, jt4, jt5, jt6, jt7, jt8] at ex30
                refine OK_il ?_ ?_
                · try dsimp only [Sum.elim_inl, Sum.elim_inr, jt2, jt3, jt4, jt5, jt6, jt7, jt8]
                  refine ⟨?_, ?_, ?_⟩
                  · (first | assumption | omega | ((try dsimp only [jt2, jt3, jt4]); first | omega | (simp (disch := omega) only [jst_eq, jst_ne, jst_ni, jst_o, jI_i, jcpy_out, w32_id, jdiv_nn, jshr_k, jand_255] <;> first | done | omega | assumption)) | (intros; simp (disch := omega) only [jst_eq, jst_ne, jst_ni, jst_o, jI_i, jcpy_out, w32_id, jdiv_nn, *] <;> first | done | omega) | (intros; simp (disch := omega) only [jst_eq, jst_ne, jst_ni, jst_o, jI_i, jcpy_out, w32_id, jdiv_nn] at * <;> first | done | omega | assumption) | (intros; first | rfl | (exfalso; omega) | ((repeat' apply And.intro) <;> first | assumption | rfl | omega | trivial))) -- o17 e4i.1
                  · (have z0 : tgC e u i2 a3 = -1 := (by rcases sa1 with z | z; { have := z.1; omega }; { exact z.2 }); refine EXI_w (EXI_f ⟨t, d, N, X, Y⟩ F8) (fun x hx => hx.imp id ?_); rintro ⟨b, b1, b2, b3, b4, b5⟩; by_cases y : b = a3; { rw [y, z0] at b5; exact absurd b5.symm b4 }; { exact ⟨b, ⟨b1.1, by omega⟩, b2, b3, b4, b5⟩ }) -- o18 e4i.2
                  · exact fun a x y1 y2 => by rw [F8 a x (by omega)]; exact fr a x y1 y2 -- o19 e4i.3
                · (first | assumption | omega | ((try dsimp only [jt2, jt3, jt4]); first | omega | (simp (disch := omega) only [jst_eq, jst_ne, jst_ni, jst_o, jI_i, jcpy_out, w32_id, jdiv_nn, jshr_k, jand_255] <;> first | done | omega | assumption)) | (intros; simp (disch := omega) only [jst_eq, jst_ne, jst_ni, jst_o, jI_i, jcpy_out, w32_id, jdiv_nn, *] <;> first | done | omega) | (intros; simp (disch := omega) only [jst_eq, jst_ne, jst_ni, jst_o, jI_i, jcpy_out, w32_id, jdiv_nn] at * <;> first | done | omega | assumption) | (intros; first | rfl | (exfalso; omega) | ((repeat' apply And.intro) <;> first | assumption | rfl | omega | trivial))) -- o20 e4m
              · skip
                try simp (disch := omega) only [jst_eq, jst_ne, jst_ni, jI_i, jcmp_lt, jcmp_gt, w32_id, jcpy_out, Sum.elim_inl, Sum.elim_inr, jt2, jt3, jt4, jt5, jt6, jt7, jt8] at c6
                obtain ⟨w, w1, w2, w3⟩ : ∃ w : Nat, tgC e u i2 a3 = w ∧ stU e w ∧ rwQ h25 e w := by { rcases sa1 with z | z; { exact z.2 }; { exact absurd z.1 c6 } }
                have X8 : XNQ h25 e t0 d0 N0 D t d N := ⟨NDT_f X.1 (fun a s z => F8 a s (by omega)), X.2⟩
                have RW : rcP e (D + 1).toNat w := by { rw [show (D + 1).toNat = D.toNat + 1 by omega]; exact ⟨u, RCu, (spR i2 + spR a3, tgC e u i2 a3), mvL_m.mpr (Or.inr ⟨i2.toNat, a3.toNat, by omega, by omega, by rw [show ((i2.toNat : Nat) : Int) = i2 by omega]; exact R2.1, by rw [show ((a3.toNat : Nat) : Int) = a3 by omega]; exact R3.1, by rw [show ((i2.toNat : Nat) : Int) = i2 by omega, show ((a3.toNat : Nat) : Int) = a3 by omega]; omega, by rw [show ((i2.toNat : Nat) : Int) = i2 by omega, show ((a3.toNat : Nat) : Int) = a3 by omega]⟩), w1⟩ }
                refine OK_jb2 (vX14_nodeOf (e := e) (t := t) (N := N) (w := w) (by (rw [F8 _ _ (by omega)]; exact ⟨HC.1, by omega, by omega⟩)) (by exact w3) (by (first | assumption | omega | ((try dsimp only [jt2, jt3, jt4]); first | omega | (simp (disch := omega) only [jst_eq, jst_ne, jst_ni, jst_o, jI_i, jcpy_out, w32_id, jdiv_nn, jshr_k, jand_255] <;> first | done | omega | assumption)) | (intros; simp (disch := omega) only [jst_eq, jst_ne, jst_ni, jst_o, jI_i, jcpy_out, w32_id, jdiv_nn, *] <;> first | done | omega) | (intros; simp (disch := omega) only [jst_eq, jst_ne, jst_ni, jst_o, jI_i, jcpy_out, w32_id, jdiv_nn] at * <;> first | done | omega | assumption) | (intros; first | rfl | (exfalso; omega) | ((repeat' apply And.intro) <;> first | assumption | rfl | omega | trivial)))) (by exact X8.1)) (fun v28 h29 r2 => ?_)
                try dsimp only [Sum.elim_inl, Sum.elim_inr, jt2, jt3, jt4, jt5, jt6, jt7, jt8] at r2
                have nf2 := r2
                clear r2
                try simp (disch := omega) only [jst_eq, jst_ne, jst_ni, jI_i, jcmp_lt, jcmp_gt, w32_id, jcpy_out, Sum.elim_inl, Sum.elim_inr, jt2, jt3, jt4, jt5, jt6, jt7, jt8] at nf2
                have XX := EXI_n hi.2.2.2 X8 Y RW (by assumption)
                have FN : ∀ a x, ¬ (a = 454 ∧ x = 114) → ¬ ((a = 821 ∨ a = 822) ∧ 0 ≤ x) → h29 a x = h25 a x := nf_fr (by assumption)
                unfold gX14_expand_j99_38
                refine OK_jlx (fun x30 ex30 => ?_)
                try simp (disch := omega) only [jst_eq, jst_ne, jst_ni, jI_i, jcmp_lt, jcmp_gt, w32_id, jcpy_out, Sum.elim_inl, Sum.elim_inr, jt2, jt3, jt4, jt5, jt6, jt7, jt8] at ex30
                refine OK_il ?_ ?_
                · try dsimp only [Sum.elim_inl, Sum.elim_inr, jt2, jt3, jt4, jt5, jt6, jt7, jt8]
                  refine ⟨?_, ?_, ?_⟩
                  · (first | assumption | omega | ((try dsimp only [jt2, jt3, jt4]); first | omega | (simp (disch := omega) only [jst_eq, jst_ne, jst_ni, jst_o, jI_i, jcpy_out, w32_id, jdiv_nn, jshr_k, jand_255] <;> first | done | omega | assumption)) | (intros; simp (disch := omega) only [jst_eq, jst_ne, jst_ni, jst_o, jI_i, jcpy_out, w32_id, jdiv_nn, *] <;> first | done | omega) | (intros; simp (disch := omega) only [jst_eq, jst_ne, jst_ni, jst_o, jI_i, jcpy_out, w32_id, jdiv_nn] at * <;> first | done | omega | assumption) | (intros; first | rfl | (exfalso; omega) | ((repeat' apply And.intro) <;> first | assumption | rfl | omega | trivial))) -- o25 e5i.1
                  · (refine EXI_w XX ?_; rintro x (hx | ⟨b, b1, b2, b3, b4, b5⟩); { exact Or.inl (Or.inl hx) }; { by_cases y : b = a3; { right; rw [← b5, y]; exact w1 }; { exact Or.inl (Or.inr ⟨b, ⟨b1.1, by omega⟩, b2, b3, b4, b5⟩) } }) -- o26 e5i.2
                  · exact fun a x y1 y2 => by rw [FN a x y1 (by omega), F8 a x (by omega)]; exact fr a x y1 y2 -- o27 e5i.3
                · (first | assumption | omega | ((try dsimp only [jt2, jt3, jt4]); first | omega | (simp (disch := omega) only [jst_eq, jst_ne, jst_ni, jst_o, jI_i, jcpy_out, w32_id, jdiv_nn, jshr_k, jand_255] <;> first | done | omega | assumption)) | (intros; simp (disch := omega) only [jst_eq, jst_ne, jst_ni, jst_o, jI_i, jcpy_out, w32_id, jdiv_nn, *] <;> first | done | omega) | (intros; simp (disch := omega) only [jst_eq, jst_ne, jst_ni, jst_o, jI_i, jcpy_out, w32_id, jdiv_nn] at * <;> first | done | omega | assumption) | (intros; first | rfl | (exfalso; omega) | ((repeat' apply And.intro) <;> first | assumption | rfl | omega | trivial))) -- o28 e5m
            · skip
              try simp (disch := omega) only [jst_eq, jst_ne, jst_ni, jI_i, jcmp_lt, jcmp_gt, w32_id, jcpy_out, Sum.elim_inl, Sum.elim_inr, jt2, jt3, jt4, jt5, jt6, jt7, jt8] at c5
              unfold gX14_expand_j99_38
              refine OK_jlx (fun x30 ex30 => ?_)
              try simp (disch := omega) only [jst_eq, jst_ne, jst_ni, jI_i, jcmp_lt, jcmp_gt, w32_id, jcpy_out, Sum.elim_inl, Sum.elim_inr, jt2, jt3, jt4, jt5, jt6, jt7, jt8] at ex30
              refine OK_il ?_ ?_
              · try dsimp only [Sum.elim_inl, Sum.elim_inr, jt2, jt3, jt4, jt5, jt6, jt7, jt8]
                refine ⟨?_, ?_, ?_⟩
                · (first | assumption | omega | ((try dsimp only [jt2, jt3, jt4]); first | omega | (simp (disch := omega) only [jst_eq, jst_ne, jst_ni, jst_o, jI_i, jcpy_out, w32_id, jdiv_nn, jshr_k, jand_255] <;> first | done | omega | assumption)) | (intros; simp (disch := omega) only [jst_eq, jst_ne, jst_ni, jst_o, jI_i, jcpy_out, w32_id, jdiv_nn, *] <;> first | done | omega) | (intros; simp (disch := omega) only [jst_eq, jst_ne, jst_ni, jst_o, jI_i, jcpy_out, w32_id, jdiv_nn] at * <;> first | done | omega | assumption) | (intros; first | rfl | (exfalso; omega) | ((repeat' apply And.intro) <;> first | assumption | rfl | omega | trivial))) -- o29 e6i.1
                · (refine EXI_w ⟨t, d, N, X, Y⟩ (fun x hx => hx.imp id ?_); rintro ⟨b, b1, b2, b3, b4⟩; by_cases y : b = a3; { rw [y] at b3; have := G3.2; omega }; { exact ⟨b, ⟨b1.1, by omega⟩, b2, b3, b4⟩ }) -- o30 e6i.2
                · (first | assumption | omega | ((try dsimp only [jt2, jt3, jt4]); first | omega | (simp (disch := omega) only [jst_eq, jst_ne, jst_ni, jst_o, jI_i, jcpy_out, w32_id, jdiv_nn, jshr_k, jand_255] <;> first | done | omega | assumption)) | (intros; simp (disch := omega) only [jst_eq, jst_ne, jst_ni, jst_o, jI_i, jcpy_out, w32_id, jdiv_nn, *] <;> first | done | omega) | (intros; simp (disch := omega) only [jst_eq, jst_ne, jst_ni, jst_o, jI_i, jcpy_out, w32_id, jdiv_nn] at * <;> first | done | omega | assumption) | (intros; first | rfl | (exfalso; omega) | ((repeat' apply And.intro) <;> first | assumption | rfl | omega | trivial))) -- o31 e6i.3
              · (first | assumption | omega | ((try dsimp only [jt2, jt3, jt4]); first | omega | (simp (disch := omega) only [jst_eq, jst_ne, jst_ni, jst_o, jI_i, jcpy_out, w32_id, jdiv_nn, jshr_k, jand_255] <;> first | done | omega | assumption)) | (intros; simp (disch := omega) only [jst_eq, jst_ne, jst_ni, jst_o, jI_i, jcpy_out, w32_id, jdiv_nn, *] <;> first | done | omega) | (intros; simp (disch := omega) only [jst_eq, jst_ne, jst_ni, jst_o, jI_i, jcpy_out, w32_id, jdiv_nn] at * <;> first | done | omega | assumption) | (intros; first | rfl | (exfalso; omega) | ((repeat' apply And.intro) <;> first | assumption | rfl | omega | trivial))) -- o32 e6m
        · skip
          try simp (disch := omega) only [jst_eq, jst_ne, jst_ni, jI_i, jcmp_lt, jcmp_gt, w32_id, jcpy_out, Sum.elim_inl, Sum.elim_inr, jt2, jt3, jt4, jt5, jt6, jt7, jt8] at c3
          refine OK_ir ?_
          try dsimp only [Sum.elim_inl, Sum.elim_inr, jt2, jt3, jt4, jt5, jt6, jt7, jt8]
          refine ⟨?_, ?_⟩
          · (refine EXI_w ⟨t, d, N, X, Y⟩ (fun x hx => ?_); rcases hx with hx | ⟨b, b1, b2, _⟩; { exact Or.inl hx }; { exfalso; have := b2.2; have := G2.2; omega }) -- o33 e7.1
          · (first | assumption | omega | ((try dsimp only [jt2, jt3, jt4]); first | omega | (simp (disch := omega) only [jst_eq, jst_ne, jst_ni, jst_o, jI_i, jcpy_out, w32_id, jdiv_nn, jshr_k, jand_255] <;> first | done | omega | assumption)) | (intros; simp (disch := omega) only [jst_eq, jst_ne, jst_ni, jst_o, jI_i, jcpy_out, w32_id, jdiv_nn, *] <;> first | done | omega) | (intros; simp (disch := omega) only [jst_eq, jst_ne, jst_ni, jst_o, jI_i, jcpy_out, w32_id, jdiv_nn] at * <;> first | done | omega | assumption) | (intros; first | rfl | (exfalso; omega) | ((repeat' apply And.intro) <;> first | assumption | rfl | omega | trivial))) -- o34 e7.2
  · try dsimp only [Sum.elim_inl, Sum.elim_inr, jt2, jt3, jt4, jt5, jt6, jt7, jt8]
    refine ⟨?_, ?_, ?_⟩
    · (first | assumption | omega | ((try dsimp only [jt2, jt3, jt4]); first | omega | (simp (disch := omega) only [jst_eq, jst_ne, jst_ni, jst_o, jI_i, jcpy_out, w32_id, jdiv_nn, jshr_k, jand_255] <;> first | done | omega | assumption)) | (intros; simp (disch := omega) only [jst_eq, jst_ne, jst_ni, jst_o, jI_i, jcpy_out, w32_id, jdiv_nn, *] <;> first | done | omega) | (intros; simp (disch := omega) only [jst_eq, jst_ne, jst_ni, jst_o, jI_i, jcpy_out, w32_id, jdiv_nn] at * <;> first | done | omega | assumption) | (intros; first | rfl | (exfalso; omega) | ((repeat' apply And.intro) <;> first | assumption | rfl | omega | trivial))) -- o35 init.1
    · (rw [h3]; refine EXI_w ex ?_; rintro x (hx | ⟨n, n1, _⟩); { exact hx }; { omega }) -- o36 init.2
    · exact fun _ _ _ _ => rfl -- o37 init.3
theorem vX14_expand_l29 (i1 : Int) (a20 : Int) {h0 : AH} {e : CE} {t0 d0 o : Int → Int} {N0 D : Int} {u : Nat} {Q : Int → Prop} (hc : cuM h0 e) (hv : vCE e) (gi : ∀ s, 0 ≤ s → s < 178 → spM h0 e s ∧ h0 825 s = o s) (ex : EXI h0 e t0 d0 N0 D Q) (hi : (0 ≤ i1 ∧ i1 < N0) ∧ t0 i1 = u ∧ d0 i1 = D ∧ 0 ≤ D) (h2 : a20 = 0) : OK (gX14_expand_l29 i1 a20 h0) (fun h' => (EXI h' e t0 d0 N0 D (fun x => Q x ∨ ∃ a b : Int, (0 ≤ a ∧ a < 178) ∧ (0 ≤ b ∧ b < 178) ∧ (isP e a ∧ o a = a) ∧ (isP e b ∧ o b = b) ∧ x ≠ -1 ∧ tgC e u a b = x)) ∧ (∀ a x, ¬ (a = 454 ∧ x = 114) → ¬ ((a = 821 ∨ a = 822 ∨ a = 828) ∧ 0 ≤ x) → h' a x = h0 a x)) := by
  have n8 := hv.1
  unfold gX14_expand_l29
  refine OK_jit (I := (fun (s : Int × AH) => jt2 s fun a2 h => (0 ≤ a2 ∧ a2 ≤ 178) ∧ (EXI h e t0 d0 N0 D (fun x => Q x ∨ ∃ a b : Int, (0 ≤ a ∧ a < a2) ∧ (0 ≤ b ∧ b < 178) ∧ (isP e a ∧ o a = a) ∧ (isP e b ∧ o b = b) ∧ x ≠ -1 ∧ tgC e u a b = x)) ∧ (∀ a x, ¬ (a = 454 ∧ x = 114) → ¬ ((a = 821 ∨ a = 822 ∨ a = 828) ∧ 0 ≤ x) → h a x = h0 a x))) (m := (fun (s : Int × AH) => jt2 s fun a2 h => (178 - a2).toNat)) ?_ ?_
  · intro s hs
    obtain ⟨a2, h⟩ := s
    dsimp only [Sum.elim_inl, Sum.elim_inr, jt2, jt3, jt4, jt5, jt6, jt7, jt8] at hs
    obtain ⟨q0, q1, fr⟩ := hs
    unfold gX14_expand_b29
    refine OK_jt2 ?_
    refine OK_if (fun c1 => ?_) (fun c1 => ?_)
    · skip
      try simp (disch := omega) only [jst_eq, jst_ne, jst_ni, jI_i, jcmp_lt, jcmp_gt, w32_id, jcpy_out, Sum.elim_inl, Sum.elim_inr, jt2, jt3, jt4, jt5, jt6, jt7, jt8] at c1
      refine OK_ir ?_
      try dsimp only [Sum.elim_inl, Sum.elim_inr, jt2, jt3, jt4, jt5, jt6, jt7, jt8]
      refine ⟨?_, ?_⟩
      · exact EXI_w q1 (fun x hx => hx.imp id (fun ⟨a, b, a1, r⟩ => ⟨a, b, ⟨a1.1, by omega⟩, r⟩)) -- o1 e1.1
      · (first | assumption | omega | ((try dsimp only [jt2, jt3, jt4]); first | omega | (simp (disch := omega) only [jst_eq, jst_ne, jst_ni, jst_o, jI_i, jcpy_out, w32_id, jdiv_nn, jshr_k, jand_255] <;> first | done | omega | assumption)) | (intros; simp (disch := omega) only [jst_eq, jst_ne, jst_ni, jst_o, jI_i, jcpy_out, w32_id, jdiv_nn, *] <;> first | done | omega) | (intros; simp (disch := omega) only [jst_eq, jst_ne, jst_ni, jst_o, jI_i, jcpy_out, w32_id, jdiv_nn] at * <;> first | done | omega | assumption) | (intros; first | rfl | (exfalso; omega) | ((repeat' apply And.intro) <;> first | assumption | rfl | omega | trivial))) -- o2 e1.2
    · skip
      try simp (disch := omega) only [jst_eq, jst_ne, jst_ni, jI_i, jcmp_lt, jcmp_gt, w32_id, jcpy_out, Sum.elim_inl, Sum.elim_inr, jt2, jt3, jt4, jt5, jt6, jt7, jt8] at c1
      refine OK_jb (vX14_expand_l38 (e := e) (t0 := t0) (d0 := d0) (o := o) (N0 := N0) (D := D) (u := u) (Q := fun x => Q x ∨ ∃ a b : Int, (0 ≤ a ∧ a < a2) ∧ (0 ≤ b ∧ b < 178) ∧ (isP e a ∧ o a = a) ∧ (isP e b ∧ o b = b) ∧ x ≠ -1 ∧ tgC e u a b = x) _ _ _ (by exact cuM_f hc (fun a s y => fr a s (by omega) (by omega))) (by (first | assumption | omega | ((try dsimp only [jt2, jt3, jt4]); first | omega | (simp (disch := omega) only [jst_eq, jst_ne, jst_ni, jst_o, jI_i, jcpy_out, w32_id, jdiv_nn, jshr_k, jand_255] <;> first | done | omega | assumption)) | (intros; simp (disch := omega) only [jst_eq, jst_ne, jst_ni, jst_o, jI_i, jcpy_out, w32_id, jdiv_nn, *] <;> first | done | omega) | (intros; simp (disch := omega) only [jst_eq, jst_ne, jst_ni, jst_o, jI_i, jcpy_out, w32_id, jdiv_nn] at * <;> first | done | omega | assumption) | (intros; first | rfl | (exfalso; omega) | ((repeat' apply And.intro) <;> first | assumption | rfl | omega | trivial)))) (by exact fun s s0 s1 => ⟨spM_f (gi s s0 s1).1 n8.2 (fun a x y => fr a x (by omega) (by omega)), by rw [fr _ _ (by omega) (by omega)]; exact (gi s s0 s1).2⟩) (by exact q1) (by exact hi) (by omega) (by (first | assumption | omega | ((try dsimp only [jt2, jt3, jt4]); first | omega | (simp (disch := omega) only [jst_eq, jst_ne, jst_ni, jst_o, jI_i, jcpy_out, w32_id, jdiv_nn, jshr_k, jand_255] <;> first | done | omega | assumption)) | (intros; simp (disch := omega) only [jst_eq, jst_ne, jst_ni, jst_o, jI_i, jcpy_out, w32_id, jdiv_nn, *] <;> first | done | omega) | (intros; simp (disch := omega) only [jst_eq, jst_ne, jst_ni, jst_o, jI_i, jcpy_out, w32_id, jdiv_nn] at * <;> first | done | omega | assumption) | (intros; first | rfl | (exfalso; omega) | ((repeat' apply And.intro) <;> first | assumption | rfl | omega | trivial))))) (fun o15 r1 => ?_)
      try dsimp only [Sum.elim_inl, Sum.elim_inr, jt2, jt3, jt4, jt5, jt6, jt7, jt8] at r1
      obtain ⟨ex1, fr1⟩ := r1
      try simp (disch := omega) only [jst_eq, jst_ne, jst_ni, jI_i, jcmp_lt, jcmp_gt, w32_id, jcpy_out, Sum.elim_inl, Sum.elim_inr, jt2, jt3, jt4, jt5, jt6, jt7, jt8] at ex1
      try simp (disch := omega) only [jst_eq, jst_ne, jst_ni, jI_i, jcmp_lt, jcmp_gt, w32_id, jcpy_out, Sum.elim_inl, Sum.elim_inr, jt2, jt3, jt4, jt5, jt6, jt7, jt8] at fr1
      unfold gX14_expand_j105_29
      refine OK_jlx (fun x17 ex17 => ?_)
      try simp (disch := omega) only [jst_eq, jst_ne, jst_ni, jI_i, jcmp_lt, jcmp_gt, w32_id, jcpy_out, Sum.elim_inl, Sum.elim_inr, jt2, jt3, jt4, jt5, jt6, jt7, jt8] at ex17
      refine OK_il ?_ ?_
      · try dsimp only [Sum.elim_inl, Sum.elim_inr, jt2, jt3, jt4, jt5, jt6, jt7, jt8]
        refine ⟨?_, ?_, ?_⟩
        · (first | assumption | omega | ((try dsimp only [jt2, jt3, jt4]); first | omega | (simp (disch := omega) only [jst_eq, jst_ne, jst_ni, jst_o, jI_i, jcpy_out, w32_id, jdiv_nn, jshr_k, jand_255] <;> first | done | omega | assumption)) | (intros; simp (disch := omega) only [jst_eq, jst_ne, jst_ni, jst_o, jI_i, jcpy_out, w32_id, jdiv_nn, *] <;> first | done | omega) | (intros; simp (disch := omega) only [jst_eq, jst_ne, jst_ni, jst_o, jI_i, jcpy_out, w32_id, jdiv_nn] at * <;> first | done | omega | assumption) | (intros; first | rfl | (exfalso; omega) | ((repeat' apply And.intro) <;> first | assumption | rfl | omega | trivial))) -- o10 e2i.1
        · (refine EXI_w (by assumption) (fun x hx => ?_); rcases hx with hx | ⟨a, b, b1, b2, b3, b4, b5, b6⟩; { exact Or.inl (Or.inl hx) }; { by_cases y : a = a2; { rw [y] at b3 b6; exact Or.inr ⟨b, b2, b3, b4, b5, b6⟩ }; { exact Or.inl (Or.inr ⟨a, b, ⟨b1.1, by omega⟩, b2, b3, b4, b5, b6⟩) } }) -- o11 e2i.2
        · (first | assumption | omega | ((try dsimp only [jt2, jt3, jt4]); first | omega | (simp (disch := omega) only [jst_eq, jst_ne, jst_ni, jst_o, jI_i, jcpy_out, w32_id, jdiv_nn, jshr_k, jand_255] <;> first | done | omega | assumption)) | (intros; simp (disch := omega) only [jst_eq, jst_ne, jst_ni, jst_o, jI_i, jcpy_out, w32_id, jdiv_nn, *] <;> first | done | omega) | (intros; simp (disch := omega) only [jst_eq, jst_ne, jst_ni, jst_o, jI_i, jcpy_out, w32_id, jdiv_nn] at * <;> first | done | omega | assumption) | (intros; first | rfl | (exfalso; omega) | ((repeat' apply And.intro) <;> first | assumption | rfl | omega | trivial))) -- o12 e2i.3
      · (first | assumption | omega | ((try dsimp only [jt2, jt3, jt4]); first | omega | (simp (disch := omega) only [jst_eq, jst_ne, jst_ni, jst_o, jI_i, jcpy_out, w32_id, jdiv_nn, jshr_k, jand_255] <;> first | done | omega | assumption)) | (intros; simp (disch := omega) only [jst_eq, jst_ne, jst_ni, jst_o, jI_i, jcpy_out, w32_id, jdiv_nn, *] <;> first | done | omega) | (intros; simp (disch := omega) only [jst_eq, jst_ne, jst_ni, jst_o, jI_i, jcpy_out, w32_id, jdiv_nn] at * <;> first | done | omega | assumption) | (intros; first | rfl | (exfalso; omega) | ((repeat' apply And.intro) <;> first | assumption | rfl | omega | trivial))) -- o13 e2m
  · try dsimp only [Sum.elim_inl, Sum.elim_inr, jt2, jt3, jt4, jt5, jt6, jt7, jt8]
    refine ⟨?_, ?_, ?_⟩
    · (first | assumption | omega | ((try dsimp only [jt2, jt3, jt4]); first | omega | (simp (disch := omega) only [jst_eq, jst_ne, jst_ni, jst_o, jI_i, jcpy_out, w32_id, jdiv_nn, jshr_k, jand_255] <;> first | done | omega | assumption)) | (intros; simp (disch := omega) only [jst_eq, jst_ne, jst_ni, jst_o, jI_i, jcpy_out, w32_id, jdiv_nn, *] <;> first | done | omega) | (intros; simp (disch := omega) only [jst_eq, jst_ne, jst_ni, jst_o, jI_i, jcpy_out, w32_id, jdiv_nn] at * <;> first | done | omega | assumption) | (intros; first | rfl | (exfalso; omega) | ((repeat' apply And.intro) <;> first | assumption | rfl | omega | trivial))) -- o14 init.1
    · (rw [h2]; refine EXI_w ex ?_; rintro x (hx | ⟨a, b, n1, _⟩); { exact hx }; { omega }) -- o15 init.2
    · exact fun _ _ _ _ => rfl -- o16 init.3
theorem vX14_expand (a1 : Int) {h : AH} {e : CE} {t0 d0 : Int → Int} {N0 D : Int} {u : Nat} {Q : Int → Prop} (hc : cuM h e) (hv : vCE e) (gi : GRI h e 178) (ex : EXI h e t0 d0 N0 D Q) (hi : (0 ≤ a1 ∧ a1 < N0) ∧ t0 a1 = u ∧ d0 a1 = D ∧ 0 ≤ D) : OK (gX14_expand a1 h) (fun h' => (EXI h' e t0 d0 N0 D (fun x => Q x ∨ ∃ m ∈ mvL e u, m.2 = x)) ∧ (∀ a x, ¬ (a = 454 ∧ x = 114) → ¬ ((a = 821 ∨ a = 822 ∨ a = 828) ∧ 0 ≤ x) → h' a x = h a x)) := by
  have n8 := hv.1
  unfold gX14_expand
  refine OK_jb (vX14_expand_l2 (e := e) (t0 := t0) (d0 := d0) (N0 := N0) (D := D) (u := u) (Q := Q) _ _ (by (first | assumption | omega | ((try dsimp only [jt2, jt3, jt4]); first | omega | (simp (disch := omega) only [jst_eq, jst_ne, jst_ni, jst_o, jI_i, jcpy_out, w32_id, jdiv_nn, jshr_k, jand_255] <;> first | done | omega | assumption)) | (intros; simp (disch := omega) only [jst_eq, jst_ne, jst_ni, jst_o, jI_i, jcpy_out, w32_id, jdiv_nn, *] <;> first | done | omega) | (intros; simp (disch := omega) only [jst_eq, jst_ne, jst_ni, jst_o, jI_i, jcpy_out, w32_id, jdiv_nn] at * <;> first | done | omega | assumption) | (intros; first | rfl | (exfalso; omega) | ((repeat' apply And.intro) <;> first | assumption | rfl | omega | trivial)))) (by (first | assumption | omega | ((try dsimp only [jt2, jt3, jt4]); first | omega | (simp (disch := omega) only [jst_eq, jst_ne, jst_ni, jst_o, jI_i, jcpy_out, w32_id, jdiv_nn, jshr_k, jand_255] <;> first | done | omega | assumption)) | (intros; simp (disch := omega) only [jst_eq, jst_ne, jst_ni, jst_o, jI_i, jcpy_out, w32_id, jdiv_nn, *] <;> first | done | omega) | (intros; simp (disch := omega) only [jst_eq, jst_ne, jst_ni, jst_o, jI_i, jcpy_out, w32_id, jdiv_nn] at * <;> first | done | omega | assumption) | (intros; first | rfl | (exfalso; omega) | ((repeat' apply And.intro) <;> first | assumption | rfl | omega | trivial)))) (by exact ex) (by exact hi) (by (first | assumption | omega | ((try dsimp only [jt2, jt3, jt4]); first | omega | (simp (disch := omega) only [jst_eq, jst_ne, jst_ni, jst_o, jI_i, jcpy_out, w32_id, jdiv_nn, jshr_k, jand_255] <;> first | done | omega | assumption)) | (intros; simp (disch := omega) only [jst_eq, jst_ne, jst_ni, jst_o, jI_i, jcpy_out, w32_id, jdiv_nn, *] <;> first | done | omega) | (intros; simp (disch := omega) only [jst_eq, jst_ne, jst_ni, jst_o, jI_i, jcpy_out, w32_id, jdiv_nn] at * <;> first | done | omega | assumption) | (intros; first | rfl | (exfalso; omega) | ((repeat' apply And.intro) <;> first | assumption | rfl | omega | trivial))))) (fun o1 r1 => ?_)
  try dsimp only [Sum.elim_inl, Sum.elim_inr, jt2, jt3, jt4, jt5, jt6, jt7, jt8] at r1
  obtain ⟨ex1, fr1⟩ := r1
  try simp (disch := omega) only [jst_eq, jst_ne, jst_ni, jI_i, jcmp_lt, jcmp_gt, w32_id, jcpy_out, Sum.elim_inl, Sum.elim_inr, jt2, jt3, jt4, jt5, jt6, jt7, jt8] at ex1
  try simp (disch := omega) only [jst_eq, jst_ne, jst_ni, jI_i, jcmp_lt, jcmp_gt, w32_id, jcpy_out, Sum.elim_inl, Sum.elim_inr, jt2, jt3, jt4, jt5, jt6, jt7, jt8] at fr1
  refine OK_jb (vX14_expand_l29 (e := e) (t0 := t0) (d0 := d0) (o := h 825) (N0 := N0) (D := D) (u := u) (Q := fun x => Q x ∨ ∃ n : Int, 1 ≤ n ∧ n ≤ 3 ∧ x ≠ -1 ∧ tgL e u n = x) _ _ (by exact cuM_f hc (fun a s y => fr1 a s (by omega) (by omega))) (by (first | assumption | omega | ((try dsimp only [jt2, jt3, jt4]); first | omega | (simp (disch := omega) only [jst_eq, jst_ne, jst_ni, jst_o, jI_i, jcpy_out, w32_id, jdiv_nn, jshr_k, jand_255] <;> first | done | omega | assumption)) | (intros; simp (disch := omega) only [jst_eq, jst_ne, jst_ni, jst_o, jI_i, jcpy_out, w32_id, jdiv_nn, *] <;> first | done | omega) | (intros; simp (disch := omega) only [jst_eq, jst_ne, jst_ni, jst_o, jI_i, jcpy_out, w32_id, jdiv_nn] at * <;> first | done | omega | assumption) | (intros; first | rfl | (exfalso; omega) | ((repeat' apply And.intro) <;> first | assumption | rfl | omega | trivial)))) (by exact fun s s0 s1 => ⟨spM_f (gi.1 s s0 s1) n8.2 (fun a x y => fr1 a x (by omega) (by omega)), fr1 _ _ (by omega) (by omega)⟩) (by assumption) (by exact hi) (by (first | assumption | omega | ((try dsimp only [jt2, jt3, jt4]); first | omega | (simp (disch := omega) only [jst_eq, jst_ne, jst_ni, jst_o, jI_i, jcpy_out, w32_id, jdiv_nn, jshr_k, jand_255] <;> first | done | omega | assumption)) | (intros; simp (disch := omega) only [jst_eq, jst_ne, jst_ni, jst_o, jI_i, jcpy_out, w32_id, jdiv_nn, *] <;> first | done | omega) | (intros; simp (disch := omega) only [jst_eq, jst_ne, jst_ni, jst_o, jI_i, jcpy_out, w32_id, jdiv_nn] at * <;> first | done | omega | assumption) | (intros; first | rfl | (exfalso; omega) | ((repeat' apply And.intro) <;> first | assumption | rfl | omega | trivial))))) (fun o3 r2 => ?_)
  try dsimp only [Sum.elim_inl, Sum.elim_inr, jt2, jt3, jt4, jt5, jt6, jt7, jt8] at r2
  obtain ⟨ex2, fr2⟩ := r2
  try simp (disch := omega) only [jst_eq, jst_ne, jst_ni, jI_i, jcmp_lt, jcmp_gt, w32_id, jcpy_out, Sum.elim_inl, Sum.elim_inr, jt2, jt3, jt4, jt5, jt6, jt7, jt8] at ex2
  try simp (disch := omega) only [jst_eq, jst_ne, jst_ni, jI_i, jcmp_lt, jcmp_gt, w32_id, jcpy_out, Sum.elim_inl, Sum.elim_inr, jt2, jt3, jt4, jt5, jt6, jt7, jt8] at fr2
  refine OK_some ?_
  try dsimp only [Sum.elim_inl, Sum.elim_inr, jt2, jt3, jt4, jt5, jt6, jt7, jt8]
  try dsimp only [Sum.elim_inl, Sum.elim_inr, jt2, jt3, jt4, jt5, jt6, jt7, jt8]
  refine ⟨?_, ?_⟩
  · (refine EXI_w (by assumption) (fun x hx => ?_); rcases hx with hx | ⟨m, m1, m2⟩; { exact Or.inl (Or.inl hx) }; { rcases mvL_m.mp m1 with ⟨n, n1, n2, n3, n4⟩ | ⟨a, b, a1', b1', a2, b2, g, n4⟩; { rw [n4] at m2; have m3 : tgL e u n = x := m2; exact Or.inl (Or.inr ⟨n, by omega, by omega, by rw [← m3]; exact n3, m3⟩) }; { rw [n4] at m2; have m3 : tgC e u a b = x := m2; have ga := gi.2.1 a (by omega) (by omega) a2; have gb := gi.2.1 b (by omega) (by omega) b2; refine Or.inr ⟨h 825 a, h 825 b, ⟨ga.1.1, by omega⟩, ⟨gb.1.1, by omega⟩, ⟨ga.2.1, ga.2.2.2⟩, ⟨gb.2.1, gb.2.2.2⟩, by rw [← m3]; exact g, ?_⟩; rw [← m3]; exact tgC_se hv ga.2.2.1 gb.2.2.1 } }) -- o12 e1.1
  · exact fun a x y1 y2 => by rw [fr2 a x y1 y2]; exact fr1 a x y1 y2 -- o13 e1.2

