/-! m: a node is weighed: words -/
theorem wL_in {e : CE} {u : Nat} {k : Nat} (l : k ≤ 3) {m : Int × Int} (h : m ∈ wL e u k) : m ∈ mvL e u := mvL_m.mpr (by
  obtain ⟨n, n1, n2, n3⟩ := wL_m.mp h
  exact Or.inl ⟨n, n1, by omega, n3⟩)
theorem FND_j {h : AH} {e : CE} {t d : Int → Int} {N i j : Int} {u : Nat} (f : FND h e t d N) (i0 : 0 ≤ i ∧ i < N) (tu : t i = u) (di : d i < 4) {m : Int × Int} (hm : m ∈ mvL e u) (j0 : 0 ≤ j ∧ j < N) (tj : t j = m.2) : d j ≤ d i + 1 := by
  obtain ⟨f1, f2, f3, f4, f5⟩ := f
  obtain ⟨q, q0, q1, q2, q3⟩ := f5 i i0.1 i0.2 di m (by rw [tu, show ((u : Int)).toNat = u by omega]; exact hm)
  have e9 : q = j := by
    rcases Int.lt_trichotomy q j with z | z | z
    · exact absurd (q2.trans tj.symm) (f1.2.2.2.1 q j q0 z j0.2)
    · exact z
    · exact absurd (tj.trans q2.symm) (f1.2.2.2.1 j q j0.1 z q1)
  rw [← e9]
  exact q3
theorem FND_f {h h' : AH} {e : CE} {t d : Int → Int} {N : Int} (c : FND h e t d N) (f : ∀ a x, (a = 454 ∧ x = 114) ∨ (a = 821 ∧ 0 ≤ x) ∨ a = 822 → h' a x = h a x) : FND h' e t d N := ⟨NDT_f c.1 f, c.2⟩
theorem cnP_3 (e : CE) {k : Nat} (l : k ≤ 3) (w : Int) : 0 ≤ cnP e k w ∧ cnP e k w ≤ 32000000000000 := by
  refine ⟨(cnP_b e k w).1, Int.le_trans (cnP_b e k w).2 ?_⟩
  have h : k = 0 ∨ k = 1 ∨ k = 2 ∨ k = 3 := by omega
  rcases h with rfl | rfl | rfl | rfl <;> decide
theorem vX14_weighNode_l23 (i1 : Int) (i2 : Int) (i3 : Int) (a40 : Int) {h0 : AH} {e : CE} {t d : Int → Int} {N : Int} {u k : Nat} (hc : cuM h0 e) (hv : vCE e) (fn : FND h0 e t d N) (hi : 0 ≤ i1 ∧ i1 < N ∧ t i1 = u) (hk : i2 = (k : Int) + 1 ∧ k + 1 ≤ 4) (wy : wyM (h0 (830 + k)) e t d N k) (dr : drM (h0 (836 + k)) e t d N k) (z : h0 (830 + i2) i1 = 0 ∧ h0 (836 + i2) i1 = 1000000) (h4 : a40 = 1) : OK (gX14_weighNode_l23 i1 i2 i3 a40 h0) (fun h' => (d i1 + i2 ≤ 4 → h' (830 + i2) i1 = smL (cnP e k) (wL e u 3) ∧ mnI (chP e k) (fun m => m ∈ mvL e u) (fun m => m ∈ wL e u 3) (h' (836 + i2) i1)) ∧ (∀ a x, ¬ (a = 828 ∧ 0 ≤ x) → ¬ ((a = 830 + i2 ∨ a = 836 + i2) ∧ x = i1) → h' a x = h0 a x)) := by
  have n8 := hv.1
  have N4 := fn.2.1
  unfold gX14_weighNode_l23
  refine OK_jit (I := (fun (s : Int × AH) => jt2 s fun a4 h => (1 ≤ a4 ∧ a4 ≤ 4) ∧ (d i1 + i2 ≤ 4 → h (830 + i2) i1 = smL (cnP e k) (wL e u (a4 - 1).toNat) ∧ mnI (chP e k) (fun m => m ∈ mvL e u) (fun m => m ∈ wL e u (a4 - 1).toNat) (h (836 + i2) i1)) ∧ (∀ a x, ¬ (a = 828 ∧ 0 ≤ x) → ¬ ((a = 830 + i2 ∨ a = 836 + i2) ∧ x = i1) → h a x = h0 a x))) (m := (fun (s : Int × AH) => jt2 s fun a4 h => (4 - a4).toNat)) ?_ ?_
  · intro s hs
    obtain ⟨a4, h⟩ := s
    dsimp only [Sum.elim_inl, Sum.elim_inr, jt2, jt3, jt4, jt5, jt6, jt7, jt8] at hs
    obtain ⟨q0, q1, fr⟩ := hs
    unfold gX14_weighNode_b23
    refine OK_jt2 ?_
    have HC : cuM h e := cuM_f hc (fun a s y => fr a s (by omega) (by omega))
    have FN : FND h e t d N := FND_f fn (fun a s y => fr a s (by omega) (by omega))
    obtain ⟨u', u1, u2, u3⟩ := FN.1.2.2.1 i1 hi.1 hi.2.1
    have ue : u' = u := by omega
    rw [ue] at u2 u3
    have ek : (((a4 - 1).toNat : Nat) : Int) + 1 = a4 := by omega
    refine OK_if (fun c1 => ?_) (fun c1 => ?_)
    · skip
      try simp (disch := omega) only [jst_eq, jst_ne, jst_ni, jI_i, jcmp_lt, jcmp_gt, w32_id, jcpy_out, Sum.elim_inl, Sum.elim_inr, jt2, jt3, jt4, jt5, jt6, jt7, jt8] at c1
      refine OK_ir ?_
      try dsimp only [Sum.elim_inl, Sum.elim_inr, jt2, jt3, jt4, jt5, jt6, jt7, jt8]
      refine ⟨?_, ?_⟩
      · (rw [show (a4 - 1).toNat = 3 by omega] at q1; exact q1) -- o1 e1.1
      · (first | assumption | omega | ((try dsimp only [jt2, jt3, jt4]); first | omega | (simp (disch := omega) only [jst_eq, jst_ne, jst_ni, jst_o, jI_i, jcpy_out, w32_id, jdiv_nn, jshr_k, jand_255] <;> first | done | omega | assumption)) | (intros; simp (disch := omega) only [jst_eq, jst_ne, jst_ni, jst_o, jI_i, jcpy_out, w32_id, jdiv_nn, *] <;> first | done | omega) | (intros; simp (disch := omega) only [jst_eq, jst_ne, jst_ni, jst_o, jI_i, jcpy_out, w32_id, jdiv_nn] at * <;> first | done | omega | assumption) | (intros; first | rfl | (exfalso; omega) | ((repeat' apply And.intro) <;> first | assumption | rfl | omega | trivial))) -- o2 e1.2
    · skip
      try simp (disch := omega) only [jst_eq, jst_ne, jst_ni, jI_i, jcmp_lt, jcmp_gt, w32_id, jcpy_out, Sum.elim_inl, Sum.elim_inr, jt2, jt3, jt4, jt5, jt6, jt7, jt8] at c1
      refine OK_jb2 (vX14_says (e := e) (u := u) _ _ (by exact HC) (by (first | assumption | omega | ((try dsimp only [jt2, jt3, jt4]); first | omega | (simp (disch := omega) only [jst_eq, jst_ne, jst_ni, jst_o, jI_i, jcpy_out, w32_id, jdiv_nn, jshr_k, jand_255] <;> first | done | omega | assumption)) | (intros; simp (disch := omega) only [jst_eq, jst_ne, jst_ni, jst_o, jI_i, jcpy_out, w32_id, jdiv_nn, *] <;> first | done | omega) | (intros; simp (disch := omega) only [jst_eq, jst_ne, jst_ni, jst_o, jI_i, jcpy_out, w32_id, jdiv_nn] at * <;> first | done | omega | assumption) | (intros; first | rfl | (exfalso; omega) | ((repeat' apply And.intro) <;> first | assumption | rfl | omega | trivial)))) (by exact u3) (by omega)) (fun v9 h10 r1 => ?_)
      try dsimp only [Sum.elim_inl, Sum.elim_inr, jt2, jt3, jt4, jt5, jt6, jt7, jt8] at r1
      obtain ⟨sa1, fr1⟩ := r1
      try simp (disch := omega) only [jst_eq, jst_ne, jst_ni, jI_i, jcmp_lt, jcmp_gt, w32_id, jcpy_out, Sum.elim_inl, Sum.elim_inr, jt2, jt3, jt4, jt5, jt6, jt7, jt8] at sa1
      try simp (disch := omega) only [jst_eq, jst_ne, jst_ni, jI_i, jcmp_lt, jcmp_gt, w32_id, jcpy_out, Sum.elim_inl, Sum.elim_inr, jt2, jt3, jt4, jt5, jt6, jt7, jt8] at fr1
      have F8 : ∀ a x, ¬ (a = 828 ∧ 0 ≤ x) → h10 a x = h a x := by assumption
      refine OK_if (fun c2 => ?_) (fun c2 => ?_)
      · skip
        try simp (disch := omega) only [jst_eq, jst_ne, jst_ni, jI_i, jcmp_lt, jcmp_gt, w32_id, jcpy_out, Sum.elim_inl, Sum.elim_inr, jt2, jt3, jt4, jt5, jt6, jt7, jt8] at c2
        unfold gX14_weighNode_j51_23
        refine OK_jlx (fun x14 ex14 => ?_)
        try simp (disch := omega) only [jst_eq, jst_ne, jst_ni, jI_i, jcmp_lt, jcmp_gt, w32_id, jcpy_out, Sum.elim_inl, Sum.elim_inr, jt2, jt3, jt4, jt5, jt6, jt7, jt8] at ex14
        refine OK_il ?_ ?_
        · try dsimp only [Sum.elim_inl, Sum.elim_inr, jt2, jt3, jt4, jt5, jt6, jt7, jt8]
          refine ⟨?_, ?_, ?_⟩
          · (first | assumption | omega | ((try dsimp only [jt2, jt3, jt4]); first | omega | (simp (disch := omega) only [jst_eq, jst_ne, jst_ni, jst_o, jI_i, jcpy_out, w32_id, jdiv_nn, jshr_k, jand_255] <;> first | done | omega | assumption)) | (intros; simp (disch := omega) only [jst_eq, jst_ne, jst_ni, jst_o, jI_i, jcpy_out, w32_id, jdiv_nn, *] <;> first | done | omega) | (intros; simp (disch := omega) only [jst_eq, jst_ne, jst_ni, jst_o, jI_i, jcpy_out, w32_id, jdiv_nn] at * <;> first | done | omega | assumption) | (intros; first | rfl | (exfalso; omega) | ((repeat' apply And.intro) <;> first | assumption | rfl | omega | trivial))) -- o7 e2i.1
          · (have z0 : tgL e u a4 = -1 := (by rcases sa1 with z | z; { have := z.1; omega }; { exact z.2 }); rw [show (x14 - 1).toNat = (a4 - 1).toNat + 1 by omega, wL_s, ek, if_pos z0, List.append_nil, F8 _ _ (by omega), F8 _ _ (by omega)]; exact q1) -- o8 e2i.2
          · exact fun a x y1 y2 => by rw [F8 a x y1]; exact fr a x y1 y2 -- o9 e2i.3
        · (first | assumption | omega | ((try dsimp only [jt2, jt3, jt4]); first | omega | (simp (disch := omega) only [jst_eq, jst_ne, jst_ni, jst_o, jI_i, jcpy_out, w32_id, jdiv_nn, jshr_k, jand_255] <;> first | done | omega | assumption)) | (intros; simp (disch := omega) only [jst_eq, jst_ne, jst_ni, jst_o, jI_i, jcpy_out, w32_id, jdiv_nn, *] <;> first | done | omega) | (intros; simp (disch := omega) only [jst_eq, jst_ne, jst_ni, jst_o, jI_i, jcpy_out, w32_id, jdiv_nn] at * <;> first | done | omega | assumption) | (intros; first | rfl | (exfalso; omega) | ((repeat' apply And.intro) <;> first | assumption | rfl | omega | trivial))) -- o10 e2m
      · skip
        try simp (disch := omega) only [jst_eq, jst_ne, jst_ni, jI_i, jcmp_lt, jcmp_gt, w32_id, jcpy_out, Sum.elim_inl, Sum.elim_inr, jt2, jt3, jt4, jt5, jt6, jt7, jt8] at c2
        obtain ⟨w, w1, w2, w3⟩ : ∃ w : Nat, tgL e u a4 = w ∧ stU e w ∧ rwQ h10 e w := by { rcases sa1 with z | z; { exact z.2 }; { exact absurd z.1 c2 } }
        have FN8 : FND h10 e t d N := FND_f FN (fun a s y => F8 a s (by omega))
        refine OK_jb (vX14_add (e := e) (t := t) (N := N) (w := w) _ _ _ _ _ (by (rw [F8 _ _ (by omega)]; exact ⟨HC.1, by omega, by omega⟩)) (by exact w3) (by (first | assumption | omega | ((try dsimp only [jt2, jt3, jt4]); first | omega | (simp (disch := omega) only [jst_eq, jst_ne, jst_ni, jst_o, jI_i, jcpy_out, w32_id, jdiv_nn, jshr_k, jand_255] <;> first | done | omega | assumption)) | (intros; simp (disch := omega) only [jst_eq, jst_ne, jst_ni, jst_o, jI_i, jcpy_out, w32_id, jdiv_nn, *] <;> first | done | omega) | (intros; simp (disch := omega) only [jst_eq, jst_ne, jst_ni, jst_o, jI_i, jcpy_out, w32_id, jdiv_nn] at * <;> first | done | omega | assumption) | (intros; first | rfl | (exfalso; omega) | ((repeat' apply And.intro) <;> first | assumption | rfl | omega | trivial)))) (by exact FN8.1) (by omega)) (fun h13 r2 => ?_)
        try dsimp only [Sum.elim_inl, Sum.elim_inr, jt2, jt3, jt4, jt5, jt6, jt7, jt8] at r2
        have ad2 := r2
        clear r2
        try simp (disch := omega) only [jst_eq, jst_ne, jst_ni, jI_i, jcmp_lt, jcmp_gt, w32_id, jcpy_out, Sum.elim_inl, Sum.elim_inr, jt2, jt3, jt4, jt5, jt6, jt7, jt8] at ad2
        unfold gX14_weighNode_j51_23
        refine OK_jlx (fun x14 ex14 => ?_)
        try simp (disch := omega) only [jst_eq, jst_ne, jst_ni, jI_i, jcmp_lt, jcmp_gt, w32_id, jcpy_out, Sum.elim_inl, Sum.elim_inr, jt2, jt3, jt4, jt5, jt6, jt7, jt8] at ex14
        refine OK_il ?_ ?_
        · try dsimp only [Sum.elim_inl, Sum.elim_inr, jt2, jt3, jt4, jt5, jt6, jt7, jt8]
          refine ⟨?_, ?_, ?_⟩
          · (first | assumption | omega | ((try dsimp only [jt2, jt3, jt4]); first | omega | (simp (disch := omega) only [jst_eq, jst_ne, jst_ni, jst_o, jI_i, jcpy_out, w32_id, jdiv_nn, jshr_k, jand_255] <;> first | done | omega | assumption)) | (intros; simp (disch := omega) only [jst_eq, jst_ne, jst_ni, jst_o, jI_i, jcpy_out, w32_id, jdiv_nn, *] <;> first | done | omega) | (intros; simp (disch := omega) only [jst_eq, jst_ne, jst_ni, jst_o, jI_i, jcpy_out, w32_id, jdiv_nn] at * <;> first | done | omega | assumption) | (intros; first | rfl | (exfalso; omega) | ((repeat' apply And.intro) <;> first | assumption | rfl | omega | trivial))) -- o16 e3i.1
          · (intro dl; have Q := q1 dl; have M : (2 * a4, (w : Int)) ∈ mvL e u := mvL_m.mpr (Or.inl ⟨a4.toNat, by omega, by omega, by rw [show ((a4.toNat : Nat) : Int) = a4 by omega, w1]; omega, by rw [show ((a4.toNat : Nat) : Int) = a4 by omega, w1]⟩); rcases ad2 with ⟨j, j1, j2⟩ | j2; { have dj := FND_j FN ⟨hi.1, hi.2.1⟩ hi.2.2 (by omega) M ⟨j1.1, j1.2.1⟩ j1.2.2; have WJ : h10 (830 + (i2 - 1)) j = cnP e k w := (by rw [show 830 + (i2 - 1) = 830 + (k : Int) by omega, F8 _ _ (by omega), fr _ _ (by omega) (by omega), wy j j1.1 j1.2.1 (by omega), j1.2.2]); have DJ : h10 (836 + (i2 - 1)) j = chP e k w := (by rw [show 836 + (i2 - 1) = 836 + (k : Int) by omega, F8 _ _ (by omega), fr _ _ (by omega) (by omega), dr j j1.1 j1.2.1 (by omega), j1.2.2]); have cb := cnP_3 e (k := k) (by omega) w; have hb := chP_b hv k w; have sb := smL_b (g := cnP e k) (B := 32000000000000) (by decide) (wL e u (a4 - 1).toNat) (fun m _ => cnP_3 e (by omega) m.2); have wl := wL_l (e := e) (u := u) (a4 - 1).toNat; rw [j2, show (x14 - 1).toNat = (a4 - 1).toNat + 1 by omega, wL_s, ek, if_neg (by rw [w1]; omega), w1]; refine ⟨?_, ?_⟩; { rw [jst_ne (by omega), jst_eq, WJ, F8 _ _ (by omega), Int.one_mul, Q.1, w64_id (x := cnP e k w) (by omega) (by omega), w64_id (by omega) (by omega), smL_a]; show _ = _ + (cnP e k w + 0); omega }; { rw [jst_eq, F8 _ _ (by omega), DJ, w32_id (by omega) (by omega)]; exact mnI_s Q.2 M (fun m hm => by rcases List.mem_append.mp hm with y | y; { exact Or.inl y }; { exact Or.inr (List.mem_singleton.mp y) }) } }; { exfalso; obtain ⟨j, j0, j1, j3, _⟩ := FN.2.2.2.2 i1 hi.1 hi.2.1 (by omega) _ (by rw [hi.2.2, show ((u : Int)).toNat = u by omega]; exact M); exact j2.2 j j0 j1 j3 }) -- o17 e3i.2
          · (rcases ad2 with ⟨j, j1, j2⟩ | j2; { rw [j2]; exact fun a x y1 y2 => by rw [jst_o (by omega), jst_o (by omega), F8 a x y1]; exact fr a x y1 y2 }; { rw [j2.1]; exact fun a x y1 y2 => by rw [F8 a x y1]; exact fr a x y1 y2 }) -- o18 e3i.3
        · (first | assumption | omega | ((try dsimp only [jt2, jt3, jt4]); first | omega | (simp (disch := omega) only [jst_eq, jst_ne, jst_ni, jst_o, jI_i, jcpy_out, w32_id, jdiv_nn, jshr_k, jand_255] <;> first | done | omega | assumption)) | (intros; simp (disch := omega) only [jst_eq, jst_ne, jst_ni, jst_o, jI_i, jcpy_out, w32_id, jdiv_nn, *] <;> first | done | omega) | (intros; simp (disch := omega) only [jst_eq, jst_ne, jst_ni, jst_o, jI_i, jcpy_out, w32_id, jdiv_nn] at * <;> first | done | omega | assumption) | (intros; first | rfl | (exfalso; omega) | ((repeat' apply And.intro) <;> first | assumption | rfl | omega | trivial))) -- o19 e3m
  · try dsimp only [Sum.elim_inl, Sum.elim_inr, jt2, jt3, jt4, jt5, jt6, jt7, jt8]
    refine ⟨?_, ?_, ?_⟩
    · (first | assumption | omega | ((try dsimp only [jt2, jt3, jt4]); first | omega | (simp (disch := omega) only [jst_eq, jst_ne, jst_ni, jst_o, jI_i, jcpy_out, w32_id, jdiv_nn, jshr_k, jand_255] <;> first | done | omega | assumption)) | (intros; simp (disch := omega) only [jst_eq, jst_ne, jst_ni, jst_o, jI_i, jcpy_out, w32_id, jdiv_nn, *] <;> first | done | omega) | (intros; simp (disch := omega) only [jst_eq, jst_ne, jst_ni, jst_o, jI_i, jcpy_out, w32_id, jdiv_nn] at * <;> first | done | omega | assumption) | (intros; first | rfl | (exfalso; omega) | ((repeat' apply And.intro) <;> first | assumption | rfl | omega | trivial))) -- o20 init.1
    · (rw [h4]; exact fun _ => ⟨z.1, by rw [z.2]; exact Int.le_refl _, (fun m hm => by cases hm), Or.inl z.2⟩) -- o21 init.2
    · exact fun _ _ _ _ => rfl -- o22 init.3

