/-! m: all nodes -/
theorem GRI_f {h h' : AH} {e : CE} {n : Int} (g : GRI h e n) (e8 : e.1 ≤ 8) (f : ∀ a x, 823 ≤ a → a ≤ 827 → h' a x = h a x) : GRI h' e n := by
  have e5 : h' 825 = h 825 := funext fun x => f _ _ (by omega) (by omega)
  refine ⟨fun s s0 s1 => spM_f (g.1 s s0 s1) e8 (fun a x q => f a x (by omega) (by omega)), fun s s0 s1 => by rw [e5]; exact g.2.1 s s0 s1, fun t t0 t1 p q => ?_⟩
  rw [e5] at q ⊢
  rw [f 826 t (by omega) (by omega), f 827 t (by omega) (by omega)]
  exact g.2.2 t t0 t1 p q
/-- levels so far -/
def LVM (h : AH) (e : CE) (a j : Int) (t d : Int → Int) (N : Int) : Prop := NDT h e t N ∧ (1 ≤ N ∧ t 0 = 0 ∧ d 0 = 0) ∧ (∀ k, 0 ≤ k → k < N → (0 ≤ d k ∧ d k ≤ j) ∧ rcP e (d k).toNat (t k)) ∧ (0 ≤ a ∧ a ≤ N) ∧ (∀ k, a ≤ k → k < N → d k = j) ∧ (N = 401 ∨ ∀ k, 0 ≤ k → k < a → ∀ m ∈ mvL e (t k).toNat, ∃ i, 0 ≤ i ∧ i < N ∧ t i = m.2 ∧ d i ≤ d k + 1)
def FND (h : AH) (e : CE) (t d : Int → Int) (N : Int) : Prop := NDT h e t N ∧ (1 ≤ N ∧ N ≤ 400) ∧ (t 0 = 0 ∧ d 0 = 0) ∧ (∀ k, 0 ≤ k → k < N → (0 ≤ d k ∧ d k ≤ 4) ∧ rcP e (d k).toNat (t k)) ∧ ∀ k, 0 ≤ k → k < N → d k < 4 → ∀ m ∈ mvL e (t k).toNat, ∃ i, 0 ≤ i ∧ i < N ∧ t i = m.2 ∧ d i ≤ d k + 1
theorem vX14_makeNodes_l2 (a10 : Int) {h0 : AH} (h0' : a10 = 0) : OK (gX14_makeNodes_l2 a10 h0) (fun h' => (∀ s, 0 ≤ s → s < 1024 → h' 822 s = 0) ∧ (∀ a x, ¬ (a = 822 ∧ 0 ≤ x) → h' a x = h0 a x)) := by
  unfold gX14_makeNodes_l2
  refine OK_jit (I := (fun (s : Int × AH) => jt2 s fun a1 h => (0 ≤ a1 ∧ a1 ≤ 1024) ∧ (∀ s, 0 ≤ s → s < a1 → h 822 s = 0) ∧ (∀ a x, ¬ (a = 822 ∧ 0 ≤ x) → h a x = h0 a x))) (m := (fun (s : Int × AH) => jt2 s fun a1 h => (1024 - a1).toNat)) ?_ ?_
  · intro s hs
    obtain ⟨a1, h⟩ := s
    dsimp only [Sum.elim_inl, Sum.elim_inr, jt2, jt3, jt4, jt5, jt6, jt7, jt8] at hs
    obtain ⟨q0, q1, fr⟩ := hs
    unfold gX14_makeNodes_b2
    refine OK_jt2 ?_
    refine OK_if (fun c1 => ?_) (fun c1 => ?_)
    · skip
      try simp (disch := omega) only [jst_eq, jst_ne, jst_ni, jI_i, jcmp_lt, jcmp_gt, w32_id, jcpy_out, Sum.elim_inl, Sum.elim_inr, jt2, jt3, jt4, jt5, jt6, jt7, jt8] at c1
      refine OK_ir ?_
      try dsimp only [Sum.elim_inl, Sum.elim_inr, jt2, jt3, jt4, jt5, jt6, jt7, jt8]
      refine ⟨?_, ?_⟩
      · exact fun s s0 s1 => q1 s s0 (by omega) -- o1 e1.1
      · (first | assumption | omega | ((try dsimp only [jt2, jt3, jt4]); first | omega | (simp (disch := omega) only [jst_eq, jst_ne, jst_ni, jst_o, jI_i, jcpy_out, w32_id, jdiv_nn, jshr_k, jand_255] <;> first | done | omega | assumption)) | (intros; simp (disch := omega) only [jst_eq, jst_ne, jst_ni, jst_o, jI_i, jcpy_out, w32_id, jdiv_nn, *] <;> first | done | omega) | (intros; simp (disch := omega) only [jst_eq, jst_ne, jst_ni, jst_o, jI_i, jcpy_out, w32_id, jdiv_nn] at * <;> first | done | omega | assumption) | (intros; first | rfl | (exfalso; omega) | ((repeat' apply And.intro) <;> first | assumption | rfl | omega | trivial))) -- o2 e1.2
    · skip
      try simp (disch := omega) only [jst_eq, jst_ne, jst_ni, jI_i, jcmp_lt, jcmp_gt, w32_id, jcpy_out, Sum.elim_inl, Sum.elim_inr, jt2, jt3, jt4, jt5, jt6, jt7, jt8] at c1
      refine OK_jg (by (first | assumption | omega | ((try dsimp only [jt2, jt3, jt4]); first | omega | (simp (disch := omega) only [jst_eq, jst_ne, jst_ni, jst_o, jI_i, jcpy_out, w32_id, jdiv_nn, jshr_k, jand_255] <;> first | done | omega | assumption)) | (intros; simp (disch := omega) only [jst_eq, jst_ne, jst_ni, jst_o, jI_i, jcpy_out, w32_id, jdiv_nn, *] <;> first | done | omega) | (intros; simp (disch := omega) only [jst_eq, jst_ne, jst_ni, jst_o, jI_i, jcpy_out, w32_id, jdiv_nn] at * <;> first | done | omega | assumption) | (intros; first | rfl | (exfalso; omega) | ((repeat' apply And.intro) <;> first | assumption | rfl | omega | trivial)))) ?_ -- o3
      refine OK_jl ?_
      refine OK_jlx (fun x16 ex16 => ?_)
      try simp (disch := omega) only [jst_eq, jst_ne, jst_ni, jI_i, jcmp_lt, jcmp_gt, w32_id, jcpy_out, Sum.elim_inl, Sum.elim_inr, jt2, jt3, jt4, jt5, jt6, jt7, jt8] at ex16
      refine OK_il ?_ ?_
      · try dsimp only [Sum.elim_inl, Sum.elim_inr, jt2, jt3, jt4, jt5, jt6, jt7, jt8]
        refine ⟨?_, ?_, ?_⟩
        · (first | assumption | omega | ((try dsimp only [jt2, jt3, jt4]); first | omega | (simp (disch := omega) only [jst_eq, jst_ne, jst_ni, jst_o, jI_i, jcpy_out, w32_id, jdiv_nn, jshr_k, jand_255] <;> first | done | omega | assumption)) | (intros; simp (disch := omega) only [jst_eq, jst_ne, jst_ni, jst_o, jI_i, jcpy_out, w32_id, jdiv_nn, *] <;> first | done | omega) | (intros; simp (disch := omega) only [jst_eq, jst_ne, jst_ni, jst_o, jI_i, jcpy_out, w32_id, jdiv_nn] at * <;> first | done | omega | assumption) | (intros; first | rfl | (exfalso; omega) | ((repeat' apply And.intro) <;> first | assumption | rfl | omega | trivial))) -- o4 e2i.1
        · (intro s s0 s1; by_cases y : s = a1; { rw [y, jst_eq] }; { rw [jst_ni y]; exact q1 s s0 (by omega) }) -- o5 e2i.2
        · exact fun a x y => by rw [jst_o (by omega)]; exact fr a x y -- o6 e2i.3
      · (first | assumption | omega | ((try dsimp only [jt2, jt3, jt4]); first | omega | (simp (disch := omega) only [jst_eq, jst_ne, jst_ni, jst_o, jI_i, jcpy_out, w32_id, jdiv_nn, jshr_k, jand_255] <;> first | done | omega | assumption)) | (intros; simp (disch := omega) only [jst_eq, jst_ne, jst_ni, jst_o, jI_i, jcpy_out, w32_id, jdiv_nn, *] <;> first | done | omega) | (intros; simp (disch := omega) only [jst_eq, jst_ne, jst_ni, jst_o, jI_i, jcpy_out, w32_id, jdiv_nn] at * <;> first | done | omega | assumption) | (intros; first | rfl | (exfalso; omega) | ((repeat' apply And.intro) <;> first | assumption | rfl | omega | trivial))) -- o7 e2m
  · try dsimp only [Sum.elim_inl, Sum.elim_inr, jt2, jt3, jt4, jt5, jt6, jt7, jt8]
    refine ⟨?_, ?_, ?_⟩
    · (first | assumption | omega | ((try dsimp only [jt2, jt3, jt4]); first | omega | (simp (disch := omega) only [jst_eq, jst_ne, jst_ni, jst_o, jI_i, jcpy_out, w32_id, jdiv_nn, jshr_k, jand_255] <;> first | done | omega | assumption)) | (intros; simp (disch := omega) only [jst_eq, jst_ne, jst_ni, jst_o, jI_i, jcpy_out, w32_id, jdiv_nn, *] <;> first | done | omega) | (intros; simp (disch := omega) only [jst_eq, jst_ne, jst_ni, jst_o, jI_i, jcpy_out, w32_id, jdiv_nn] at * <;> first | done | omega | assumption) | (intros; first | rfl | (exfalso; omega) | ((repeat' apply And.intro) <;> first | assumption | rfl | omega | trivial))) -- o8 init.1
    · (intro s s0 s1; omega) -- o9 init.2
    · exact fun _ _ _ => rfl -- o10 init.3
theorem vX14_makeNodes_l29 (a10 : Int) {h0 : AH} {n : Int} (hn : h0 454 109 = n ∧ 0 ≤ n ∧ n ≤ 8) (h0' : a10 = 0) : OK (gX14_makeNodes_l29 a10 h0) (fun h' => (∀ s, 0 ≤ s → s < n → h' 828 s = 0) ∧ (∀ a x, ¬ (a = 828 ∧ 0 ≤ x) → h' a x = h0 a x)) := by
  unfold gX14_makeNodes_l29
  refine OK_jit (I := (fun (s : Int × AH) => jt2 s fun a1 h => (0 ≤ a1 ∧ a1 ≤ n) ∧ (∀ s, 0 ≤ s → s < a1 → h 828 s = 0) ∧ (∀ a x, ¬ (a = 828 ∧ 0 ≤ x) → h a x = h0 a x))) (m := (fun (s : Int × AH) => jt2 s fun a1 h => (n - a1).toNat)) ?_ ?_
  · intro s hs
    obtain ⟨a1, h⟩ := s
    dsimp only [Sum.elim_inl, Sum.elim_inr, jt2, jt3, jt4, jt5, jt6, jt7, jt8] at hs
    obtain ⟨q0, q1, fr⟩ := hs
    unfold gX14_makeNodes_b29
    refine OK_jt2 ?_
    have F9 : h 454 109 = n := by rw [fr _ _ (by omega)]; exact hn.1
    refine OK_if (fun c1 => ?_) (fun c1 => ?_)
    · skip
      try simp (disch := omega) only [jst_eq, jst_ne, jst_ni, jI_i, jcmp_lt, jcmp_gt, w32_id, jcpy_out, Sum.elim_inl, Sum.elim_inr, jt2, jt3, jt4, jt5, jt6, jt7, jt8] at c1
      refine OK_ir ?_
      try dsimp only [Sum.elim_inl, Sum.elim_inr, jt2, jt3, jt4, jt5, jt6, jt7, jt8]
      refine ⟨?_, ?_⟩
      · exact fun s s0 s1 => q1 s s0 (by omega) -- o1 e1.1
      · (first | assumption | omega | ((try dsimp only [jt2, jt3, jt4]); first | omega | (simp (disch := omega) only [jst_eq, jst_ne, jst_ni, jst_o, jI_i, jcpy_out, w32_id, jdiv_nn, jshr_k, jand_255] <;> first | done | omega | assumption)) | (intros; simp (disch := omega) only [jst_eq, jst_ne, jst_ni, jst_o, jI_i, jcpy_out, w32_id, jdiv_nn, *] <;> first | done | omega) | (intros; simp (disch := omega) only [jst_eq, jst_ne, jst_ni, jst_o, jI_i, jcpy_out, w32_id, jdiv_nn] at * <;> first | done | omega | assumption) | (intros; first | rfl | (exfalso; omega) | ((repeat' apply And.intro) <;> first | assumption | rfl | omega | trivial))) -- o2 e1.2
    · skip
      try simp (disch := omega) only [jst_eq, jst_ne, jst_ni, jI_i, jcmp_lt, jcmp_gt, w32_id, jcpy_out, Sum.elim_inl, Sum.elim_inr, jt2, jt3, jt4, jt5, jt6, jt7, jt8] at c1
      refine OK_jg (by (first | assumption | omega | ((try dsimp only [jt2, jt3, jt4]); first | omega | (simp (disch := omega) only [jst_eq, jst_ne, jst_ni, jst_o, jI_i, jcpy_out, w32_id, jdiv_nn, jshr_k, jand_255] <;> first | done | omega | assumption)) | (intros; simp (disch := omega) only [jst_eq, jst_ne, jst_ni, jst_o, jI_i, jcpy_out, w32_id, jdiv_nn, *] <;> first | done | omega) | (intros; simp (disch := omega) only [jst_eq, jst_ne, jst_ni, jst_o, jI_i, jcpy_out, w32_id, jdiv_nn] at * <;> first | done | omega | assumption) | (intros; first | rfl | (exfalso; omega) | ((repeat' apply And.intro) <;> first | assumption | rfl | omega | trivial)))) ?_ -- o3
      refine OK_jl ?_
      refine OK_jlx (fun x19 ex19 => ?_)
      try simp (disch := omega) only [jst_eq, jst_ne, jst_ni, jI_i, jcmp_lt, jcmp_gt, w32_id, jcpy_out, Sum.elim_inl, Sum.elim_inr, jt2, jt3, jt4, jt5, jt6, jt7, jt8] at ex19
      refine OK_il ?_ ?_
      · try dsimp only [Sum.elim_inl, Sum.elim_inr, jt2, jt3, jt4, jt5, jt6, jt7, jt8]
        refine ⟨?_, ?_, ?_⟩
        · (first | assumption | omega | ((try dsimp only [jt2, jt3, jt4]); first | omega | (simp (disch := omega) only [jst_eq, jst_ne, jst_ni, jst_o, jI_i, jcpy_out, w32_id, jdiv_nn, jshr_k, jand_255] <;> first | done | omega | assumption)) | (intros; simp (disch := omega) only [jst_eq, jst_ne, jst_ni, jst_o, jI_i, jcpy_out, w32_id, jdiv_nn, *] <;> first | done | omega) | (intros; simp (disch := omega) only [jst_eq, jst_ne, jst_ni, jst_o, jI_i, jcpy_out, w32_id, jdiv_nn] at * <;> first | done | omega | assumption) | (intros; first | rfl | (exfalso; omega) | ((repeat' apply And.intro) <;> first | assumption | rfl | omega | trivial))) -- o4 e2i.1
        · (intro s s0 s1; by_cases y : s = a1; { rw [y, jst_eq] }; { rw [jst_ni y]; exact q1 s s0 (by omega) }) -- o5 e2i.2
        · exact fun a x y => by rw [jst_o (by omega)]; exact fr a x y -- o6 e2i.3
      · (first | assumption | omega | ((try dsimp only [jt2, jt3, jt4]); first | omega | (simp (disch := omega) only [jst_eq, jst_ne, jst_ni, jst_o, jI_i, jcpy_out, w32_id, jdiv_nn, jshr_k, jand_255] <;> first | done | omega | assumption)) | (intros; simp (disch := omega) only [jst_eq, jst_ne, jst_ni, jst_o, jI_i, jcpy_out, w32_id, jdiv_nn, *] <;> first | done | omega) | (intros; simp (disch := omega) only [jst_eq, jst_ne, jst_ni, jst_o, jI_i, jcpy_out, w32_id, jdiv_nn] at * <;> first | done | omega | assumption) | (intros; first | rfl | (exfalso; omega) | ((repeat' apply And.intro) <;> first | assumption | rfl | omega | trivial))) -- o7 e2m
  · try dsimp only [Sum.elim_inl, Sum.elim_inr, jt2, jt3, jt4, jt5, jt6, jt7, jt8]
    refine ⟨?_, ?_, ?_⟩
    · (first | assumption | omega | ((try dsimp only [jt2, jt3, jt4]); first | omega | (simp (disch := omega) only [jst_eq, jst_ne, jst_ni, jst_o, jI_i, jcpy_out, w32_id, jdiv_nn, jshr_k, jand_255] <;> first | done | omega | assumption)) | (intros; simp (disch := omega) only [jst_eq, jst_ne, jst_ni, jst_o, jI_i, jcpy_out, w32_id, jdiv_nn, *] <;> first | done | omega) | (intros; simp (disch := omega) only [jst_eq, jst_ne, jst_ni, jst_o, jI_i, jcpy_out, w32_id, jdiv_nn] at * <;> first | done | omega | assumption) | (intros; first | rfl | (exfalso; omega) | ((repeat' apply And.intro) <;> first | assumption | rfl | omega | trivial))) -- o8 init.1
    · (intro s s0 s1; omega) -- o9 init.2
    · exact fun _ _ _ => rfl -- o10 init.3
theorem vX14_makeNodes_l77 (i3 : Int) (i4 : Int) (a50 : Int) {h0 : AH} {e : CE} {t0 d0 : Int → Int} {N0 D : Int} (hc : cuM h0 e) (hv : vCE e) (gi : GRI h0 e 178) (x : XNQ h0 e t0 d0 N0 D t0 d0 N0) (hD : 0 ≤ D ∧ i4 = N0 ∧ 0 ≤ a50 ∧ a50 ≤ N0) (hd : ∀ k, a50 ≤ k → k < N0 → d0 k = D) : OK (gX14_makeNodes_l77 i3 i4 a50 h0) (fun h' => (EXI h' e t0 d0 N0 D (fun x => ∃ k, a50 ≤ k ∧ k < N0 ∧ ∃ m ∈ mvL e (t0 k).toNat, m.2 = x)) ∧ (∀ a x, ¬ (a = 454 ∧ x = 114) → ¬ ((a = 821 ∨ a = 822 ∨ a = 828) ∧ 0 ≤ x) → h' a x = h0 a x)) := by
  have n8 := hv.1
  have NB := x.1.2.1
  unfold gX14_makeNodes_l77
  refine OK_jit (I := (fun (s : Int × AH) => jt2 s fun a5 h => (a50 ≤ a5 ∧ a5 ≤ N0) ∧ (EXI h e t0 d0 N0 D (fun x => ∃ k, a50 ≤ k ∧ k < a5 ∧ ∃ m ∈ mvL e (t0 k).toNat, m.2 = x)) ∧ (∀ a x, ¬ (a = 454 ∧ x = 114) → ¬ ((a = 821 ∨ a = 822 ∨ a = 828) ∧ 0 ≤ x) → h a x = h0 a x))) (m := (fun (s : Int × AH) => jt2 s fun a5 h => (N0 - a5).toNat)) ?_ ?_
  · intro s hs
    obtain ⟨a5, h⟩ := s
    dsimp only [Sum.elim_inl, Sum.elim_inr, jt2, jt3, jt4, jt5, jt6, jt7, jt8] at hs
    obtain ⟨q0, q1, fr⟩ := hs
    unfold gX14_makeNodes_b77
    refine OK_jt2 ?_
    have DD := hd a5
    refine OK_if (fun c1 => ?_) (fun c1 => ?_)
    · skip
      try simp (disch := omega) only [jst_eq, jst_ne, jst_ni, jI_i, jcmp_lt, jcmp_gt, w32_id, jcpy_out, Sum.elim_inl, Sum.elim_inr, jt2, jt3, jt4, jt5, jt6, jt7, jt8] at c1
      refine OK_ir ?_
      try dsimp only [Sum.elim_inl, Sum.elim_inr, jt2, jt3, jt4, jt5, jt6, jt7, jt8]
      refine ⟨?_, ?_⟩
      · exact EXI_w q1 (fun x ⟨k, k0, k1, r⟩ => ⟨k, k0, by omega, r⟩) -- o1 e1.1
      · (first | assumption | omega | ((try dsimp only [jt2, jt3, jt4]); first | omega | (simp (disch := omega) only [jst_eq, jst_ne, jst_ni, jst_o, jI_i, jcpy_out, w32_id, jdiv_nn, jshr_k, jand_255] <;> first | done | omega | assumption)) | (intros; simp (disch := omega) only [jst_eq, jst_ne, jst_ni, jst_o, jI_i, jcpy_out, w32_id, jdiv_nn, *] <;> first | done | omega) | (intros; simp (disch := omega) only [jst_eq, jst_ne, jst_ni, jst_o, jI_i, jcpy_out, w32_id, jdiv_nn] at * <;> first | done | omega | assumption) | (intros; first | rfl | (exfalso; omega) | ((repeat' apply And.intro) <;> first | assumption | rfl | omega | trivial))) -- o2 e1.2
    · skip
      try simp (disch := omega) only [jst_eq, jst_ne, jst_ni, jI_i, jcmp_lt, jcmp_gt, w32_id, jcpy_out, Sum.elim_inl, Sum.elim_inr, jt2, jt3, jt4, jt5, jt6, jt7, jt8] at c1
      refine OK_if (fun c2 => ?_) (fun c2 => ?_)
      · skip
        try simp (disch := omega) only [jst_eq, jst_ne, jst_ni, jI_i, jcmp_lt, jcmp_gt, w32_id, jcpy_out, Sum.elim_inl, Sum.elim_inr, jt2, jt3, jt4, jt5, jt6, jt7, jt8] at c2
        refine OK_ir ?_
        try dsimp only [Sum.elim_inl, Sum.elim_inr, jt2, jt3, jt4, jt5, jt6, jt7, jt8]
        refine ⟨?_, ?_⟩
        · (obtain ⟨t, d, N, X, Y⟩ := q1; exact ⟨t, d, N, X, Or.inl (by have z1 := X.1.1; have z2 := X.1.2.1; omega)⟩) -- o3 e2.1
        · (first | assumption | omega | ((try dsimp only [jt2, jt3, jt4]); first | omega | (simp (disch := omega) only [jst_eq, jst_ne, jst_ni, jst_o, jI_i, jcpy_out, w32_id, jdiv_nn, jshr_k, jand_255] <;> first | done | omega | assumption)) | (intros; simp (disch := omega) only [jst_eq, jst_ne, jst_ni, jst_o, jI_i, jcpy_out, w32_id, jdiv_nn, *] <;> first | done | omega) | (intros; simp (disch := omega) only [jst_eq, jst_ne, jst_ni, jst_o, jI_i, jcpy_out, w32_id, jdiv_nn] at * <;> first | done | omega | assumption) | (intros; first | rfl | (exfalso; omega) | ((repeat' apply And.intro) <;> first | assumption | rfl | omega | trivial))) -- o4 e2.2
      · skip
        try simp (disch := omega) only [jst_eq, jst_ne, jst_ni, jI_i, jcmp_lt, jcmp_gt, w32_id, jcpy_out, Sum.elim_inl, Sum.elim_inr, jt2, jt3, jt4, jt5, jt6, jt7, jt8] at c2
        obtain ⟨u, u1, u2, u3⟩ := x.1.2.2.1 a5 (by omega) (by omega)
        refine OK_jb (vX14_expand (e := e) (t0 := t0) (d0 := d0) (N0 := N0) (D := D) (u := u) (Q := fun x => ∃ k, a50 ≤ k ∧ k < a5 ∧ ∃ m ∈ mvL e (t0 k).toNat, m.2 = x) _ (by exact cuM_f hc (fun a s y => fr a s (by omega) (by omega))) (by (first | assumption | omega | ((try dsimp only [jt2, jt3, jt4]); first | omega | (simp (disch := omega) only [jst_eq, jst_ne, jst_ni, jst_o, jI_i, jcpy_out, w32_id, jdiv_nn, jshr_k, jand_255] <;> first | done | omega | assumption)) | (intros; simp (disch := omega) only [jst_eq, jst_ne, jst_ni, jst_o, jI_i, jcpy_out, w32_id, jdiv_nn, *] <;> first | done | omega) | (intros; simp (disch := omega) only [jst_eq, jst_ne, jst_ni, jst_o, jI_i, jcpy_out, w32_id, jdiv_nn] at * <;> first | done | omega | assumption) | (intros; first | rfl | (exfalso; omega) | ((repeat' apply And.intro) <;> first | assumption | rfl | omega | trivial)))) (by exact GRI_f gi n8.2 (fun a x y1 y2 => fr a x (by omega) (by omega))) (by exact q1) (by exact ⟨⟨by omega, by omega⟩, u1, DD (by omega) (by omega), hD.1⟩)) (fun h28 r1 => ?_)
        try dsimp only [Sum.elim_inl, Sum.elim_inr, jt2, jt3, jt4, jt5, jt6, jt7, jt8] at r1
        obtain ⟨ex1, fr1⟩ := r1
        try simp (disch := omega) only [jst_eq, jst_ne, jst_ni, jI_i, jcmp_lt, jcmp_gt, w32_id, jcpy_out, Sum.elim_inl, Sum.elim_inr, jt2, jt3, jt4, jt5, jt6, jt7, jt8] at ex1
        try simp (disch := omega) only [jst_eq, jst_ne, jst_ni, jI_i, jcmp_lt, jcmp_gt, w32_id, jcpy_out, Sum.elim_inl, Sum.elim_inr, jt2, jt3, jt4, jt5, jt6, jt7, jt8] at fr1
        refine OK_jlx (fun x29 ex29 => ?_)
        try simp (disch := omega) only [jst_eq, jst_ne, jst_ni, jI_i, jcmp_lt, jcmp_gt, w32_id, jcpy_out, Sum.elim_inl, Sum.elim_inr, jt2, jt3, jt4, jt5, jt6, jt7, jt8] at ex29
        refine OK_il ?_ ?_
        · try dsimp only [Sum.elim_inl, Sum.elim_inr, jt2, jt3, jt4, jt5, jt6, jt7, jt8]
          refine ⟨?_, ?_, ?_⟩
          · (first | assumption | omega | ((try dsimp only [jt2, jt3, jt4]); first | omega | (simp (disch := omega) only [jst_eq, jst_ne, jst_ni, jst_o, jI_i, jcpy_out, w32_id, jdiv_nn, jshr_k, jand_255] <;> first | done | omega | assumption)) | (intros; simp (disch := omega) only [jst_eq, jst_ne, jst_ni, jst_o, jI_i, jcpy_out, w32_id, jdiv_nn, *] <;> first | done | omega) | (intros; simp (disch := omega) only [jst_eq, jst_ne, jst_ni, jst_o, jI_i, jcpy_out, w32_id, jdiv_nn] at * <;> first | done | omega | assumption) | (intros; first | rfl | (exfalso; omega) | ((repeat' apply And.intro) <;> first | assumption | rfl | omega | trivial))) -- o10 e3i.1
          · (refine EXI_w (by assumption) (fun x hx => ?_); obtain ⟨k, k0, k1, m, m1, m2⟩ := hx; by_cases y : k = a5; { right; rw [y, u1, show ((u : Int)).toNat = u by omega] at m1; exact ⟨m, m1, m2⟩ }; { exact Or.inl ⟨k, k0, by omega, m, m1, m2⟩ }) -- o11 e3i.2
          · (have FE : ∀ a x, ¬ (a = 454 ∧ x = 114) → ¬ ((a = 821 ∨ a = 822 ∨ a = 828) ∧ 0 ≤ x) → h28 a x = h a x := (by assumption); exact fun a x y1 y2 => by rw [FE a x y1 y2]; exact fr a x y1 y2) -- o12 e3i.3
        · (first | assumption | omega | ((try dsimp only [jt2, jt3, jt4]); first | omega | (simp (disch := omega) only [jst_eq, jst_ne, jst_ni, jst_o, jI_i, jcpy_out, w32_id, jdiv_nn, jshr_k, jand_255] <;> first | done | omega | assumption)) | (intros; simp (disch := omega) only [jst_eq, jst_ne, jst_ni, jst_o, jI_i, jcpy_out, w32_id, jdiv_nn, *] <;> first | done | omega) | (intros; simp (disch := omega) only [jst_eq, jst_ne, jst_ni, jst_o, jI_i, jcpy_out, w32_id, jdiv_nn] at * <;> first | done | omega | assumption) | (intros; first | rfl | (exfalso; omega) | ((repeat' apply And.intro) <;> first | assumption | rfl | omega | trivial))) -- o13 e3m
  · try dsimp only [Sum.elim_inl, Sum.elim_inr, jt2, jt3, jt4, jt5, jt6, jt7, jt8]
    refine ⟨?_, ?_, ?_⟩
    · (first | assumption | omega | ((try dsimp only [jt2, jt3, jt4]); first | omega | (simp (disch := omega) only [jst_eq, jst_ne, jst_ni, jst_o, jI_i, jcpy_out, w32_id, jdiv_nn, jshr_k, jand_255] <;> first | done | omega | assumption)) | (intros; simp (disch := omega) only [jst_eq, jst_ne, jst_ni, jst_o, jI_i, jcpy_out, w32_id, jdiv_nn, *] <;> first | done | omega) | (intros; simp (disch := omega) only [jst_eq, jst_ne, jst_ni, jst_o, jI_i, jcpy_out, w32_id, jdiv_nn] at * <;> first | done | omega | assumption) | (intros; first | rfl | (exfalso; omega) | ((repeat' apply And.intro) <;> first | assumption | rfl | omega | trivial))) -- o14 init.1
    · exact ⟨t0, d0, N0, x, Or.inr (fun w ⟨k, k0, k1, _⟩ => by omega)⟩ -- o15 init.2
    · exact fun _ _ _ _ => rfl -- o16 init.3
theorem LVM_n {h h' : AH} {e : CE} {a j N0 : Int} {t0 d0 : Int → Int} (L : LVM h e a j t0 d0 N0) (j0 : 0 ≤ j) (x : EXI h' e t0 d0 N0 j (fun x => ∃ k, a ≤ k ∧ k < N0 ∧ ∃ m ∈ mvL e (t0 k).toNat, m.2 = x)) : ∃ t d N, LVM h' e N0 (j + 1) t d N := by
  obtain ⟨L1, L2, L3, L4, L5, L6⟩ := L
  obtain ⟨t, d, N, X, Y⟩ := x
  obtain ⟨X1, X2, X3, X4, X5⟩ := X
  have q0 := X4 0 (Int.le_refl _) (by omega)
  refine ⟨t, d, N, X1, ⟨by omega, by rw [q0.1]; exact L2.2.1, by rw [q0.2]; exact L2.2.2⟩, X2, ⟨by omega, X3⟩, X5, ?_⟩
  rcases Y with Y | Y
  · exact Or.inl Y
  · rcases L6 with L6 | L6
    · have := X1.2.1
      exact Or.inl (by omega)
    · refine Or.inr (fun k k0 k1 m hm => ?_)
      have qk := X4 k k0 k1
      rw [qk.1] at hm
      by_cases y : k < a
      · obtain ⟨i, i0, i1, i2, i3⟩ := L6 k k0 y m hm
        have qi := X4 i i0 i1
        exact ⟨i, i0, by omega, by rw [qi.1]; exact i2, by rw [qi.2, qk.2]; exact i3⟩
      · obtain ⟨i, i0, i1, i2⟩ := Y m.2 ⟨k, by omega, k1, m, hm, rfl⟩
        have := (X2 i i0 i1).1.2
        have := L5 k (by omega) k1
        exact ⟨i, i0, i1, i2, by rw [qk.2]; omega⟩
theorem vX14_makeNodes_l63 (a20 : Int) (a30 : Int) {h0 : AH} {e : CE} (hc : cuM h0 e) (hv : vCE e) (gi : GRI h0 e 178) (L : ∃ t d N, LVM h0 e a20 0 t d N) (h3 : a30 = 0) : OK (gX14_makeNodes_l63 a20 a30 h0) (fun h' => (∃ a t d N, LVM h' e a 4 t d N) ∧ (∀ a x, ¬ (a = 454 ∧ x = 114) → ¬ ((a = 821 ∨ a = 822 ∨ a = 828) ∧ 0 ≤ x) → h' a x = h0 a x)) := by
  have n8 := hv.1
  unfold gX14_makeNodes_l63
  refine OK_jit (I := (fun (s : Int × Int × AH) => jt3 s fun a2 a3 h => (0 ≤ a3 ∧ a3 ≤ 4) ∧ (∃ t d N, LVM h e a2 a3 t d N) ∧ (∀ a x, ¬ (a = 454 ∧ x = 114) → ¬ ((a = 821 ∨ a = 822 ∨ a = 828) ∧ 0 ≤ x) → h a x = h0 a x))) (m := (fun (s : Int × Int × AH) => jt3 s fun a2 a3 h => (4 - a3).toNat)) ?_ ?_
  · intro s hs
    obtain ⟨a2, a3, h⟩ := s
    dsimp only [Sum.elim_inl, Sum.elim_inr, jt2, jt3, jt4, jt5, jt6, jt7, jt8] at hs
    obtain ⟨q0, q1, fr⟩ := hs
    unfold gX14_makeNodes_b63
    refine OK_jt3 ?_
    obtain ⟨t, d, N, L⟩ := q1
    have LC := L.1.1
    have LN := L.1.2.1
    refine OK_if (fun c1 => ?_) (fun c1 => ?_)
    · skip
      try simp (disch := omega) only [jst_eq, jst_ne, jst_ni, jI_i, jcmp_lt, jcmp_gt, w32_id, jcpy_out, Sum.elim_inl, Sum.elim_inr, jt2, jt3, jt4, jt5, jt6, jt7, jt8] at c1
      refine OK_ir ?_
      try dsimp only [Sum.elim_inl, Sum.elim_inr, jt2, jt3, jt4, jt5, jt6, jt7, jt8]
      refine ⟨?_, ?_⟩
      · (rw [show (4 : Int) = a3 by omega]; exact ⟨a2, t, d, N, L⟩) -- o1 e1.1
      · (first | assumption | omega | ((try dsimp only [jt2, jt3, jt4]); first | omega | (simp (disch := omega) only [jst_eq, jst_ne, jst_ni, jst_o, jI_i, jcpy_out, w32_id, jdiv_nn, jshr_k, jand_255] <;> first | done | omega | assumption)) | (intros; simp (disch := omega) only [jst_eq, jst_ne, jst_ni, jst_o, jI_i, jcpy_out, w32_id, jdiv_nn, *] <;> first | done | omega) | (intros; simp (disch := omega) only [jst_eq, jst_ne, jst_ni, jst_o, jI_i, jcpy_out, w32_id, jdiv_nn] at * <;> first | done | omega | assumption) | (intros; first | rfl | (exfalso; omega) | ((repeat' apply And.intro) <;> first | assumption | rfl | omega | trivial))) -- o2 e1.2
    · skip
      try simp (disch := omega) only [jst_eq, jst_ne, jst_ni, jI_i, jcmp_lt, jcmp_gt, w32_id, jcpy_out, Sum.elim_inl, Sum.elim_inr, jt2, jt3, jt4, jt5, jt6, jt7, jt8] at c1
      refine OK_jlx (fun x21 ex21 => ?_)
      try simp (disch := omega) only [jst_eq, jst_ne, jst_ni, jI_i, jcmp_lt, jcmp_gt, w32_id, jcpy_out, Sum.elim_inl, Sum.elim_inr, jt2, jt3, jt4, jt5, jt6, jt7, jt8] at ex21
      refine OK_jb (vX14_makeNodes_l77 (e := e) (t0 := t) (d0 := d) (N0 := N) (D := a3) _ _ _ (by exact cuM_f hc (fun a s y => fr a s (by omega) (by omega))) (by (first | assumption | omega | ((try dsimp only [jt2, jt3, jt4]); first | omega | (simp (disch := omega) only [jst_eq, jst_ne, jst_ni, jst_o, jI_i, jcpy_out, w32_id, jdiv_nn, jshr_k, jand_255] <;> first | done | omega | assumption)) | (intros; simp (disch := omega) only [jst_eq, jst_ne, jst_ni, jst_o, jI_i, jcpy_out, w32_id, jdiv_nn, *] <;> first | done | omega) | (intros; simp (disch := omega) only [jst_eq, jst_ne, jst_ni, jst_o, jI_i, jcpy_out, w32_id, jdiv_nn] at * <;> first | done | omega | assumption) | (intros; first | rfl | (exfalso; omega) | ((repeat' apply And.intro) <;> first | assumption | rfl | omega | trivial)))) (by exact GRI_f gi n8.2 (fun a x y1 y2 => fr a x (by omega) (by omega))) (by exact ⟨L.1, fun k k0 k1 => by have := L.2.2.1 k k0 k1; exact ⟨by omega, this.2⟩, Int.le_refl _, fun _ _ _ => ⟨rfl, rfl⟩, fun k k0 k1 => by omega⟩) (by (have := L.2.2.2.1; omega)) (by exact L.2.2.2.2.1)) (fun o22 r1 => ?_)
      try dsimp only [Sum.elim_inl, Sum.elim_inr, jt2, jt3, jt4, jt5, jt6, jt7, jt8] at r1
      obtain ⟨ex1, fr1⟩ := r1
      try simp (disch := omega) only [jst_eq, jst_ne, jst_ni, jI_i, jcmp_lt, jcmp_gt, w32_id, jcpy_out, Sum.elim_inl, Sum.elim_inr, jt2, jt3, jt4, jt5, jt6, jt7, jt8] at ex1
      try simp (disch := omega) only [jst_eq, jst_ne, jst_ni, jI_i, jcmp_lt, jcmp_gt, w32_id, jcpy_out, Sum.elim_inl, Sum.elim_inr, jt2, jt3, jt4, jt5, jt6, jt7, jt8] at fr1
      unfold gX14_makeNodes_j106_63
      refine OK_jlx (fun x24 ex24 => ?_)
      try simp (disch := omega) only [jst_eq, jst_ne, jst_ni, jI_i, jcmp_lt, jcmp_gt, w32_id, jcpy_out, Sum.elim_inl, Sum.elim_inr, jt2, jt3, jt4, jt5, jt6, jt7, jt8] at ex24
      refine OK_il ?_ ?_
      · try dsimp only [Sum.elim_inl, Sum.elim_inr, jt2, jt3, jt4, jt5, jt6, jt7, jt8]
        refine ⟨?_, ?_, ?_⟩
        · (first | assumption | omega | ((try dsimp only [jt2, jt3, jt4]); first | omega | (simp (disch := omega) only [jst_eq, jst_ne, jst_ni, jst_o, jI_i, jcpy_out, w32_id, jdiv_nn, jshr_k, jand_255] <;> first | done | omega | assumption)) | (intros; simp (disch := omega) only [jst_eq, jst_ne, jst_ni, jst_o, jI_i, jcpy_out, w32_id, jdiv_nn, *] <;> first | done | omega) | (intros; simp (disch := omega) only [jst_eq, jst_ne, jst_ni, jst_o, jI_i, jcpy_out, w32_id, jdiv_nn] at * <;> first | done | omega | assumption) | (intros; first | rfl | (exfalso; omega) | ((repeat' apply And.intro) <;> first | assumption | rfl | omega | trivial))) -- o9 e2i.1
        · (rw [show x21 = N by omega, show x24 = a3 + 1 by omega]; exact LVM_n L q0.1 (by assumption)) -- o10 e2i.2
        · (first | assumption | omega | ((try dsimp only [jt2, jt3, jt4]); first | omega | (simp (disch := omega) only [jst_eq, jst_ne, jst_ni, jst_o, jI_i, jcpy_out, w32_id, jdiv_nn, jshr_k, jand_255] <;> first | done | omega | assumption)) | (intros; simp (disch := omega) only [jst_eq, jst_ne, jst_ni, jst_o, jI_i, jcpy_out, w32_id, jdiv_nn, *] <;> first | done | omega) | (intros; simp (disch := omega) only [jst_eq, jst_ne, jst_ni, jst_o, jI_i, jcpy_out, w32_id, jdiv_nn] at * <;> first | done | omega | assumption) | (intros; first | rfl | (exfalso; omega) | ((repeat' apply And.intro) <;> first | assumption | rfl | omega | trivial))) -- o11 e2i.3
      · (first | assumption | omega | ((try dsimp only [jt2, jt3, jt4]); first | omega | (simp (disch := omega) only [jst_eq, jst_ne, jst_ni, jst_o, jI_i, jcpy_out, w32_id, jdiv_nn, jshr_k, jand_255] <;> first | done | omega | assumption)) | (intros; simp (disch := omega) only [jst_eq, jst_ne, jst_ni, jst_o, jI_i, jcpy_out, w32_id, jdiv_nn, *] <;> first | done | omega) | (intros; simp (disch := omega) only [jst_eq, jst_ne, jst_ni, jst_o, jI_i, jcpy_out, w32_id, jdiv_nn] at * <;> first | done | omega | assumption) | (intros; first | rfl | (exfalso; omega) | ((repeat' apply And.intro) <;> first | assumption | rfl | omega | trivial))) -- o12 e2m
  · try dsimp only [Sum.elim_inl, Sum.elim_inr, jt2, jt3, jt4, jt5, jt6, jt7, jt8]
    refine ⟨?_, ?_, ?_⟩
    · (first | assumption | omega | ((try dsimp only [jt2, jt3, jt4]); first | omega | (simp (disch := omega) only [jst_eq, jst_ne, jst_ni, jst_o, jI_i, jcpy_out, w32_id, jdiv_nn, jshr_k, jand_255] <;> first | done | omega | assumption)) | (intros; simp (disch := omega) only [jst_eq, jst_ne, jst_ni, jst_o, jI_i, jcpy_out, w32_id, jdiv_nn, *] <;> first | done | omega) | (intros; simp (disch := omega) only [jst_eq, jst_ne, jst_ni, jst_o, jI_i, jcpy_out, w32_id, jdiv_nn] at * <;> first | done | omega | assumption) | (intros; first | rfl | (exfalso; omega) | ((repeat' apply And.intro) <;> first | assumption | rfl | omega | trivial))) -- o13 init.1
    · (rw [h3]; exact L) -- o14 init.2
    · exact fun _ _ _ _ => rfl -- o15 init.3
theorem nbz_0 (r : Nat) : nb 0 r = 0 := by
  unfold nb
  rw [Nat.zero_div]
theorem LVM_o {h : AH} {e : CE} {a N : Int} {t d : Int → Int} (L : LVM h e a 4 t d N) (n : N = 401) : ovf e := by
  obtain ⟨L1, L2, L3, L4, L5, L6⟩ := L
  refine ⟨t, fun i j i0 ij j1 => L1.2.2.2.1 i j i0 ij (by omega), fun i i0 i1 => ?_⟩
  have q := L3 i i0 (by omega)
  exact ⟨(d i).toNat, by omega, q.2⟩
theorem LVM_d {h : AH} {e : CE} {a N : Int} {t d : Int → Int} (L : LVM h e a 4 t d N) (n : N ≤ 400) : FND h e t d N := by
  obtain ⟨L1, L2, L3, L4, L5, L6⟩ := L
  refine ⟨L1, ⟨L2.1, n⟩, L2.2, L3, fun k k0 k1 l => ?_⟩
  rcases L6 with q | q
  · omega
  · exact q k k0 (by
      by_cases y : k < a
      · exact y
      · have := L5 k (by omega) k1
        omega)
theorem vX14_makeNodes {h : AH} {e : CE} (hc : cuM h e) (hv : vCE e) (hk : kM h) : OK (gX14_makeNodes h) (fun r => jt2 r fun v h' => (GRI h' e 178 ∧ ((v = 1 ∧ ∃ t d N, FND h' e t d N) ∨ (v = 0 ∧ ovf e))) ∧ (∀ a x, ¬ (a = 454 ∧ x = 114) → ¬ ((821 ≤ a ∧ a ≤ 828) ∧ 0 ≤ x) → h' a x = h a x)) := by
  have n8 := hv.1
  unfold gX14_makeNodes
  refine OK_jb (vX14_makeNodes_l2 _ (by (first | assumption | omega | ((try dsimp only [jt2, jt3, jt4]); first | omega | (simp (disch := omega) only [jst_eq, jst_ne, jst_ni, jst_o, jI_i, jcpy_out, w32_id, jdiv_nn, jshr_k, jand_255] <;> first | done | omega | assumption)) | (intros; simp (disch := omega) only [jst_eq, jst_ne, jst_ni, jst_o, jI_i, jcpy_out, w32_id, jdiv_nn, *] <;> first | done | omega) | (intros; simp (disch := omega) only [jst_eq, jst_ne, jst_ni, jst_o, jI_i, jcpy_out, w32_id, jdiv_nn] at * <;> first | done | omega | assumption) | (intros; first | rfl | (exfalso; omega) | ((repeat' apply And.intro) <;> first | assumption | rfl | omega | trivial))))) (fun o1 r1 => ?_)
  try dsimp only [Sum.elim_inl, Sum.elim_inr, jt2, jt3, jt4, jt5, jt6, jt7, jt8] at r1
  obtain ⟨z1, fr1⟩ := r1
  try simp (disch := omega) only [jst_eq, jst_ne, jst_ni, jI_i, jcmp_lt, jcmp_gt, w32_id, jcpy_out, Sum.elim_inl, Sum.elim_inr, jt2, jt3, jt4, jt5, jt6, jt7, jt8] at z1
  try simp (disch := omega) only [jst_eq, jst_ne, jst_ni, jI_i, jcmp_lt, jcmp_gt, w32_id, jcpy_out, Sum.elim_inl, Sum.elim_inr, jt2, jt3, jt4, jt5, jt6, jt7, jt8] at fr1
  refine OK_jl ?_
  refine OK_jb (vX14_makeNodes_l29 (n := e.1) _ (by (rw [jst_ni (by decide), fr1 _ _ (by omega)]; exact ⟨hc.1, by omega, by omega⟩)) (by (first | assumption | omega | ((try dsimp only [jt2, jt3, jt4]); first | omega | (simp (disch := omega) only [jst_eq, jst_ne, jst_ni, jst_o, jI_i, jcpy_out, w32_id, jdiv_nn, jshr_k, jand_255] <;> first | done | omega | assumption)) | (intros; simp (disch := omega) only [jst_eq, jst_ne, jst_ni, jst_o, jI_i, jcpy_out, w32_id, jdiv_nn, *] <;> first | done | omega) | (intros; simp (disch := omega) only [jst_eq, jst_ne, jst_ni, jst_o, jI_i, jcpy_out, w32_id, jdiv_nn] at * <;> first | done | omega | assumption) | (intros; first | rfl | (exfalso; omega) | ((repeat' apply And.intro) <;> first | assumption | rfl | omega | trivial))))) (fun o4 r2 => ?_)
  try dsimp only [Sum.elim_inl, Sum.elim_inr, jt2, jt3, jt4, jt5, jt6, jt7, jt8] at r2
  obtain ⟨z2, fr2⟩ := r2
  try simp (disch := omega) only [jst_eq, jst_ne, jst_ni, jI_i, jcmp_lt, jcmp_gt, w32_id, jcpy_out, Sum.elim_inl, Sum.elim_inr, jt2, jt3, jt4, jt5, jt6, jt7, jt8] at z2
  try simp (disch := omega) only [jst_eq, jst_ne, jst_ni, jI_i, jcmp_lt, jcmp_gt, w32_id, jcpy_out, Sum.elim_inl, Sum.elim_inr, jt2, jt3, jt4, jt5, jt6, jt7, jt8] at fr2
  have F4 : ∀ a x, ¬ (a = 828 ∧ 0 ≤ x) → ¬ (a = 454 ∧ x = 114) → ¬ (a = 822 ∧ 0 ≤ x) → o4 a x = h a x := fun a x y1 y2 y3 => by { rw [fr2 a x y1, jst_o (by omega)]; exact fr1 a x y3 }
  have RW : rwQ o4 e 0 := fun r l => by { rw [nbz_0]; exact z2 r (by omega) l }
  have ND0 : NDT o4 e (fun _ => 0) 0 := ⟨by rw [fr2 _ _ (by omega), jst_eq], by omega, fun k k0 k1 => by omega, fun i j i0 ij j1 => by omega, prT_0 (by decide) (fun p p0 p1 => by rw [fr2 _ _ (by omega), jst_ne (by decide)]; exact z1 p p0 p1)⟩
  refine OK_jb2 (vX14_nodeOf (e := e) (t := fun _ => 0) (N := 0) (w := 0) (by (rw [F4 _ _ (by omega) (by omega) (by omega)]; exact ⟨hc.1, by omega, by omega⟩)) (by exact RW) (by exact st_0 hv) (by exact ND0)) (fun v7 h8 r3 => ?_)
  try dsimp only [Sum.elim_inl, Sum.elim_inr, jt2, jt3, jt4, jt5, jt6, jt7, jt8] at r3
  have nf3 := r3
  clear r3
  try simp (disch := omega) only [jst_eq, jst_ne, jst_ni, jI_i, jcmp_lt, jcmp_gt, w32_id, jcpy_out, Sum.elim_inl, Sum.elim_inr, jt2, jt3, jt4, jt5, jt6, jt7, jt8] at nf3
  have NF : NDT h8 e (up1 (fun _ => 0) 0 ((0 : Nat) : Int)) (0 + 1) := by { rcases nf3 with z | z | z; { omega }; { omega }; { exact z.2.2.2.1 } }
  have F8 : ∀ a x, ¬ (a = 454 ∧ x = 114) → ¬ ((a = 821 ∨ a = 822 ∨ a = 828) ∧ 0 ≤ x) → h8 a x = h a x := fun a x y1 y2 => by { rw [nf_fr (e := e) (t := fun _ => 0) (N := 0) (w := 0) (v := v7) nf3 a x y1 (by omega)]; exact F4 a x (by omega) y1 (by omega) }
  refine OK_jb (vX14_makeSpots (by exact cuM_f hc (fun a s y => F8 a s (by omega) (by omega))) (by (first | assumption | omega | ((try dsimp only [jt2, jt3, jt4]); first | omega | (simp (disch := omega) only [jst_eq, jst_ne, jst_ni, jst_o, jI_i, jcpy_out, w32_id, jdiv_nn, jshr_k, jand_255] <;> first | done | omega | assumption)) | (intros; simp (disch := omega) only [jst_eq, jst_ne, jst_ni, jst_o, jI_i, jcpy_out, w32_id, jdiv_nn, *] <;> first | done | omega) | (intros; simp (disch := omega) only [jst_eq, jst_ne, jst_ni, jst_o, jI_i, jcpy_out, w32_id, jdiv_nn] at * <;> first | done | omega | assumption) | (intros; first | rfl | (exfalso; omega) | ((repeat' apply And.intro) <;> first | assumption | rfl | omega | trivial)))) (by exact ⟨by rw [F8 _ _ (by omega) (by omega)]; exact hk.1, by rw [F8 _ _ (by omega) (by omega)]; exact hk.2⟩)) (fun h10 r4 => ?_)
  try dsimp only [Sum.elim_inl, Sum.elim_inr, jt2, jt3, jt4, jt5, jt6, jt7, jt8] at r4
  obtain ⟨gi4, fr4⟩ := r4
  try simp (disch := omega) only [jst_eq, jst_ne, jst_ni, jI_i, jcmp_lt, jcmp_gt, w32_id, jcpy_out, Sum.elim_inl, Sum.elim_inr, jt2, jt3, jt4, jt5, jt6, jt7, jt8] at gi4
  try simp (disch := omega) only [jst_eq, jst_ne, jst_ni, jI_i, jcmp_lt, jcmp_gt, w32_id, jcpy_out, Sum.elim_inl, Sum.elim_inr, jt2, jt3, jt4, jt5, jt6, jt7, jt8] at fr4
  have F10 : ∀ a x, ¬ ((823 ≤ a ∧ a ≤ 827) ∧ 0 ≤ x) → h10 a x = h8 a x := by assumption
  have N10 := NDT_f NF (h' := h10) (fun a x y => F10 a x (by omega))
  refine OK_jb (vX14_makeNodes_l63 (e := e) _ _ (by exact cuM_f hc (fun a s y => by rw [F10 _ _ (by omega)]; exact F8 a s (by omega) (by omega))) (by (first | assumption | omega | ((try dsimp only [jt2, jt3, jt4]); first | omega | (simp (disch := omega) only [jst_eq, jst_ne, jst_ni, jst_o, jI_i, jcpy_out, w32_id, jdiv_nn, jshr_k, jand_255] <;> first | done | omega | assumption)) | (intros; simp (disch := omega) only [jst_eq, jst_ne, jst_ni, jst_o, jI_i, jcpy_out, w32_id, jdiv_nn, *] <;> first | done | omega) | (intros; simp (disch := omega) only [jst_eq, jst_ne, jst_ni, jst_o, jI_i, jcpy_out, w32_id, jdiv_nn] at * <;> first | done | omega | assumption) | (intros; first | rfl | (exfalso; omega) | ((repeat' apply And.intro) <;> first | assumption | rfl | omega | trivial)))) (by assumption) (by exact ⟨up1 (fun _ => 0) 0 ((0 : Nat) : Int), fun _ => 0, 1, N10, ⟨by omega, up1_e, rfl⟩, fun k k0 k1 => ⟨⟨Int.le_refl _, Int.le_refl _⟩, by rw [show k = 0 by omega, up1_e]; rfl⟩, by omega, fun k k0 k1 => rfl, Or.inr (fun k k0 k1 => by omega)⟩) (by (first | assumption | omega | ((try dsimp only [jt2, jt3, jt4]); first | omega | (simp (disch := omega) only [jst_eq, jst_ne, jst_ni, jst_o, jI_i, jcpy_out, w32_id, jdiv_nn, jshr_k, jand_255] <;> first | done | omega | assumption)) | (intros; simp (disch := omega) only [jst_eq, jst_ne, jst_ni, jst_o, jI_i, jcpy_out, w32_id, jdiv_nn, *] <;> first | done | omega) | (intros; simp (disch := omega) only [jst_eq, jst_ne, jst_ni, jst_o, jI_i, jcpy_out, w32_id, jdiv_nn] at * <;> first | done | omega | assumption) | (intros; first | rfl | (exfalso; omega) | ((repeat' apply And.intro) <;> first | assumption | rfl | omega | trivial))))) (fun o11 r5 => ?_)
  try dsimp only [Sum.elim_inl, Sum.elim_inr, jt2, jt3, jt4, jt5, jt6, jt7, jt8] at r5
  obtain ⟨L5, fr5⟩ := r5
  try simp (disch := omega) only [jst_eq, jst_ne, jst_ni, jI_i, jcmp_lt, jcmp_gt, w32_id, jcpy_out, Sum.elim_inl, Sum.elim_inr, jt2, jt3, jt4, jt5, jt6, jt7, jt8] at L5
  try simp (disch := omega) only [jst_eq, jst_ne, jst_ni, jI_i, jcmp_lt, jcmp_gt, w32_id, jcpy_out, Sum.elim_inl, Sum.elim_inr, jt2, jt3, jt4, jt5, jt6, jt7, jt8] at fr5
  have F11 : ∀ a x, ¬ (a = 454 ∧ x = 114) → ¬ ((a = 821 ∨ a = 822 ∨ a = 828) ∧ 0 ≤ x) → o11 a x = h10 a x := by assumption
  have G11 := GRI_f gi4 n8.2 (fun a x y1 y2 => F11 a x (by omega) (by omega))
  obtain ⟨a, t, d, N, L⟩ := L5
  have LC := L.1.1
  have LN := L.1.2.1
  refine OK_if (fun c1 => ?_) (fun c1 => ?_)
  · skip
    try simp (disch := omega) only [jst_eq, jst_ne, jst_ni, jI_i, jcmp_lt, jcmp_gt, w32_id, jcpy_out, Sum.elim_inl, Sum.elim_inr, jt2, jt3, jt4, jt5, jt6, jt7, jt8] at c1
    refine OK_some ?_
    try dsimp only [Sum.elim_inl, Sum.elim_inr, jt2, jt3, jt4, jt5, jt6, jt7, jt8]
    try dsimp only [Sum.elim_inl, Sum.elim_inr, jt2, jt3, jt4, jt5, jt6, jt7, jt8]
    refine ⟨?_, ?_⟩
    · exact ⟨G11, Or.inr ⟨rfl, LVM_o L (by omega)⟩⟩ -- o16 e1.1
    · exact fun a x y1 y2 => by rw [F11 a x y1 (by omega), F10 a x (by omega)]; exact F8 a x y1 (by omega) -- o17 e1.2
  · skip
    try simp (disch := omega) only [jst_eq, jst_ne, jst_ni, jI_i, jcmp_lt, jcmp_gt, w32_id, jcpy_out, Sum.elim_inl, Sum.elim_inr, jt2, jt3, jt4, jt5, jt6, jt7, jt8] at c1
    refine OK_some ?_
    try dsimp only [Sum.elim_inl, Sum.elim_inr, jt2, jt3, jt4, jt5, jt6, jt7, jt8]
    try dsimp only [Sum.elim_inl, Sum.elim_inr, jt2, jt3, jt4, jt5, jt6, jt7, jt8]
    refine ⟨?_, ?_⟩
    · exact ⟨G11, Or.inl ⟨rfl, t, d, N, LVM_d L (by omega)⟩⟩ -- o18 e2.1
    · exact fun a x y1 y2 => by rw [F11 a x y1 (by omega), F10 a x (by omega)]; exact F8 a x y1 (by omega) -- o19 e2.2

