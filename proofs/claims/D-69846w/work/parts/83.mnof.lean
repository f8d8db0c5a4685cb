/-! m: nodes are put into the table -/
theorem vX14_nodeOf_l4 (a10 : Int) (a20 : Int) {h : AH} {e : CE} {w : Nat} (hc : h 454 109 = e.1 ∧ 0 ≤ e.1 ∧ e.1 ≤ 8) (hr : rwQ h e w) (h0 : a10 = 0 ∧ a20 = 0) : OK (gX14_nodeOf_l4 a10 a20 h) (fun v => v = hsQ w e.1.toNat) := by
  unfold gX14_nodeOf_l4
  refine OK_jit (I := (fun (s : Int × Int) => jt2 s fun a1 a2 => (0 ≤ a2 ∧ a2 ≤ e.1) ∧ (a1 = hsQ w a2.toNat))) (m := (fun (s : Int × Int) => jt2 s fun a1 a2 => (e.1 - a2).toNat)) ?_ ?_
  · intro s hs
    obtain ⟨a1, a2⟩ := s
    dsimp only [Sum.elim_inl, Sum.elim_inr, jt2, jt3, jt4, jt5, jt6, jt7, jt8] at hs
    obtain ⟨q0, q1⟩ := hs
    unfold gX14_nodeOf_b4
    refine OK_jt2 ?_
    have F9 := hc.1
    have ea : ((a2.toNat : Nat) : Int) = a2 := by omega
    refine OK_if (fun c1 => ?_) (fun c1 => ?_)
    · skip
      try simp (disch := omega) only [jst_eq, jst_ne, jst_ni, jI_i, jcmp_lt, jcmp_gt, w32_id, jcpy_out, Sum.elim_inl, Sum.elim_inr, jt2, jt3, jt4, jt5, jt6, jt7, jt8] at c1
      refine OK_ir ?_
      (rw [q1, show a2.toNat = e.1.toNat by omega]) -- o1 e1
    · skip
      try simp (disch := omega) only [jst_eq, jst_ne, jst_ni, jI_i, jcmp_lt, jcmp_gt, w32_id, jcpy_out, Sum.elim_inl, Sum.elim_inr, jt2, jt3, jt4, jt5, jt6, jt7, jt8] at c1
      have R3 : h 828 a2 = ((nb w a2.toNat : Nat) : Int) := by { have := hr a2.toNat (by omega); rw [ea] at this; exact this }
      rw [R3]
      refine OK_jg (by (first | assumption | omega | ((try dsimp only [jt2, jt3, jt4]); first | omega | (simp (disch := omega) only [jst_eq, jst_ne, jst_ni, jst_o, jI_i, jcpy_out, w32_id, jdiv_nn, jshr_k, jand_255] <;> first | done | omega | assumption)) | (intros; simp (disch := omega) only [jst_eq, jst_ne, jst_ni, jst_o, jI_i, jcpy_out, w32_id, jdiv_nn, *] <;> first | done | omega) | (intros; simp (disch := omega) only [jst_eq, jst_ne, jst_ni, jst_o, jI_i, jcpy_out, w32_id, jdiv_nn] at * <;> first | done | omega | assumption) | (intros; first | rfl | (exfalso; omega) | ((repeat' apply And.intro) <;> first | assumption | rfl | omega | trivial)))) ?_ -- o2
      refine OK_jlx (fun x14 ex14 => ?_)
      try simp (disch := omega) only [jst_eq, jst_ne, jst_ni, jI_i, jcmp_lt, jcmp_gt, w32_id, jcpy_out, Sum.elim_inl, Sum.elim_inr, jt2, jt3, jt4, jt5, jt6, jt7, jt8] at ex14
      refine OK_jlx (fun x15 ex15 => ?_)
      try simp (disch := omega) only [jst_eq, jst_ne, jst_ni, jI_i, jcmp_lt, jcmp_gt, w32_id, jcpy_out, Sum.elim_inl, Sum.elim_inr, jt2, jt3, jt4, jt5, jt6, jt7, jt8] at ex15
      refine OK_il ?_ ?_
      · try dsimp only [Sum.elim_inl, Sum.elim_inr, jt2, jt3, jt4, jt5, jt6, jt7, jt8]
        refine ⟨?_, ?_⟩
        · (first | assumption | omega | ((try dsimp only [jt2, jt3, jt4]); first | omega | (simp (disch := omega) only [jst_eq, jst_ne, jst_ni, jst_o, jI_i, jcpy_out, w32_id, jdiv_nn, jshr_k, jand_255] <;> first | done | omega | assumption)) | (intros; simp (disch := omega) only [jst_eq, jst_ne, jst_ni, jst_o, jI_i, jcpy_out, w32_id, jdiv_nn, *] <;> first | done | omega) | (intros; simp (disch := omega) only [jst_eq, jst_ne, jst_ni, jst_o, jI_i, jcpy_out, w32_id, jdiv_nn] at * <;> first | done | omega | assumption) | (intros; first | rfl | (exfalso; omega) | ((repeat' apply And.intro) <;> first | assumption | rfl | omega | trivial))) -- o3 e2i.1
        · (rw [ex15, show (a2 + 1).toNat = a2.toNat + 1 by omega, hsQ_s, ← q1]; omega) -- o4 e2i.2
      · (first | assumption | omega | ((try dsimp only [jt2, jt3, jt4]); first | omega | (simp (disch := omega) only [jst_eq, jst_ne, jst_ni, jst_o, jI_i, jcpy_out, w32_id, jdiv_nn, jshr_k, jand_255] <;> first | done | omega | assumption)) | (intros; simp (disch := omega) only [jst_eq, jst_ne, jst_ni, jst_o, jI_i, jcpy_out, w32_id, jdiv_nn, *] <;> first | done | omega) | (intros; simp (disch := omega) only [jst_eq, jst_ne, jst_ni, jst_o, jI_i, jcpy_out, w32_id, jdiv_nn] at * <;> first | done | omega | assumption) | (intros; first | rfl | (exfalso; omega) | ((repeat' apply And.intro) <;> first | assumption | rfl | omega | trivial))) -- o5 e2m
  · try dsimp only [Sum.elim_inl, Sum.elim_inr, jt2, jt3, jt4, jt5, jt6, jt7, jt8]
    refine ⟨?_, ?_⟩
    · (first | assumption | omega | ((try dsimp only [jt2, jt3, jt4]); first | omega | (simp (disch := omega) only [jst_eq, jst_ne, jst_ni, jst_o, jI_i, jcpy_out, w32_id, jdiv_nn, jshr_k, jand_255] <;> first | done | omega | assumption)) | (intros; simp (disch := omega) only [jst_eq, jst_ne, jst_ni, jst_o, jI_i, jcpy_out, w32_id, jdiv_nn, *] <;> first | done | omega) | (intros; simp (disch := omega) only [jst_eq, jst_ne, jst_ni, jst_o, jI_i, jcpy_out, w32_id, jdiv_nn] at * <;> first | done | omega | assumption) | (intros; first | rfl | (exfalso; omega) | ((repeat' apply And.intro) <;> first | assumption | rfl | omega | trivial))) -- o6 init.1
    · (rw [h0.1, h0.2]; rfl) -- o7 init.2
theorem vX14_nodeOf_l55 (i2 : Int) (a30 : Int) (a40 : Int) {h : AH} {e : CE} {u w : Nat} {k : Int} (hc : h 454 109 = e.1 ∧ 0 ≤ e.1 ∧ e.1 ≤ 8) (hr : rwQ h e w) (hk : h 822 i2 = k + 1 ∧ 0 ≤ k ∧ k ≤ 401 ∧ 0 ≤ i2 ∧ i2 < 1024) (hn : ndQ h e k u) (h4 : a30 = 1 ∧ a40 = 0) : OK (gX14_nodeOf_l55 i2 a30 a40 h) (fun v => (v = 1 ∧ ∀ r : Nat, (r : Int) < e.1 → nb u r = nb w r) ∨ (v = 0 ∧ ∃ r : Nat, (r : Int) < e.1 ∧ nb u r ≠ nb w r)) := by
  unfold gX14_nodeOf_l55
  refine OK_jit (I := (fun (s : Int × Int) => jt2 s fun a3 a4 => (0 ≤ a4 ∧ a4 ≤ e.1) ∧ ((a3 = 1 ∧ ∀ r : Nat, (r : Int) < a4 → nb u r = nb w r) ∨ (a3 = 0 ∧ ∃ r : Nat, (r : Int) < e.1 ∧ nb u r ≠ nb w r)))) (m := (fun (s : Int × Int) => jt2 s fun a3 a4 => (e.1 - a4).toNat)) ?_ ?_
  · intro s hs
    obtain ⟨a3, a4⟩ := s
    dsimp only [Sum.elim_inl, Sum.elim_inr, jt2, jt3, jt4, jt5, jt6, jt7, jt8] at hs
    obtain ⟨q0, q1⟩ := hs
    unfold gX14_nodeOf_b55
    refine OK_jt2 ?_
    have F9 := hc.1
    have ea : ((a4.toNat : Nat) : Int) = a4 := by omega
    have K1 := hk.1
    refine OK_if (fun c1 => ?_) (fun c1 => ?_)
    · skip
      try simp (disch := omega) only [jst_eq, jst_ne, jst_ni, jI_i, jcmp_lt, jcmp_gt, w32_id, jcpy_out, Sum.elim_inl, Sum.elim_inr, jt2, jt3, jt4, jt5, jt6, jt7, jt8] at c1
      refine OK_ir ?_
      (rcases q1 with q | q; { exact Or.inl ⟨q.1, fun r l => q.2 r (by omega)⟩ }; { exact Or.inr q }) -- o1 e1
    · skip
      try simp (disch := omega) only [jst_eq, jst_ne, jst_ni, jI_i, jcmp_lt, jcmp_gt, w32_id, jcpy_out, Sum.elim_inl, Sum.elim_inr, jt2, jt3, jt4, jt5, jt6, jt7, jt8] at c1
      refine OK_if (fun c2 => ?_) (fun c2 => ?_)
      · skip
        try simp (disch := omega) only [jst_eq, jst_ne, jst_ni, jI_i, jcmp_lt, jcmp_gt, w32_id, jcpy_out, Sum.elim_inl, Sum.elim_inr, jt2, jt3, jt4, jt5, jt6, jt7, jt8] at c2
        refine OK_ir ?_
        (rcases q1 with q | q; { have := q.1; omega }; { exact Or.inr q }) -- o2 e2
      · skip
        try simp (disch := omega) only [jst_eq, jst_ne, jst_ni, jI_i, jcmp_lt, jcmp_gt, w32_id, jcpy_out, Sum.elim_inl, Sum.elim_inr, jt2, jt3, jt4, jt5, jt6, jt7, jt8] at c2
        have R5 : h 828 a4 = ((nb w a4.toNat : Nat) : Int) := by { have := hr a4.toNat (by omega); rw [ea] at this; exact this }
        have N5 := hn a4 q0.1 (by omega)
        have W1 : w32 (w32 (8 * w32 (h 822 i2 - 1)) + a4) = 8 * k + a4 := by { rw [K1, w32_id (x := k + 1 - 1) (by omega) (by omega), w32_id (x := 8 * (k + 1 - 1)) (by omega) (by omega), w32_id (by omega) (by omega)]; omega }
        rw [W1, R5, N5]
        have Q1 := q1.resolve_right (fun z => c2 z.1)
        refine OK_jg (by (first | assumption | omega | ((try dsimp only [jt2, jt3, jt4]); first | omega | (simp (disch := omega) only [jst_eq, jst_ne, jst_ni, jst_o, jI_i, jcpy_out, w32_id, jdiv_nn, jshr_k, jand_255] <;> first | done | omega | assumption)) | (intros; simp (disch := omega) only [jst_eq, jst_ne, jst_ni, jst_o, jI_i, jcpy_out, w32_id, jdiv_nn, *] <;> first | done | omega) | (intros; simp (disch := omega) only [jst_eq, jst_ne, jst_ni, jst_o, jI_i, jcpy_out, w32_id, jdiv_nn] at * <;> first | done | omega | assumption) | (intros; first | rfl | (exfalso; omega) | ((repeat' apply And.intro) <;> first | assumption | rfl | omega | trivial)))) ?_ -- o3
        refine OK_jg (by (first | assumption | omega | ((try dsimp only [jt2, jt3, jt4]); first | omega | (simp (disch := omega) only [jst_eq, jst_ne, jst_ni, jst_o, jI_i, jcpy_out, w32_id, jdiv_nn, jshr_k, jand_255] <;> first | done | omega | assumption)) | (intros; simp (disch := omega) only [jst_eq, jst_ne, jst_ni, jst_o, jI_i, jcpy_out, w32_id, jdiv_nn, *] <;> first | done | omega) | (intros; simp (disch := omega) only [jst_eq, jst_ne, jst_ni, jst_o, jI_i, jcpy_out, w32_id, jdiv_nn] at * <;> first | done | omega | assumption) | (intros; first | rfl | (exfalso; omega) | ((repeat' apply And.intro) <;> first | assumption | rfl | omega | trivial)))) ?_ -- o4
        refine OK_jg (by (first | assumption | omega | ((try dsimp only [jt2, jt3, jt4]); first | omega | (simp (disch := omega) only [jst_eq, jst_ne, jst_ni, jst_o, jI_i, jcpy_out, w32_id, jdiv_nn, jshr_k, jand_255] <;> first | done | omega | assumption)) | (intros; simp (disch := omega) only [jst_eq, jst_ne, jst_ni, jst_o, jI_i, jcpy_out, w32_id, jdiv_nn, *] <;> first | done | omega) | (intros; simp (disch := omega) only [jst_eq, jst_ne, jst_ni, jst_o, jI_i, jcpy_out, w32_id, jdiv_nn] at * <;> first | done | omega | assumption) | (intros; first | rfl | (exfalso; omega) | ((repeat' apply And.intro) <;> first | assumption | rfl | omega | trivial)))) ?_ -- o5
        refine OK_if (fun c3 => ?_) (fun c3 => ?_)
        · skip
          try simp (disch := omega) only [jst_eq, jst_ne, jst_ni, jI_i, jcmp_lt, jcmp_gt, w32_id, jcpy_out, Sum.elim_inl, Sum.elim_inr, jt2, jt3, jt4, jt5, jt6, jt7, jt8] at c3
          unfold gX14_nodeOf_j102_55
          refine OK_jlx (fun x24 ex24 => ?_)
          try simp (disch := omega) only [jst_eq, jst_ne, jst_ni, jI_i, jcmp_lt, jcmp_gt, w32_id, jcpy_out, Sum.elim_inl, Sum.elim_inr, jt2, jt3, jt4, jt5, jt6, jt7, jt8] at ex24
          refine OK_il ?_ ?_
          · try dsimp only [Sum.elim_inl, Sum.elim_inr, jt2, jt3, jt4, jt5, jt6, jt7, jt8]
            refine ⟨?_, ?_⟩
            · (first | assumption | omega | ((try dsimp only [jt2, jt3, jt4]); first | omega | (simp (disch := omega) only [jst_eq, jst_ne, jst_ni, jst_o, jI_i, jcpy_out, w32_id, jdiv_nn, jshr_k, jand_255] <;> first | done | omega | assumption)) | (intros; simp (disch := omega) only [jst_eq, jst_ne, jst_ni, jst_o, jI_i, jcpy_out, w32_id, jdiv_nn, *] <;> first | done | omega) | (intros; simp (disch := omega) only [jst_eq, jst_ne, jst_ni, jst_o, jI_i, jcpy_out, w32_id, jdiv_nn] at * <;> first | done | omega | assumption) | (intros; first | rfl | (exfalso; omega) | ((repeat' apply And.intro) <;> first | assumption | rfl | omega | trivial))) -- o6 e3i.1
            · (left; refine ⟨rfl, fun r l => ?_⟩; by_cases y : (r : Int) = a4; { rw [show r = a4.toNat by omega]; omega }; { exact Q1.2 r (by omega) }) -- o7 e3i.2
          · (first | assumption | omega | ((try dsimp only [jt2, jt3, jt4]); first | omega | (simp (disch := omega) only [jst_eq, jst_ne, jst_ni, jst_o, jI_i, jcpy_out, w32_id, jdiv_nn, jshr_k, jand_255] <;> first | done | omega | assumption)) | (intros; simp (disch := omega) only [jst_eq, jst_ne, jst_ni, jst_o, jI_i, jcpy_out, w32_id, jdiv_nn, *] <;> first | done | omega) | (intros; simp (disch := omega) only [jst_eq, jst_ne, jst_ni, jst_o, jI_i, jcpy_out, w32_id, jdiv_nn] at * <;> first | done | omega | assumption) | (intros; first | rfl | (exfalso; omega) | ((repeat' apply And.intro) <;> first | assumption | rfl | omega | trivial))) -- o8 e3m
        · skip
          try simp (disch := omega) only [jst_eq, jst_ne, jst_ni, jI_i, jcmp_lt, jcmp_gt, w32_id, jcpy_out, Sum.elim_inl, Sum.elim_inr, jt2, jt3, jt4, jt5, jt6, jt7, jt8] at c3
          unfold gX14_nodeOf_j102_55
          refine OK_jlx (fun x24 ex24 => ?_)
          try simp (disch := omega) only [jst_eq, jst_ne, jst_ni, jI_i, jcmp_lt, jcmp_gt, w32_id, jcpy_out, Sum.elim_inl, Sum.elim_inr, jt2, jt3, jt4, jt5, jt6, jt7, jt8] at ex24
          refine OK_il ?_ ?_
          · try dsimp only [Sum.elim_inl, Sum.elim_inr, jt2, jt3, jt4, jt5, jt6, jt7, jt8]
            refine ⟨?_, ?_⟩
            · (first | assumption | omega | ((try dsimp only [jt2, jt3, jt4]); first | omega | (simp (disch := omega) only [jst_eq, jst_ne, jst_ni, jst_o, jI_i, jcpy_out, w32_id, jdiv_nn, jshr_k, jand_255] <;> first | done | omega | assumption)) | (intros; simp (disch := omega) only [jst_eq, jst_ne, jst_ni, jst_o, jI_i, jcpy_out, w32_id, jdiv_nn, *] <;> first | done | omega) | (intros; simp (disch := omega) only [jst_eq, jst_ne, jst_ni, jst_o, jI_i, jcpy_out, w32_id, jdiv_nn] at * <;> first | done | omega | assumption) | (intros; first | rfl | (exfalso; omega) | ((repeat' apply And.intro) <;> first | assumption | rfl | omega | trivial))) -- o9 e4i.1
            · (right; exact ⟨rfl, a4.toNat, by omega, by omega⟩) -- o10 e4i.2
          · (first | assumption | omega | ((try dsimp only [jt2, jt3, jt4]); first | omega | (simp (disch := omega) only [jst_eq, jst_ne, jst_ni, jst_o, jI_i, jcpy_out, w32_id, jdiv_nn, jshr_k, jand_255] <;> first | done | omega | assumption)) | (intros; simp (disch := omega) only [jst_eq, jst_ne, jst_ni, jst_o, jI_i, jcpy_out, w32_id, jdiv_nn, *] <;> first | done | omega) | (intros; simp (disch := omega) only [jst_eq, jst_ne, jst_ni, jst_o, jI_i, jcpy_out, w32_id, jdiv_nn] at * <;> first | done | omega | assumption) | (intros; first | rfl | (exfalso; omega) | ((repeat' apply And.intro) <;> first | assumption | rfl | omega | trivial))) -- o11 e4m
  · try dsimp only [Sum.elim_inl, Sum.elim_inr, jt2, jt3, jt4, jt5, jt6, jt7, jt8]
    refine ⟨?_, ?_⟩
    · (first | assumption | omega | ((try dsimp only [jt2, jt3, jt4]); first | omega | (simp (disch := omega) only [jst_eq, jst_ne, jst_ni, jst_o, jI_i, jcpy_out, w32_id, jdiv_nn, jshr_k, jand_255] <;> first | done | omega | assumption)) | (intros; simp (disch := omega) only [jst_eq, jst_ne, jst_ni, jst_o, jI_i, jcpy_out, w32_id, jdiv_nn, *] <;> first | done | omega) | (intros; simp (disch := omega) only [jst_eq, jst_ne, jst_ni, jst_o, jI_i, jcpy_out, w32_id, jdiv_nn] at * <;> first | done | omega | assumption) | (intros; first | rfl | (exfalso; omega) | ((repeat' apply And.intro) <;> first | assumption | rfl | omega | trivial))) -- o12 init.1
    · (left; exact ⟨h4.1, fun r l => by omega⟩) -- o13 init.2
theorem vX14_nodeOf_l41 (a20 : Int) {h : AH} {e : CE} {t : Int → Int} {N D : Int} {w : Nat} (hc : h 454 109 = e.1 ∧ 0 ≤ e.1 ∧ e.1 ≤ 8) (hr : rwQ h e w) (sw : stU e w) (nd : NDT h e t N) (h3 : a20 = kyQ e w) (hD : 0 ≤ D ∧ D < 1024 ∧ h 822 (slP 1024 (kyQ e w) D) = 0) : OK (gX14_nodeOf_l41 a20 h) (Sum.elim (fun p => (0 ≤ p ∧ p < 1024) ∧ (1 ≤ h 822 p ∧ h 822 p ≤ N) ∧ t (h 822 p - 1) = w) (fun o => (∃ d, 0 ≤ d ∧ d < 1024 ∧ o = slP 1024 (kyQ e w) d ∧ h 822 o = 0 ∧ ∀ x, 0 ≤ x → x < d → h 822 (slP 1024 (kyQ e w) x) ≠ 0) ∧ (∀ k, 0 ≤ k → k < N → t k ≠ w))) := by
  have hb := kyQ_b e w
  obtain ⟨n1, n2, n3, n4, n5⟩ := nd
  unfold gX14_nodeOf_l41
  refine OK_jit (I := (fun (a2 : Int) => (0 ≤ a2 ∧ a2 < 1024 ∧ (a2 - kyQ e w) % 1024 ≤ D) ∧ (∀ d, 0 ≤ d → d < (a2 - kyQ e w) % 1024 → h 822 (slP 1024 (kyQ e w) d) ≠ 0 ∧ t (h 822 (slP 1024 (kyQ e w) d) - 1) ≠ w))) (m := (fun (a2 : Int) => (D - (a2 - kyQ e w) % 1024).toNat)) ?_ ?_
  · intro a2 hs
    try dsimp only at hs
    obtain ⟨q0, q1⟩ := hs
    unfold gX14_nodeOf_b41
    have tb := n5.2.2.1 a2 q0.1 q0.2.1
    have sl : slP 1024 (kyQ e w) ((a2 - kyQ e w) % 1024) = a2 := slP_i (by omega) q0.1 q0.2.1
    have nx : jand (a2 + 1) 1023 = (a2 + 1) % 1024 := jand_1023 _
    have nD : h 822 a2 ≠ 0 → (a2 - kyQ e w) % 1024 ≠ D := fun z w => by rw [w] at sl; rw [sl] at hD; exact z hD.2.2
    have st : h 822 a2 ≠ 0 → t (h 822 a2 - 1) ≠ w → ∀ d, 0 ≤ d → d < (jand (a2 + 1) 1023 - kyQ e w) % 1024 → h 822 (slP 1024 (kyQ e w) d) ≠ 0 ∧ t (h 822 (slP 1024 (kyQ e w) d) - 1) ≠ w := fun y1 y2 d d0 d1 => by have := nD y1; rw [nx] at d1; by_cases y : d = (a2 - kyQ e w) % 1024; { rw [y, sl]; exact ⟨y1, y2⟩ }; { exact q1 d d0 (by omega) }
    refine OK_jg (by (first | assumption | omega | ((try dsimp only [jt2, jt3, jt4]); first | omega | (simp (disch := omega) only [jst_eq, jst_ne, jst_ni, jst_o, jI_i, jcpy_out, w32_id, jdiv_nn, jshr_k, jand_255] <;> first | done | omega | assumption)) | (intros; simp (disch := omega) only [jst_eq, jst_ne, jst_ni, jst_o, jI_i, jcpy_out, w32_id, jdiv_nn, *] <;> first | done | omega) | (intros; simp (disch := omega) only [jst_eq, jst_ne, jst_ni, jst_o, jI_i, jcpy_out, w32_id, jdiv_nn] at * <;> first | done | omega | assumption) | (intros; first | rfl | (exfalso; omega) | ((repeat' apply And.intro) <;> first | assumption | rfl | omega | trivial)))) ?_ -- o1
    refine OK_if (fun c1 => ?_) (fun c1 => ?_)
    · skip
      try simp (disch := omega) only [jst_eq, jst_ne, jst_ni, jI_i, jcmp_lt, jcmp_gt, w32_id, jcpy_out, Sum.elim_inl, Sum.elim_inr, jt2, jt3, jt4, jt5, jt6, jt7, jt8] at c1
      refine OK_ir ?_
      try dsimp only [Sum.elim_inl, Sum.elim_inr, jt2, jt3, jt4, jt5, jt6, jt7, jt8]
      refine ⟨?_, ?_⟩
      · exact ⟨(a2 - kyQ e w) % 1024, by omega, by omega, sl.symm, by omega, fun d d0 d1 => (q1 d d0 d1).1⟩ -- o2 e1.1
      · (intro k k0 k1 kw; obtain ⟨d, d0, d1, d2⟩ := prT_m n5 (x := kyQ e w) (D := (a2 - kyQ e w) % 1024) (by omega) (by rw [sl]; omega) k0 k1 (by show kyQ e (t k).toNat = _; rw [kw, show ((w : Int)).toNat = w by omega]); refine (q1 d d0 d1).2 ?_; rw [d2, show k + 1 - 1 = k by omega]; exact kw) -- o3 e1.2
    · skip
      try simp (disch := omega) only [jst_eq, jst_ne, jst_ni, jI_i, jcmp_lt, jcmp_gt, w32_id, jcpy_out, Sum.elim_inl, Sum.elim_inr, jt2, jt3, jt4, jt5, jt6, jt7, jt8] at c1
      obtain ⟨u, u1, u2, u3⟩ := n3 (h 822 a2 - 1) (by omega) (by omega)
      refine OK_jb (vX14_nodeOf_l55 (e := e) (u := u) (w := w) (k := h 822 a2 - 1) _ _ _ (by (first | assumption | omega | ((try dsimp only [jt2, jt3, jt4]); first | omega | (simp (disch := omega) only [jst_eq, jst_ne, jst_ni, jst_o, jI_i, jcpy_out, w32_id, jdiv_nn, jshr_k, jand_255] <;> first | done | omega | assumption)) | (intros; simp (disch := omega) only [jst_eq, jst_ne, jst_ni, jst_o, jI_i, jcpy_out, w32_id, jdiv_nn, *] <;> first | done | omega) | (intros; simp (disch := omega) only [jst_eq, jst_ne, jst_ni, jst_o, jI_i, jcpy_out, w32_id, jdiv_nn] at * <;> first | done | omega | assumption) | (intros; first | rfl | (exfalso; omega) | ((repeat' apply And.intro) <;> first | assumption | rfl | omega | trivial)))) (by (first | assumption | omega | ((try dsimp only [jt2, jt3, jt4]); first | omega | (simp (disch := omega) only [jst_eq, jst_ne, jst_ni, jst_o, jI_i, jcpy_out, w32_id, jdiv_nn, jshr_k, jand_255] <;> first | done | omega | assumption)) | (intros; simp (disch := omega) only [jst_eq, jst_ne, jst_ni, jst_o, jI_i, jcpy_out, w32_id, jdiv_nn, *] <;> first | done | omega) | (intros; simp (disch := omega) only [jst_eq, jst_ne, jst_ni, jst_o, jI_i, jcpy_out, w32_id, jdiv_nn] at * <;> first | done | omega | assumption) | (intros; first | rfl | (exfalso; omega) | ((repeat' apply And.intro) <;> first | assumption | rfl | omega | trivial)))) (by (first | assumption | omega | ((try dsimp only [jt2, jt3, jt4]); first | omega | (simp (disch := omega) only [jst_eq, jst_ne, jst_ni, jst_o, jI_i, jcpy_out, w32_id, jdiv_nn, jshr_k, jand_255] <;> first | done | omega | assumption)) | (intros; simp (disch := omega) only [jst_eq, jst_ne, jst_ni, jst_o, jI_i, jcpy_out, w32_id, jdiv_nn, *] <;> first | done | omega) | (intros; simp (disch := omega) only [jst_eq, jst_ne, jst_ni, jst_o, jI_i, jcpy_out, w32_id, jdiv_nn] at * <;> first | done | omega | assumption) | (intros; first | rfl | (exfalso; omega) | ((repeat' apply And.intro) <;> first | assumption | rfl | omega | trivial)))) (by (first | assumption | omega | ((try dsimp only [jt2, jt3, jt4]); first | omega | (simp (disch := omega) only [jst_eq, jst_ne, jst_ni, jst_o, jI_i, jcpy_out, w32_id, jdiv_nn, jshr_k, jand_255] <;> first | done | omega | assumption)) | (intros; simp (disch := omega) only [jst_eq, jst_ne, jst_ni, jst_o, jI_i, jcpy_out, w32_id, jdiv_nn, *] <;> first | done | omega) | (intros; simp (disch := omega) only [jst_eq, jst_ne, jst_ni, jst_o, jI_i, jcpy_out, w32_id, jdiv_nn] at * <;> first | done | omega | assumption) | (intros; first | rfl | (exfalso; omega) | ((repeat' apply And.intro) <;> first | assumption | rfl | omega | trivial)))) (by exact ⟨rfl, rfl⟩)) (fun o17 r1 => ?_)
      try dsimp only [Sum.elim_inl, Sum.elim_inr, jt2, jt3, jt4, jt5, jt6, jt7, jt8] at r1
      have q1 := r1
      clear r1
      try simp (disch := omega) only [jst_eq, jst_ne, jst_ni, jI_i, jcmp_lt, jcmp_gt, w32_id, jcpy_out, Sum.elim_inl, Sum.elim_inr, jt2, jt3, jt4, jt5, jt6, jt7, jt8] at q1
      have QQ : (o17 = 1 ∧ ∀ r : Nat, (r : Int) < e.1 → nb u r = nb w r) ∨ (o17 = 0 ∧ ∃ r : Nat, (r : Int) < e.1 ∧ nb u r ≠ nb w r) := by assumption
      unfold gX14_nodeOf_j109_41
      refine OK_if (fun c2 => ?_) (fun c2 => ?_)
      · skip
        try simp (disch := omega) only [jst_eq, jst_ne, jst_ni, jI_i, jcmp_lt, jcmp_gt, w32_id, jcpy_out, Sum.elim_inl, Sum.elim_inr, jt2, jt3, jt4, jt5, jt6, jt7, jt8] at c2
        have NE : t (h 822 a2 - 1) ≠ w := by { rw [u1]; intro z; rcases QQ with q | q; { have := q.1; omega }; { obtain ⟨r, r1, r2⟩ := q.2; exact r2 (by rw [show u = w by omega]) } }
        refine OK_jlx (fun x20 ex20 => ?_)
        try simp (disch := omega) only [jst_eq, jst_ne, jst_ni, jI_i, jcmp_lt, jcmp_gt, w32_id, jcpy_out, Sum.elim_inl, Sum.elim_inr, jt2, jt3, jt4, jt5, jt6, jt7, jt8] at ex20
        refine OK_il ?_ ?_
        · try dsimp only [Sum.elim_inl, Sum.elim_inr, jt2, jt3, jt4, jt5, jt6, jt7, jt8]
          refine ⟨?_, ?_⟩
          · (have := nD (by omega); rw [ex20, nx]; omega) -- o9 e2i.1
          · (rw [ex20]; exact st (by omega) NE) -- o10 e2i.2
        · (have := nD (by omega); rw [ex20, nx]; omega) -- o11 e2m
      · skip
        try simp (disch := omega) only [jst_eq, jst_ne, jst_ni, jI_i, jcmp_lt, jcmp_gt, w32_id, jcpy_out, Sum.elim_inl, Sum.elim_inr, jt2, jt3, jt4, jt5, jt6, jt7, jt8] at c2
        have EQ : t (h 822 a2 - 1) = w := by { rcases QQ with q | q; { rw [u1, st_ext u2 sw q.2] }; { exact absurd q.1 c2 } }
        refine OK_ir ?_
        exact ⟨⟨q0.1, q0.2.1⟩, ⟨by omega, by omega⟩, EQ⟩ -- o12 e3
  · try dsimp only [Sum.elim_inl, Sum.elim_inr, jt2, jt3, jt4, jt5, jt6, jt7, jt8]
    refine ⟨?_, ?_⟩
    · (first | assumption | omega | ((try dsimp only [jt2, jt3, jt4]); first | omega | (simp (disch := omega) only [jst_eq, jst_ne, jst_ni, jst_o, jI_i, jcpy_out, w32_id, jdiv_nn, jshr_k, jand_255] <;> first | done | omega | assumption)) | (intros; simp (disch := omega) only [jst_eq, jst_ne, jst_ni, jst_o, jI_i, jcpy_out, w32_id, jdiv_nn, *] <;> first | done | omega) | (intros; simp (disch := omega) only [jst_eq, jst_ne, jst_ni, jst_o, jI_i, jcpy_out, w32_id, jdiv_nn] at * <;> first | done | omega | assumption) | (intros; first | rfl | (exfalso; omega) | ((repeat' apply And.intro) <;> first | assumption | rfl | omega | trivial))) -- o13 init.1
    · (first | assumption | omega | ((try dsimp only [jt2, jt3, jt4]); first | omega | (simp (disch := omega) only [jst_eq, jst_ne, jst_ni, jst_o, jI_i, jcpy_out, w32_id, jdiv_nn, jshr_k, jand_255] <;> first | done | omega | assumption)) | (intros; simp (disch := omega) only [jst_eq, jst_ne, jst_ni, jst_o, jI_i, jcpy_out, w32_id, jdiv_nn, *] <;> first | done | omega) | (intros; simp (disch := omega) only [jst_eq, jst_ne, jst_ni, jst_o, jI_i, jcpy_out, w32_id, jdiv_nn] at * <;> first | done | omega | assumption) | (intros; first | rfl | (exfalso; omega) | ((repeat' apply And.intro) <;> first | assumption | rfl | omega | trivial))) -- o14 init.2
theorem NDT_a {h h' : AH} {e : CE} {t : Int → Int} {N d : Int} {w : Nat} (nd : NDT h e t N) (sw : stU e w) (N4 : N ≤ 400) (no : ∀ k, 0 ≤ k → k < N → t k ≠ w) (d0 : 0 ≤ d ∧ d < 1024) (z : h 822 (slP 1024 (kyQ e w) d) = 0) (ne : ∀ x, 0 ≤ x → x < d → h 822 (slP 1024 (kyQ e w) x) ≠ 0) (c : h' 454 114 = N + 1) (row : ∀ r, 0 ≤ r → r < e.1 → h' 821 (8 * N + r) = ((nb w r.toNat : Nat) : Int)) (f : ∀ x, x < 8 * N → h' 821 x = h 821 x) (g : ∀ x, h' 822 x = if x = slP 1024 (kyQ e w) d then N + 1 else h 822 x) (e8 : e.1 ≤ 8) : NDT h' e (up1 t N w) (N + 1) := by
  obtain ⟨n1, n2, n3, n4, n5⟩ := nd
  have kb := kyQ_b e w
  refine ⟨c, by omega, fun k k0 k1 => ?_, fun i j i0 ij j1 => ?_, ?_⟩
  · by_cases y : k = N
    · rw [y, up1_e]
      exact ⟨w, rfl, sw, row⟩
    · rw [up1_o y]
      obtain ⟨u, u1, u2, u3⟩ := n3 k k0 (by omega)
      exact ⟨u, u1, u2, fun r r0 r1 => by rw [f _ (by omega)]; exact u3 r r0 r1⟩
  · by_cases y : j = N
    · rw [y, up1_e, up1_o (by omega)]
      exact no i i0 (by omega)
    · rw [up1_o y, up1_o (by omega)]
      exact n4 i j i0 ij (by omega)
  · refine prT_c (prT_n n5 (x := kyQ e w) (D := d) kb.1 kb.2 d0.1 d0.2 z ne) (fun p p0 p1 => ?_) (fun k k0 k1 => ?_)
    · rw [g]
      by_cases y : p = slP 1024 (kyQ e w) d
      · rw [if_pos y, y, up1_e]
      · rw [if_neg y, up1_o y]
    · by_cases y : k = N
      · rw [y, up1_e, up1_e, show ((w : Int)).toNat = w by omega]
      · rw [up1_o y, up1_o y]
theorem vX14_nodeOf_l147 (i2 : Int) (a30 : Int) {h0 : AH} {e : CE} {w : Nat} {N : Int} (hc : h0 454 109 = e.1 ∧ 0 ≤ e.1 ∧ e.1 ≤ 8) (hr : rwQ h0 e w) (hN : h0 454 114 = N ∧ 0 ≤ N ∧ N ≤ 400) (h3 : a30 = 0) : OK (gX14_nodeOf_l147 i2 a30 h0) (fun h' => (∀ r, 0 ≤ r → r < e.1 → h' 821 (8 * N + r) = ((nb w r.toNat : Nat) : Int)) ∧ (∀ a x, ¬ (a = 821 ∧ 8 * N ≤ x ∧ x < 8 * N + 8) → h' a x = h0 a x)) := by
  unfold gX14_nodeOf_l147
  refine OK_jit (I := (fun (s : Int × AH) => jt2 s fun a3 h => (0 ≤ a3 ∧ a3 ≤ e.1) ∧ (∀ r, 0 ≤ r → r < a3 → h 821 (8 * N + r) = ((nb w r.toNat : Nat) : Int)) ∧ (∀ a x, ¬ (a = 821 ∧ 8 * N ≤ x ∧ x < 8 * N + 8) → h a x = h0 a x))) (m := (fun (s : Int × AH) => jt2 s fun a3 h => (e.1 - a3).toNat)) ?_ ?_
  · intro s hs
    obtain ⟨a3, h⟩ := s
    dsimp only [Sum.elim_inl, Sum.elim_inr, jt2, jt3, jt4, jt5, jt6, jt7, jt8] at hs
    obtain ⟨q0, q1, fr⟩ := hs
    unfold gX14_nodeOf_b147
    refine OK_jt2 ?_
    have F9 : h 454 109 = e.1 := by rw [fr _ _ (by omega)]; exact hc.1
    have F1 : h 454 114 = N := by rw [fr _ _ (by omega)]; exact hN.1
    have ea : ((a3.toNat : Nat) : Int) = a3 := by omega
    refine OK_if (fun c1 => ?_) (fun c1 => ?_)
    · skip
      try simp (disch := omega) only [jst_eq, jst_ne, jst_ni, jI_i, jcmp_lt, jcmp_gt, w32_id, jcpy_out, Sum.elim_inl, Sum.elim_inr, jt2, jt3, jt4, jt5, jt6, jt7, jt8] at c1
      refine OK_ir ?_
      try dsimp only [Sum.elim_inl, Sum.elim_inr, jt2, jt3, jt4, jt5, jt6, jt7, jt8]
      refine ⟨?_, ?_⟩
      · exact fun r r0 r1 => q1 r r0 (by omega) -- o1 e1.1
      · (first | assumption | omega | ((try dsimp only [jt2, jt3, jt4]); first | omega | (simp (disch := omega) only [jst_eq, jst_ne, jst_ni, jst_o, jI_i, jcpy_out, w32_id, jdiv_nn, jshr_k, jand_255] <;> first | done | omega | assumption)) | (intros; simp (disch := omega) only [jst_eq, jst_ne, jst_ni, jst_o, jI_i, jcpy_out, w32_id, jdiv_nn, *] <;> first | done | omega) | (intros; simp (disch := omega) only [jst_eq, jst_ne, jst_ni, jst_o, jI_i, jcpy_out, w32_id, jdiv_nn] at * <;> first | done | omega | assumption) | (intros; first | rfl | (exfalso; omega) | ((repeat' apply And.intro) <;> first | assumption | rfl | omega | trivial))) -- o2 e1.2
    · skip
      try simp (disch := omega) only [jst_eq, jst_ne, jst_ni, jI_i, jcmp_lt, jcmp_gt, w32_id, jcpy_out, Sum.elim_inl, Sum.elim_inr, jt2, jt3, jt4, jt5, jt6, jt7, jt8] at c1
      have R3 : h 828 a3 = ((nb w a3.toNat : Nat) : Int) := by { rw [fr _ _ (by omega)]; have := hr a3.toNat (by omega); rw [ea] at this; exact this }
      have W1 : w32 (w32 (8 * h 454 114) + a3) = 8 * N + a3 := by { rw [F1, w32_id (x := 8 * N) (by omega) (by omega), w32_id (by omega) (by omega)] }
      rw [W1, R3]
      refine OK_jg (by (first | assumption | omega | ((try dsimp only [jt2, jt3, jt4]); first | omega | (simp (disch := omega) only [jst_eq, jst_ne, jst_ni, jst_o, jI_i, jcpy_out, w32_id, jdiv_nn, jshr_k, jand_255] <;> first | done | omega | assumption)) | (intros; simp (disch := omega) only [jst_eq, jst_ne, jst_ni, jst_o, jI_i, jcpy_out, w32_id, jdiv_nn, *] <;> first | done | omega) | (intros; simp (disch := omega) only [jst_eq, jst_ne, jst_ni, jst_o, jI_i, jcpy_out, w32_id, jdiv_nn] at * <;> first | done | omega | assumption) | (intros; first | rfl | (exfalso; omega) | ((repeat' apply And.intro) <;> first | assumption | rfl | omega | trivial)))) ?_ -- o3
      refine OK_jg (by (first | assumption | omega | ((try dsimp only [jt2, jt3, jt4]); first | omega | (simp (disch := omega) only [jst_eq, jst_ne, jst_ni, jst_o, jI_i, jcpy_out, w32_id, jdiv_nn, jshr_k, jand_255] <;> first | done | omega | assumption)) | (intros; simp (disch := omega) only [jst_eq, jst_ne, jst_ni, jst_o, jI_i, jcpy_out, w32_id, jdiv_nn, *] <;> first | done | omega) | (intros; simp (disch := omega) only [jst_eq, jst_ne, jst_ni, jst_o, jI_i, jcpy_out, w32_id, jdiv_nn] at * <;> first | done | omega | assumption) | (intros; first | rfl | (exfalso; omega) | ((repeat' apply And.intro) <;> first | assumption | rfl | omega | trivial)))) ?_ -- o4
      refine OK_jl ?_
      refine OK_jlx (fun x27 ex27 => ?_)
      try simp (disch := omega) only [jst_eq, jst_ne, jst_ni, jI_i, jcmp_lt, jcmp_gt, w32_id, jcpy_out, Sum.elim_inl, Sum.elim_inr, jt2, jt3, jt4, jt5, jt6, jt7, jt8] at ex27
      refine OK_il ?_ ?_
      · try dsimp only [Sum.elim_inl, Sum.elim_inr, jt2, jt3, jt4, jt5, jt6, jt7, jt8]
        refine ⟨?_, ?_, ?_⟩
        · (first | assumption | omega | ((try dsimp only [jt2, jt3, jt4]); first | omega | (simp (disch := omega) only [jst_eq, jst_ne, jst_ni, jst_o, jI_i, jcpy_out, w32_id, jdiv_nn, jshr_k, jand_255] <;> first | done | omega | assumption)) | (intros; simp (disch := omega) only [jst_eq, jst_ne, jst_ni, jst_o, jI_i, jcpy_out, w32_id, jdiv_nn, *] <;> first | done | omega) | (intros; simp (disch := omega) only [jst_eq, jst_ne, jst_ni, jst_o, jI_i, jcpy_out, w32_id, jdiv_nn] at * <;> first | done | omega | assumption) | (intros; first | rfl | (exfalso; omega) | ((repeat' apply And.intro) <;> first | assumption | rfl | omega | trivial))) -- o5 e2i.1
        · (intro r r0 r1; by_cases y : r = a3; { rw [y, jst_eq] }; { rw [jst_ni (by omega)]; exact q1 r r0 (by omega) }) -- o6 e2i.2
        · exact fun a x y => by rw [jst_o (by omega)]; exact fr a x y -- o7 e2i.3
      · (first | assumption | omega | ((try dsimp only [jt2, jt3, jt4]); first | omega | (simp (disch := omega) only [jst_eq, jst_ne, jst_ni, jst_o, jI_i, jcpy_out, w32_id, jdiv_nn, jshr_k, jand_255] <;> first | done | omega | assumption)) | (intros; simp (disch := omega) only [jst_eq, jst_ne, jst_ni, jst_o, jI_i, jcpy_out, w32_id, jdiv_nn, *] <;> first | done | omega) | (intros; simp (disch := omega) only [jst_eq, jst_ne, jst_ni, jst_o, jI_i, jcpy_out, w32_id, jdiv_nn] at * <;> first | done | omega | assumption) | (intros; first | rfl | (exfalso; omega) | ((repeat' apply And.intro) <;> first | assumption | rfl | omega | trivial))) -- o8 e2m
  · try dsimp only [Sum.elim_inl, Sum.elim_inr, jt2, jt3, jt4, jt5, jt6, jt7, jt8]
    refine ⟨?_, ?_, ?_⟩
    · (first | assumption | omega | ((try dsimp only [jt2, jt3, jt4]); first | omega | (simp (disch := omega) only [jst_eq, jst_ne, jst_ni, jst_o, jI_i, jcpy_out, w32_id, jdiv_nn, jshr_k, jand_255] <;> first | done | omega | assumption)) | (intros; simp (disch := omega) only [jst_eq, jst_ne, jst_ni, jst_o, jI_i, jcpy_out, w32_id, jdiv_nn, *] <;> first | done | omega) | (intros; simp (disch := omega) only [jst_eq, jst_ne, jst_ni, jst_o, jI_i, jcpy_out, w32_id, jdiv_nn] at * <;> first | done | omega | assumption) | (intros; first | rfl | (exfalso; omega) | ((repeat' apply And.intro) <;> first | assumption | rfl | omega | trivial))) -- o9 init.1
    · (intro r r0 r1; omega) -- o10 init.2
    · exact fun _ _ _ => rfl -- o11 init.3
theorem vX14_nodeOf {h : AH} {e : CE} {t : Int → Int} {N : Int} {w : Nat} (hc : h 454 109 = e.1 ∧ 0 ≤ e.1 ∧ e.1 ≤ 8) (hr : rwQ h e w) (sw : stU e w) (nd : NDT h e t N) : OK (gX14_nodeOf h) (fun r => jt2 r fun v h' => (0 ≤ v ∧ v < N ∧ t v = w ∧ h' = h) ∨ (v = -1 ∧ N = 401 ∧ (∀ k, 0 ≤ k → k < N → t k ≠ w) ∧ h' = h) ∨ (v = N ∧ N ≤ 400 ∧ (∀ k, 0 ≤ k → k < N → t k ≠ w) ∧ NDT h' e (up1 t N w) (N + 1) ∧ ∀ a x, ¬ (a = 454 ∧ x = 114) → ¬ ((a = 821 ∨ a = 822) ∧ 0 ≤ x) → h' a x = h a x)) := by
  have nd' := nd
  obtain ⟨n1, n2, n3, n4, n5⟩ := nd'
  obtain ⟨D, hD⟩ := prT_e n5 (by omega) (kyQ e w)
  unfold gX14_nodeOf
  refine OK_jb (vX14_nodeOf_l4 (e := e) (w := w) _ _ (by (first | assumption | omega | ((try dsimp only [jt2, jt3, jt4]); first | omega | (simp (disch := omega) only [jst_eq, jst_ne, jst_ni, jst_o, jI_i, jcpy_out, w32_id, jdiv_nn, jshr_k, jand_255] <;> first | done | omega | assumption)) | (intros; simp (disch := omega) only [jst_eq, jst_ne, jst_ni, jst_o, jI_i, jcpy_out, w32_id, jdiv_nn, *] <;> first | done | omega) | (intros; simp (disch := omega) only [jst_eq, jst_ne, jst_ni, jst_o, jI_i, jcpy_out, w32_id, jdiv_nn] at * <;> first | done | omega | assumption) | (intros; first | rfl | (exfalso; omega) | ((repeat' apply And.intro) <;> first | assumption | rfl | omega | trivial)))) (by (first | assumption | omega | ((try dsimp only [jt2, jt3, jt4]); first | omega | (simp (disch := omega) only [jst_eq, jst_ne, jst_ni, jst_o, jI_i, jcpy_out, w32_id, jdiv_nn, jshr_k, jand_255] <;> first | done | omega | assumption)) | (intros; simp (disch := omega) only [jst_eq, jst_ne, jst_ni, jst_o, jI_i, jcpy_out, w32_id, jdiv_nn, *] <;> first | done | omega) | (intros; simp (disch := omega) only [jst_eq, jst_ne, jst_ni, jst_o, jI_i, jcpy_out, w32_id, jdiv_nn] at * <;> first | done | omega | assumption) | (intros; first | rfl | (exfalso; omega) | ((repeat' apply And.intro) <;> first | assumption | rfl | omega | trivial)))) (by exact ⟨rfl, rfl⟩)) (fun o1 r1 => ?_)
  try dsimp only [Sum.elim_inl, Sum.elim_inr, jt2, jt3, jt4, jt5, jt6, jt7, jt8] at r1
  have v1 := r1
  clear r1
  try simp (disch := omega) only [jst_eq, jst_ne, jst_ni, jI_i, jcmp_lt, jcmp_gt, w32_id, jcpy_out, Sum.elim_inl, Sum.elim_inr, jt2, jt3, jt4, jt5, jt6, jt7, jt8] at v1
  have V1 : o1 = hsQ w e.1.toNat := by { first | exact v1 | assumption }
  refine OK_jlx (fun x3 ex3 => ?_)
  try simp (disch := omega) only [jst_eq, jst_ne, jst_ni, jI_i, jcmp_lt, jcmp_gt, w32_id, jcpy_out, Sum.elim_inl, Sum.elim_inr, jt2, jt3, jt4, jt5, jt6, jt7, jt8] at ex3
  refine OK_jb (vX14_nodeOf_l41 (e := e) (t := t) (N := N) (D := D) (w := w) _ (by (first | assumption | omega | ((try dsimp only [jt2, jt3, jt4]); first | omega | (simp (disch := omega) only [jst_eq, jst_ne, jst_ni, jst_o, jI_i, jcpy_out, w32_id, jdiv_nn, jshr_k, jand_255] <;> first | done | omega | assumption)) | (intros; simp (disch := omega) only [jst_eq, jst_ne, jst_ni, jst_o, jI_i, jcpy_out, w32_id, jdiv_nn, *] <;> first | done | omega) | (intros; simp (disch := omega) only [jst_eq, jst_ne, jst_ni, jst_o, jI_i, jcpy_out, w32_id, jdiv_nn] at * <;> first | done | omega | assumption) | (intros; first | rfl | (exfalso; omega) | ((repeat' apply And.intro) <;> first | assumption | rfl | omega | trivial)))) (by (first | assumption | omega | ((try dsimp only [jt2, jt3, jt4]); first | omega | (simp (disch := omega) only [jst_eq, jst_ne, jst_ni, jst_o, jI_i, jcpy_out, w32_id, jdiv_nn, jshr_k, jand_255] <;> first | done | omega | assumption)) | (intros; simp (disch := omega) only [jst_eq, jst_ne, jst_ni, jst_o, jI_i, jcpy_out, w32_id, jdiv_nn, *] <;> first | done | omega) | (intros; simp (disch := omega) only [jst_eq, jst_ne, jst_ni, jst_o, jI_i, jcpy_out, w32_id, jdiv_nn] at * <;> first | done | omega | assumption) | (intros; first | rfl | (exfalso; omega) | ((repeat' apply And.intro) <;> first | assumption | rfl | omega | trivial)))) (by (first | assumption | omega | ((try dsimp only [jt2, jt3, jt4]); first | omega | (simp (disch := omega) only [jst_eq, jst_ne, jst_ni, jst_o, jI_i, jcpy_out, w32_id, jdiv_nn, jshr_k, jand_255] <;> first | done | omega | assumption)) | (intros; simp (disch := omega) only [jst_eq, jst_ne, jst_ni, jst_o, jI_i, jcpy_out, w32_id, jdiv_nn, *] <;> first | done | omega) | (intros; simp (disch := omega) only [jst_eq, jst_ne, jst_ni, jst_o, jI_i, jcpy_out, w32_id, jdiv_nn] at * <;> first | done | omega | assumption) | (intros; first | rfl | (exfalso; omega) | ((repeat' apply And.intro) <;> first | assumption | rfl | omega | trivial)))) (by (first | assumption | omega | ((try dsimp only [jt2, jt3, jt4]); first | omega | (simp (disch := omega) only [jst_eq, jst_ne, jst_ni, jst_o, jI_i, jcpy_out, w32_id, jdiv_nn, jshr_k, jand_255] <;> first | done | omega | assumption)) | (intros; simp (disch := omega) only [jst_eq, jst_ne, jst_ni, jst_o, jI_i, jcpy_out, w32_id, jdiv_nn, *] <;> first | done | omega) | (intros; simp (disch := omega) only [jst_eq, jst_ne, jst_ni, jst_o, jI_i, jcpy_out, w32_id, jdiv_nn] at * <;> first | done | omega | assumption) | (intros; first | rfl | (exfalso; omega) | ((repeat' apply And.intro) <;> first | assumption | rfl | omega | trivial)))) (by (rw [ex3, V1]; rfl)) (by (first | assumption | omega | ((try dsimp only [jt2, jt3, jt4]); first | omega | (simp (disch := omega) only [jst_eq, jst_ne, jst_ni, jst_o, jI_i, jcpy_out, w32_id, jdiv_nn, jshr_k, jand_255] <;> first | done | omega | assumption)) | (intros; simp (disch := omega) only [jst_eq, jst_ne, jst_ni, jst_o, jI_i, jcpy_out, w32_id, jdiv_nn, *] <;> first | done | omega) | (intros; simp (disch := omega) only [jst_eq, jst_ne, jst_ni, jst_o, jI_i, jcpy_out, w32_id, jdiv_nn] at * <;> first | done | omega | assumption) | (intros; first | rfl | (exfalso; omega) | ((repeat' apply And.intro) <;> first | assumption | rfl | omega | trivial))))) (fun o4 r2 => ?_)
  rcases o4 with o6 | o7
  · skip
    have r3 := r2; clear r2
    dsimp only [Sum.elim_inl, Sum.elim_inr] at r3
    try dsimp only [Sum.elim_inl, Sum.elim_inr, jt2, jt3, jt4, jt5, jt6, jt7, jt8] at r3
    have ye2 := r3
    clear r3
    try simp (disch := omega) only [jst_eq, jst_ne, jst_ni, jI_i, jcmp_lt, jcmp_gt, w32_id, jcpy_out, Sum.elim_inl, Sum.elim_inr, jt2, jt3, jt4, jt5, jt6, jt7, jt8] at ye2
    refine OK_jml ?_
    refine OK_jg (by (first | assumption | omega | ((try dsimp only [jt2, jt3, jt4]); first | omega | (simp (disch := omega) only [jst_eq, jst_ne, jst_ni, jst_o, jI_i, jcpy_out, w32_id, jdiv_nn, jshr_k, jand_255] <;> first | done | omega | assumption)) | (intros; simp (disch := omega) only [jst_eq, jst_ne, jst_ni, jst_o, jI_i, jcpy_out, w32_id, jdiv_nn, *] <;> first | done | omega) | (intros; simp (disch := omega) only [jst_eq, jst_ne, jst_ni, jst_o, jI_i, jcpy_out, w32_id, jdiv_nn] at * <;> first | done | omega | assumption) | (intros; first | rfl | (exfalso; omega) | ((repeat' apply And.intro) <;> first | assumption | rfl | omega | trivial)))) ?_ -- o10
    refine OK_some ?_
    try dsimp only [Sum.elim_inl, Sum.elim_inr, jt2, jt3, jt4, jt5, jt6, jt7, jt8]
    (have z : (0 ≤ o6 ∧ o6 < 1024) ∧ (1 ≤ h 822 o6 ∧ h 822 o6 ≤ N) ∧ t (h 822 o6 - 1) = w := (by assumption); rw [w32_id (by omega) (by omega)]; exact Or.inl ⟨by omega, by omega, z.2.2, rfl⟩) -- o11 e1
  · skip
    have r4 := r2; clear r2
    dsimp only [Sum.elim_inl, Sum.elim_inr] at r4
    try dsimp only [Sum.elim_inl, Sum.elim_inr, jt2, jt3, jt4, jt5, jt6, jt7, jt8] at r4
    obtain ⟨sl3, no3⟩ := r4
    try simp (disch := omega) only [jst_eq, jst_ne, jst_ni, jI_i, jcmp_lt, jcmp_gt, w32_id, jcpy_out, Sum.elim_inl, Sum.elim_inr, jt2, jt3, jt4, jt5, jt6, jt7, jt8] at sl3
    try simp (disch := omega) only [jst_eq, jst_ne, jst_ni, jI_i, jcmp_lt, jcmp_gt, w32_id, jcpy_out, Sum.elim_inl, Sum.elim_inr, jt2, jt3, jt4, jt5, jt6, jt7, jt8] at no3
    refine OK_jmr ?_
    refine OK_if (fun c1 => ?_) (fun c1 => ?_)
    · skip
      try simp (disch := omega) only [jst_eq, jst_ne, jst_ni, jI_i, jcmp_lt, jcmp_gt, w32_id, jcpy_out, Sum.elim_inl, Sum.elim_inr, jt2, jt3, jt4, jt5, jt6, jt7, jt8] at c1
      obtain ⟨d, d0, d1, eo, zo, ne⟩ := sl3
      have ob := slP_b (M := 1024) (h := kyQ e w) (d := d) (by omega)
      rw [← eo] at ob
      refine OK_jb (vX14_nodeOf_l147 (e := e) (w := w) (N := N) _ _ (by (first | assumption | omega | ((try dsimp only [jt2, jt3, jt4]); first | omega | (simp (disch := omega) only [jst_eq, jst_ne, jst_ni, jst_o, jI_i, jcpy_out, w32_id, jdiv_nn, jshr_k, jand_255] <;> first | done | omega | assumption)) | (intros; simp (disch := omega) only [jst_eq, jst_ne, jst_ni, jst_o, jI_i, jcpy_out, w32_id, jdiv_nn, *] <;> first | done | omega) | (intros; simp (disch := omega) only [jst_eq, jst_ne, jst_ni, jst_o, jI_i, jcpy_out, w32_id, jdiv_nn] at * <;> first | done | omega | assumption) | (intros; first | rfl | (exfalso; omega) | ((repeat' apply And.intro) <;> first | assumption | rfl | omega | trivial)))) (by (first | assumption | omega | ((try dsimp only [jt2, jt3, jt4]); first | omega | (simp (disch := omega) only [jst_eq, jst_ne, jst_ni, jst_o, jI_i, jcpy_out, w32_id, jdiv_nn, jshr_k, jand_255] <;> first | done | omega | assumption)) | (intros; simp (disch := omega) only [jst_eq, jst_ne, jst_ni, jst_o, jI_i, jcpy_out, w32_id, jdiv_nn, *] <;> first | done | omega) | (intros; simp (disch := omega) only [jst_eq, jst_ne, jst_ni, jst_o, jI_i, jcpy_out, w32_id, jdiv_nn] at * <;> first | done | omega | assumption) | (intros; first | rfl | (exfalso; omega) | ((repeat' apply And.intro) <;> first | assumption | rfl | omega | trivial)))) (by (first | assumption | omega | ((try dsimp only [jt2, jt3, jt4]); first | omega | (simp (disch := omega) only [jst_eq, jst_ne, jst_ni, jst_o, jI_i, jcpy_out, w32_id, jdiv_nn, jshr_k, jand_255] <;> first | done | omega | assumption)) | (intros; simp (disch := omega) only [jst_eq, jst_ne, jst_ni, jst_o, jI_i, jcpy_out, w32_id, jdiv_nn, *] <;> first | done | omega) | (intros; simp (disch := omega) only [jst_eq, jst_ne, jst_ni, jst_o, jI_i, jcpy_out, w32_id, jdiv_nn] at * <;> first | done | omega | assumption) | (intros; first | rfl | (exfalso; omega) | ((repeat' apply And.intro) <;> first | assumption | rfl | omega | trivial)))) (by (first | assumption | omega | ((try dsimp only [jt2, jt3, jt4]); first | omega | (simp (disch := omega) only [jst_eq, jst_ne, jst_ni, jst_o, jI_i, jcpy_out, w32_id, jdiv_nn, jshr_k, jand_255] <;> first | done | omega | assumption)) | (intros; simp (disch := omega) only [jst_eq, jst_ne, jst_ni, jst_o, jI_i, jcpy_out, w32_id, jdiv_nn, *] <;> first | done | omega) | (intros; simp (disch := omega) only [jst_eq, jst_ne, jst_ni, jst_o, jI_i, jcpy_out, w32_id, jdiv_nn] at * <;> first | done | omega | assumption) | (intros; first | rfl | (exfalso; omega) | ((repeat' apply And.intro) <;> first | assumption | rfl | omega | trivial))))) (fun o9 r5 => ?_)
      try dsimp only [Sum.elim_inl, Sum.elim_inr, jt2, jt3, jt4, jt5, jt6, jt7, jt8] at r5
      obtain ⟨ro4, fr4⟩ := r5
      try simp (disch := omega) only [jst_eq, jst_ne, jst_ni, jI_i, jcmp_lt, jcmp_gt, w32_id, jcpy_out, Sum.elim_inl, Sum.elim_inr, jt2, jt3, jt4, jt5, jt6, jt7, jt8] at ro4
      try simp (disch := omega) only [jst_eq, jst_ne, jst_ni, jI_i, jcmp_lt, jcmp_gt, w32_id, jcpy_out, Sum.elim_inl, Sum.elim_inr, jt2, jt3, jt4, jt5, jt6, jt7, jt8] at fr4
      refine OK_jg (by (first | assumption | omega | ((try dsimp only [jt2, jt3, jt4]); first | omega | (simp (disch := omega) only [jst_eq, jst_ne, jst_ni, jst_o, jI_i, jcpy_out, w32_id, jdiv_nn, jshr_k, jand_255] <;> first | done | omega | assumption)) | (intros; simp (disch := omega) only [jst_eq, jst_ne, jst_ni, jst_o, jI_i, jcpy_out, w32_id, jdiv_nn, *] <;> first | done | omega) | (intros; simp (disch := omega) only [jst_eq, jst_ne, jst_ni, jst_o, jI_i, jcpy_out, w32_id, jdiv_nn] at * <;> first | done | omega | assumption) | (intros; first | rfl | (exfalso; omega) | ((repeat' apply And.intro) <;> first | assumption | rfl | omega | trivial)))) ?_ -- o16
      refine OK_jl ?_
      refine OK_jl ?_
      refine OK_some ?_
      try dsimp only [Sum.elim_inl, Sum.elim_inr, jt2, jt3, jt4, jt5, jt6, jt7, jt8]
      (have FR : ∀ a x, ¬ (a = 821 ∧ 8 * N ≤ x ∧ x < 8 * N + 8) → o9 a x = h a x := (by assumption); have RO : ∀ r, 0 ≤ r → r < e.1 → o9 821 (8 * N + r) = ((nb w r.toNat : Nat) : Int) := (by assumption); have E1 : o9 454 114 = N := (by rw [FR _ _ (by omega)]; exact n1); have E2 : jst o9 822 o7 (w32 (o9 454 114 + 1)) 454 114 = N := (by rw [jst_ne (by decide)]; exact E1); rw [E2, E1, jst_eq, w32_id (x := N + 1) (by omega) (by omega), w32_id (x := N + 1 - 1) (by omega) (by omega)]; refine Or.inr (Or.inr ⟨by omega, by omega, no3, NDT_a nd sw (by omega) no3 ⟨d0, d1⟩ (by rw [← eo]; exact zo) ne jst_eq (fun r r0 r1 => by rw [jst_ne (by decide), jst_ne (by decide)]; exact RO r r0 r1) (fun x l => by rw [jst_ne (by decide), jst_ne (by decide)]; exact FR _ _ (by omega)) (fun x => ?_) hc.2.2, fun a x y1 y2 => ?_⟩); { rw [jst_ne (by decide), ← eo]; by_cases y : x = o7; { rw [if_pos y, y, jst_eq] }; { rw [if_neg y, jst_ni y]; exact FR _ _ (by omega) } }; { rw [jst_o (by omega), jst_o (by omega)]; exact FR _ _ (by omega) }) -- o17 e2
    · skip
      try simp (disch := omega) only [jst_eq, jst_ne, jst_ni, jI_i, jcmp_lt, jcmp_gt, w32_id, jcpy_out, Sum.elim_inl, Sum.elim_inr, jt2, jt3, jt4, jt5, jt6, jt7, jt8] at c1
      refine OK_some ?_
      try dsimp only [Sum.elim_inl, Sum.elim_inr, jt2, jt3, jt4, jt5, jt6, jt7, jt8]
      exact Or.inr (Or.inl ⟨rfl, by omega, no3, rfl⟩) -- o18 e3

