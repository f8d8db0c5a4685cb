/-! x: a state is met -/
/-- what was seen of all runs -/
def snX (h : AH) (L : LE) (l : List (Int → Int)) : Prop := (∀ s, s ∈ l → vlS L s ∧ (∀ k, ¬ (0 ≤ k ∧ k < L.2.1.1) → s k = 0) ∧ h 405 (nuS L s L.2.1.1.toNat) = 1) ∧ (∀ p, 0 ≤ p → p < 4096 → (h 405 p = 0 ∨ h 405 p = 1) ∧ (h 405 p = 1 → ∃ s, s ∈ l ∧ nuS L s L.2.1.1.toNat = p)) ∧ h (h 200 39) 10 = cntR l ∧ ∀ k, 0 ≤ k → k < L.2.1.1 → h (h 200 39 + 11) k = (if l = [] then -1 else lsR k l) ∧ h (h 200 39 + 12) k = gtR k l
theorem snX_f {h h' : AH} {L : LE} {l : List (Int → Int)} (x : h 200 39 = 378 ∨ h 200 39 = 391) (c : snX h L l) (g : ∀ a s, (a = 200 ∧ s = 39) ∨ (a = 405 ∧ 0 ≤ s) ∨ ((a = 378 ∨ a = 391) ∧ s = 10) ∨ a = 389 ∨ a = 390 ∨ a = 402 ∨ a = 403 → h' a s = h a s) (v : ∃ E, vLE E L) : snX h' L l := by
  obtain ⟨E, v⟩ := v
  obtain ⟨c1, c2, c3, c4⟩ := c
  have e : h' 200 39 = h 200 39 := g _ _ (by omega)
  refine ⟨fun s m => ?_, fun p p0 p1 => by rw [g 405 p (by omega)]; exact c2 p p0 p1, by rw [e, g _ _ (by omega)]; exact c3, fun k k0 k1 => by rw [e, g (h 200 39 + 11) k (by omega), g (h 200 39 + 12) k (by omega)]; exact c4 k k0 k1⟩
  have q := c1 s m
  have b := nuS_4 v q.1
  exact ⟨q.1, q.2.1, by rw [g _ _ (by omega)]; exact q.2.2⟩
theorem st_eq {E : EV} {L : LE} {s t : Int → Int} (v : vLE E L) (a : vlS L s ∧ ∀ k, ¬ (0 ≤ k ∧ k < L.2.1.1) → s k = 0) (b : vlS L t ∧ ∀ k, ¬ (0 ≤ k ∧ k < L.2.1.1) → t k = 0) (e : nuS L s L.2.1.1.toNat = nuS L t L.2.1.1.toNat) : s = t := funext fun k => by
  by_cases y : 0 ≤ k ∧ k < L.2.1.1
  · exact nuS_i v a.1 b.1 L.2.1.1.toNat (by omega) e k y.1 (by omega)
  · rw [a.2 k y, b.2 k y]
theorem vX1_meet_2_l115 (a40 : Int) {h0 : AH} {L : LE} {l : List (Int → Int)} {s9 : Int → Int} {x : Int} (hx : h0 200 39 = x ∧ (x = 378 ∨ x = 391) ∧ h0 x 2 = L.2.1.1 ∧ 1 ≤ L.2.1.1 ∧ L.2.1.1 ≤ 3) (kl : h0 (x + 11) (-2) = 101 ∧ h0 (x + 11) (-1) = 3) (sv : vlS L s9 ∧ ∀ k, 0 ≤ k → k < L.2.1.1 → h0 406 k = s9 k) (lg : ∀ k, 0 ≤ k → k < L.2.1.1 → h0 (x + 11) k = (if l = [] then -1 else lsR k l) ∧ h0 (x + 12) k = gtR k l) (lp : ∀ k, 0 ≤ k → k < L.2.1.1 → 0 ≤ lsR k l) (h4 : a40 = 0) (HK : ∀ k, 0 ≤ k → k < L.2.1.1 → ¬ L.2.1.2 k = 0 → ¬ L.2.1.2 k = 1 → s9 k ≤ 100) : OK (gX1_meet_2_l115 a40 h0) (fun h' => (∀ k, 0 ≤ k → k < L.2.1.1 → h' (x + 11) k = lsR k (s9 :: l) ∧ h' (x + 12) k = gtR k (s9 :: l)) ∧ (∀ a k, ¬ ((a = x + 11 ∨ a = x + 12) ∧ 0 ≤ k ∧ k < L.2.1.1) → h' a k = h0 a k)) := by
  unfold gX1_meet_2_l115
  refine OK_jit (I := (fun (s : Int × AH) => jt2 s fun a4 h => (0 ≤ a4 ∧ a4 ≤ L.2.1.1) ∧ (∀ k, 0 ≤ k → k < a4 → h (x + 11) k = lsR k (s9 :: l) ∧ h (x + 12) k = gtR k (s9 :: l)) ∧ (∀ a k, ¬ ((a = x + 11 ∨ a = x + 12) ∧ 0 ≤ k ∧ k < a4) → h a k = h0 a k))) (m := (fun (s : Int × AH) => jt2 s fun a4 h => (L.2.1.1 - a4).toNat)) ?_ ?_
  · intro s hs
    obtain ⟨a4, h⟩ := s
    dsimp only [Sum.elim_inl, Sum.elim_inr, jt2, jt3, jt4, jt5, jt6, jt7, jt8] at hs
    obtain ⟨q0, q1, fr⟩ := hs
    unfold gX1_meet_2_b115
    refine OK_jt2 ?_
    have E39 : h 200 39 = x := by rw [fr _ _ (by omega)]; exact hx.1
    have E2 : h x 2 = L.2.1.1 := by rw [fr _ _ (by omega)]; exact hx.2.2.1
    have KA : h (x + 11) (-2) = 101 := by rw [fr _ _ (by omega)]; exact kl.1
    have KB : h (x + 11) (-1) = 3 := by rw [fr _ _ (by omega)]; exact kl.2
    have KK := q1
    rw [E39, E2]
    refine OK_if (fun c1 => ?_) (fun c1 => ?_)
    · skip
      try simp (disch := omega) only [jst_eq, jst_ne, jst_ni, jI_i, jcmp_lt, jcmp_gt, w32_id, jcpy_out, Sum.elim_inl, Sum.elim_inr, jt2, jt3, jt4, jt5, jt6, jt7, jt8] at c1
      refine OK_ir ?_
      try dsimp only [Sum.elim_inl, Sum.elim_inr, jt2, jt3, jt4, jt5, jt6, jt7, jt8]
      refine ⟨?_, ?_⟩
      · exact fun k k0 k1 => KK k k0 (by omega) -- o1 e1.1
      · exact fun a k y => fr a k (by omega) -- o2 e1.2
    · skip
      try simp (disch := omega) only [jst_eq, jst_ne, jst_ni, jI_i, jcmp_lt, jcmp_gt, w32_id, jcpy_out, Sum.elim_inl, Sum.elim_inr, jt2, jt3, jt4, jt5, jt6, jt7, jt8] at c1
      have SV := sv.2 a4 q0.1 (by omega)
      have S0 := (sv.1 a4 q0.1 (by omega)).1
      have G1 := lg a4 q0.1 (by omega)
      have G2 := lp a4 q0.1 (by omega)
      have F6 : h 406 a4 = s9 a4 := by { rw [fr _ _ (by omega)]; exact SV }
      have F11 : h (x + 11) a4 = h0 (x + 11) a4 := fr _ _ (by omega)
      have F12 : h (x + 12) a4 = h0 (x + 12) a4 := fr _ _ (by omega)
      have J : ∀ v, (jst h (x + 11) a4 v 200 39 = x) ∧ jst h (x + 11) a4 v (x + 12) a4 = gtR a4 l ∧ jst h (x + 11) a4 v 406 a4 = s9 a4 := fun v => ⟨by { rw [jst_ne (by omega)]; exact E39 }, by { rw [jst_ne (by omega), F12]; exact G1.2 }, by { rw [jst_ne (by omega)]; exact F6 }⟩
      have LS0 : lsR a4 (s9 :: l) = min (lsR a4 l) (s9 a4) := rfl
      have LG0 : gtR a4 (s9 :: l) = max (gtR a4 l) (s9 a4) := rfl
      have S15 : s9 a4 ≤ 100 := by { have q := sv.1 a4 q0.1 (by omega); unfold vlR at q; by_cases z0 : L.2.1.2 a4 = 0; { have := q.2.1 z0; omega }; { by_cases z1 : L.2.1.2 a4 = 1; { have := q.2.2.1 z1; omega }; { exact HK a4 q0.1 (by omega) z0 z1 } } }
      refine OK_jg (by (first | (exact ⟨KA, by omega, by unfold jI; rw [KB]; omega⟩) | (first | assumption | omega | ((try dsimp only [jt2, jt3, jt4]); first | omega | (simp (disch := omega) only [jst_eq, jst_ne, jst_ni, jst_o, jI_i, jcpy_out, w32_id, jdiv_nn, jshr_k, jand_255] <;> first | done | omega | assumption)) | (intros; simp (disch := omega) only [jst_eq, jst_ne, jst_ni, jst_o, jI_i, jcpy_out, w32_id, jdiv_nn, *] <;> first | done | omega) | (intros; simp (disch := omega) only [jst_eq, jst_ne, jst_ni, jst_o, jI_i, jcpy_out, w32_id, jdiv_nn] at * <;> first | done | omega | assumption) | (intros; first | rfl | (exfalso; omega) | ((repeat' apply And.intro) <;> first | assumption | rfl | omega | trivial))))) ?_ -- o3
      refine OK_if (fun c2 => ?_) (fun c2 => ?_)
      · skip
        try simp (disch := omega) only [jst_eq, jst_ne, jst_ni, jI_i, jcmp_lt, jcmp_gt, w32_id, jcpy_out, Sum.elim_inl, Sum.elim_inr, jt2, jt3, jt4, jt5, jt6, jt7, jt8] at c2
        rw [F6]
        unfold gX1_meet_2_j180_115
        refine OK_jg (by (first | (exact ⟨KA, by omega, by unfold jI; rw [KB]; omega⟩) | (first | assumption | omega | ((try dsimp only [jt2, jt3, jt4]); first | omega | (simp (disch := omega) only [jst_eq, jst_ne, jst_ni, jst_o, jI_i, jcpy_out, w32_id, jdiv_nn, jshr_k, jand_255] <;> first | done | omega | assumption)) | (intros; simp (disch := omega) only [jst_eq, jst_ne, jst_ni, jst_o, jI_i, jcpy_out, w32_id, jdiv_nn, *] <;> first | done | omega) | (intros; simp (disch := omega) only [jst_eq, jst_ne, jst_ni, jst_o, jI_i, jcpy_out, w32_id, jdiv_nn] at * <;> first | done | omega | assumption) | (intros; first | rfl | (exfalso; omega) | ((repeat' apply And.intro) <;> first | assumption | rfl | omega | trivial))))) ?_ -- o4
        refine OK_jl ?_
        rw [(J _).1, (J _).2.1, (J _).2.2]
        refine OK_jg (by (first | (exact ⟨KA, by omega, by unfold jI; rw [KB]; omega⟩) | (first | assumption | omega | ((try dsimp only [jt2, jt3, jt4]); first | omega | (simp (disch := omega) only [jst_eq, jst_ne, jst_ni, jst_o, jI_i, jcpy_out, w32_id, jdiv_nn, jshr_k, jand_255] <;> first | done | omega | assumption)) | (intros; simp (disch := omega) only [jst_eq, jst_ne, jst_ni, jst_o, jI_i, jcpy_out, w32_id, jdiv_nn, *] <;> first | done | omega) | (intros; simp (disch := omega) only [jst_eq, jst_ne, jst_ni, jst_o, jI_i, jcpy_out, w32_id, jdiv_nn] at * <;> first | done | omega | assumption) | (intros; first | rfl | (exfalso; omega) | ((repeat' apply And.intro) <;> first | assumption | rfl | omega | trivial))))) ?_ -- o5
        refine OK_jl ?_
        refine OK_jlx (fun x20 ex20 => ?_)
        try simp (disch := omega) only [jst_eq, jst_ne, jst_ni, jI_i, jcmp_lt, jcmp_gt, w32_id, jcpy_out, Sum.elim_inl, Sum.elim_inr, jt2, jt3, jt4, jt5, jt6, jt7, jt8] at ex20
        refine OK_il ?_ ?_
        · try dsimp only [Sum.elim_inl, Sum.elim_inr, jt2, jt3, jt4, jt5, jt6, jt7, jt8]
          refine ⟨?_, ?_, ?_⟩
          · (first | (exact ⟨KA, by omega, by unfold jI; rw [KB]; omega⟩) | (first | assumption | omega | ((try dsimp only [jt2, jt3, jt4]); first | omega | (simp (disch := omega) only [jst_eq, jst_ne, jst_ni, jst_o, jI_i, jcpy_out, w32_id, jdiv_nn, jshr_k, jand_255] <;> first | done | omega | assumption)) | (intros; simp (disch := omega) only [jst_eq, jst_ne, jst_ni, jst_o, jI_i, jcpy_out, w32_id, jdiv_nn, *] <;> first | done | omega) | (intros; simp (disch := omega) only [jst_eq, jst_ne, jst_ni, jst_o, jI_i, jcpy_out, w32_id, jdiv_nn] at * <;> first | done | omega | assumption) | (intros; first | rfl | (exfalso; omega) | ((repeat' apply And.intro) <;> first | assumption | rfl | omega | trivial)))) -- o6 e2i.1
          · (have LE1 : l = [] := (by by_cases y : l = []; { exact y }; { have z := G1.1; rw [if_neg y] at z; omega }); intro k k0 k1; by_cases y : k = a4; { rw [y]; refine ⟨?_, jst_eq⟩; rw [jst_ne (by omega), jst_eq, LS0, LE1]; show s9 a4 = min 100 (s9 a4); omega }; { rw [jst_o (by omega), jst_o (by omega), jst_o (by omega), jst_o (by omega)]; exact KK k k0 (by omega) }) -- o7 e2i.2
          · exact fun a k y => by rw [jst_o (by omega), jst_o (by omega)]; exact fr a k (by omega) -- o8 e2i.3
        · (first | (exact ⟨KA, by omega, by unfold jI; rw [KB]; omega⟩) | (first | assumption | omega | ((try dsimp only [jt2, jt3, jt4]); first | omega | (simp (disch := omega) only [jst_eq, jst_ne, jst_ni, jst_o, jI_i, jcpy_out, w32_id, jdiv_nn, jshr_k, jand_255] <;> first | done | omega | assumption)) | (intros; simp (disch := omega) only [jst_eq, jst_ne, jst_ni, jst_o, jI_i, jcpy_out, w32_id, jdiv_nn, *] <;> first | done | omega) | (intros; simp (disch := omega) only [jst_eq, jst_ne, jst_ni, jst_o, jI_i, jcpy_out, w32_id, jdiv_nn] at * <;> first | done | omega | assumption) | (intros; first | rfl | (exfalso; omega) | ((repeat' apply And.intro) <;> first | assumption | rfl | omega | trivial)))) -- o9 e2m
      · skip
        try simp (disch := omega) only [jst_eq, jst_ne, jst_ni, jI_i, jcmp_lt, jcmp_gt, w32_id, jcpy_out, Sum.elim_inl, Sum.elim_inr, jt2, jt3, jt4, jt5, jt6, jt7, jt8] at c2
        rw [F6]
        unfold gX1_meet_2_j180_115
        refine OK_jg (by (first | (exact ⟨KA, by omega, by unfold jI; rw [KB]; omega⟩) | (first | assumption | omega | ((try dsimp only [jt2, jt3, jt4]); first | omega | (simp (disch := omega) only [jst_eq, jst_ne, jst_ni, jst_o, jI_i, jcpy_out, w32_id, jdiv_nn, jshr_k, jand_255] <;> first | done | omega | assumption)) | (intros; simp (disch := omega) only [jst_eq, jst_ne, jst_ni, jst_o, jI_i, jcpy_out, w32_id, jdiv_nn, *] <;> first | done | omega) | (intros; simp (disch := omega) only [jst_eq, jst_ne, jst_ni, jst_o, jI_i, jcpy_out, w32_id, jdiv_nn] at * <;> first | done | omega | assumption) | (intros; first | rfl | (exfalso; omega) | ((repeat' apply And.intro) <;> first | assumption | rfl | omega | trivial))))) ?_ -- o10
        refine OK_jl ?_
        rw [(J _).1, (J _).2.1, (J _).2.2]
        refine OK_jg (by (first | (exact ⟨KA, by omega, by unfold jI; rw [KB]; omega⟩) | (first | assumption | omega | ((try dsimp only [jt2, jt3, jt4]); first | omega | (simp (disch := omega) only [jst_eq, jst_ne, jst_ni, jst_o, jI_i, jcpy_out, w32_id, jdiv_nn, jshr_k, jand_255] <;> first | done | omega | assumption)) | (intros; simp (disch := omega) only [jst_eq, jst_ne, jst_ni, jst_o, jI_i, jcpy_out, w32_id, jdiv_nn, *] <;> first | done | omega) | (intros; simp (disch := omega) only [jst_eq, jst_ne, jst_ni, jst_o, jI_i, jcpy_out, w32_id, jdiv_nn] at * <;> first | done | omega | assumption) | (intros; first | rfl | (exfalso; omega) | ((repeat' apply And.intro) <;> first | assumption | rfl | omega | trivial))))) ?_ -- o11
        refine OK_jl ?_
        refine OK_jlx (fun x20 ex20 => ?_)
        try simp (disch := omega) only [jst_eq, jst_ne, jst_ni, jI_i, jcmp_lt, jcmp_gt, w32_id, jcpy_out, Sum.elim_inl, Sum.elim_inr, jt2, jt3, jt4, jt5, jt6, jt7, jt8] at ex20
        refine OK_il ?_ ?_
        · try dsimp only [Sum.elim_inl, Sum.elim_inr, jt2, jt3, jt4, jt5, jt6, jt7, jt8]
          refine ⟨?_, ?_, ?_⟩
          · (first | (exact ⟨KA, by omega, by unfold jI; rw [KB]; omega⟩) | (first | assumption | omega | ((try dsimp only [jt2, jt3, jt4]); first | omega | (simp (disch := omega) only [jst_eq, jst_ne, jst_ni, jst_o, jI_i, jcpy_out, w32_id, jdiv_nn, jshr_k, jand_255] <;> first | done | omega | assumption)) | (intros; simp (disch := omega) only [jst_eq, jst_ne, jst_ni, jst_o, jI_i, jcpy_out, w32_id, jdiv_nn, *] <;> first | done | omega) | (intros; simp (disch := omega) only [jst_eq, jst_ne, jst_ni, jst_o, jI_i, jcpy_out, w32_id, jdiv_nn] at * <;> first | done | omega | assumption) | (intros; first | rfl | (exfalso; omega) | ((repeat' apply And.intro) <;> first | assumption | rfl | omega | trivial)))) -- o12 e3i.1
          · (have LE1 : l ≠ [] := (by intro y; have z := G1.1; rw [if_pos y] at z; omega); intro k k0 k1; by_cases y : k = a4; { rw [y]; refine ⟨?_, jst_eq⟩; rw [jst_ne (by omega), jst_eq, LS0, F11, G1.1, if_neg LE1] }; { rw [jst_o (by omega), jst_o (by omega), jst_o (by omega), jst_o (by omega)]; exact KK k k0 (by omega) }) -- o13 e3i.2
          · exact fun a k y => by rw [jst_o (by omega), jst_o (by omega)]; exact fr a k (by omega) -- o14 e3i.3
        · (first | (exact ⟨KA, by omega, by unfold jI; rw [KB]; omega⟩) | (first | assumption | omega | ((try dsimp only [jt2, jt3, jt4]); first | omega | (simp (disch := omega) only [jst_eq, jst_ne, jst_ni, jst_o, jI_i, jcpy_out, w32_id, jdiv_nn, jshr_k, jand_255] <;> first | done | omega | assumption)) | (intros; simp (disch := omega) only [jst_eq, jst_ne, jst_ni, jst_o, jI_i, jcpy_out, w32_id, jdiv_nn, *] <;> first | done | omega) | (intros; simp (disch := omega) only [jst_eq, jst_ne, jst_ni, jst_o, jI_i, jcpy_out, w32_id, jdiv_nn] at * <;> first | done | omega | assumption) | (intros; first | rfl | (exfalso; omega) | ((repeat' apply And.intro) <;> first | assumption | rfl | omega | trivial)))) -- o15 e3m
  · try dsimp only [Sum.elim_inl, Sum.elim_inr, jt2, jt3, jt4, jt5, jt6, jt7, jt8]
    refine ⟨?_, ?_, ?_⟩
    · (first | (exact ⟨KA, by omega, by unfold jI; rw [KB]; omega⟩) | (first | assumption | omega | ((try dsimp only [jt2, jt3, jt4]); first | omega | (simp (disch := omega) only [jst_eq, jst_ne, jst_ni, jst_o, jI_i, jcpy_out, w32_id, jdiv_nn, jshr_k, jand_255] <;> first | done | omega | assumption)) | (intros; simp (disch := omega) only [jst_eq, jst_ne, jst_ni, jst_o, jI_i, jcpy_out, w32_id, jdiv_nn, *] <;> first | done | omega) | (intros; simp (disch := omega) only [jst_eq, jst_ne, jst_ni, jst_o, jI_i, jcpy_out, w32_id, jdiv_nn] at * <;> first | done | omega | assumption) | (intros; first | rfl | (exfalso; omega) | ((repeat' apply And.intro) <;> first | assumption | rfl | omega | trivial)))) -- o16 init.1
    · (intro k k0 k1; omega) -- o17 init.2
    · exact fun _ _ _ => rfl -- o18 init.3
theorem lsR_0 {L : LE} {k : Int} (k0 : 0 ≤ k) (k1 : k < L.2.1.1) : ∀ {l : List (Int → Int)}, (∀ s, s ∈ l → vlS L s) → 0 ≤ lsR k l
  | [], _ => by show (0 : Int) ≤ 100; decide
  | s :: l, h => by
    have a := lsR_0 k0 k1 (l := l) (fun t m => h t (List.mem_cons_of_mem _ m))
    have b := (h s List.mem_cons_self k k0 k1).1
    show 0 ≤ min (lsR k l) (s k)
    omega
theorem vX1_meet_2_l7 (i2 : Int) (i3 : Int) (a40 : Int) {h0 : AH} {m : Int} (hx : (h0 200 39 = 378 ∨ h0 200 39 = 391) ∧ h0 (h0 200 39) 2 = m ∧ 1 ≤ m ∧ m ≤ 3) (h4 : a40 = 0) : OK (gX1_meet_2_l7 i2 i3 a40 h0) (fun h' => (∀ k, 0 ≤ k → k < m → h' 269 k = h0 406 k) ∧ (∀ a s, ¬ (a = 269 ∧ 0 ≤ s) → h' a s = h0 a s)) := by
  unfold gX1_meet_2_l7
  refine OK_jit (I := (fun (s : Int × AH) => jt2 s fun a4 h => (0 ≤ a4 ∧ a4 ≤ m) ∧ (∀ k, 0 ≤ k → k < a4 → h 269 k = h0 406 k) ∧ (∀ a s, ¬ (a = 269 ∧ 0 ≤ s) → h a s = h0 a s))) (m := (fun (s : Int × AH) => jt2 s fun a4 h => (m - a4).toNat)) ?_ ?_
  · intro s hs
    obtain ⟨a4, h⟩ := s
    dsimp only [Sum.elim_inl, Sum.elim_inr, jt2, jt3, jt4, jt5, jt6, jt7, jt8] at hs
    obtain ⟨q0, q1, fr⟩ := hs
    unfold gX1_meet_2_b7
    refine OK_jt2 ?_
    have E39 : h 200 39 = h0 200 39 := fr _ _ (by omega)
    have E2 : h (h0 200 39) 2 = m := by rw [fr _ _ (by omega)]; exact hx.2.1
    rw [E39, E2]
    refine OK_if (fun c1 => ?_) (fun c1 => ?_)
    · skip
      try simp (disch := omega) only [jst_eq, jst_ne, jst_ni, jI_i, jcmp_lt, jcmp_gt, w32_id, jcpy_out, Sum.elim_inl, Sum.elim_inr, jt2, jt3, jt4, jt5, jt6, jt7, jt8] at c1
      refine OK_ir ?_
      try dsimp only [Sum.elim_inl, Sum.elim_inr, jt2, jt3, jt4, jt5, jt6, jt7, jt8]
      refine ⟨?_, ?_⟩
      · exact fun k k0 k1 => q1 k k0 (by omega) -- o1 e1.1
      · (first | assumption | omega | ((try dsimp only [jt2, jt3, jt4]); first | omega | (simp (disch := omega) only [jst_eq, jst_ne, jst_ni, jst_o, jI_i, jcpy_out, w32_id, jdiv_nn, jshr_k, jand_255] <;> first | done | omega | assumption)) | (intros; simp (disch := omega) only [jst_eq, jst_ne, jst_ni, jst_o, jI_i, jcpy_out, w32_id, jdiv_nn, *] <;> first | done | omega) | (intros; simp (disch := omega) only [jst_eq, jst_ne, jst_ni, jst_o, jI_i, jcpy_out, w32_id, jdiv_nn] at * <;> first | done | omega | assumption) | (intros; first | rfl | (exfalso; omega) | ((repeat' apply And.intro) <;> first | assumption | rfl | omega | trivial))) -- o2 e1.2
    · skip
      try simp (disch := omega) only [jst_eq, jst_ne, jst_ni, jI_i, jcmp_lt, jcmp_gt, w32_id, jcpy_out, Sum.elim_inl, Sum.elim_inr, jt2, jt3, jt4, jt5, jt6, jt7, jt8] at c1
      rw [fr 406 a4 (by omega)]
      refine OK_jg (by (first | assumption | omega | ((try dsimp only [jt2, jt3, jt4]); first | omega | (simp (disch := omega) only [jst_eq, jst_ne, jst_ni, jst_o, jI_i, jcpy_out, w32_id, jdiv_nn, jshr_k, jand_255] <;> first | done | omega | assumption)) | (intros; simp (disch := omega) only [jst_eq, jst_ne, jst_ni, jst_o, jI_i, jcpy_out, w32_id, jdiv_nn, *] <;> first | done | omega) | (intros; simp (disch := omega) only [jst_eq, jst_ne, jst_ni, jst_o, jI_i, jcpy_out, w32_id, jdiv_nn] at * <;> first | done | omega | assumption) | (intros; first | rfl | (exfalso; omega) | ((repeat' apply And.intro) <;> first | assumption | rfl | omega | trivial)))) ?_ -- o3
      refine OK_jg (by (first | assumption | omega | ((try dsimp only [jt2, jt3, jt4]); first | omega | (simp (disch := omega) only [jst_eq, jst_ne, jst_ni, jst_o, jI_i, jcpy_out, w32_id, jdiv_nn, jshr_k, jand_255] <;> first | done | omega | assumption)) | (intros; simp (disch := omega) only [jst_eq, jst_ne, jst_ni, jst_o, jI_i, jcpy_out, w32_id, jdiv_nn, *] <;> first | done | omega) | (intros; simp (disch := omega) only [jst_eq, jst_ne, jst_ni, jst_o, jI_i, jcpy_out, w32_id, jdiv_nn] at * <;> first | done | omega | assumption) | (intros; first | rfl | (exfalso; omega) | ((repeat' apply And.intro) <;> first | assumption | rfl | omega | trivial)))) ?_ -- o4
      refine OK_jl ?_
      refine OK_jlx (fun x24 ex24 => ?_)
      try simp (disch := omega) only [jst_eq, jst_ne, jst_ni, jI_i, jcmp_lt, jcmp_gt, w32_id, jcpy_out, Sum.elim_inl, Sum.elim_inr, jt2, jt3, jt4, jt5, jt6, jt7, jt8] at ex24
      refine OK_il ?_ ?_
      · try dsimp only [Sum.elim_inl, Sum.elim_inr, jt2, jt3, jt4, jt5, jt6, jt7, jt8]
        refine ⟨?_, ?_, ?_⟩
        · (first | assumption | omega | ((try dsimp only [jt2, jt3, jt4]); first | omega | (simp (disch := omega) only [jst_eq, jst_ne, jst_ni, jst_o, jI_i, jcpy_out, w32_id, jdiv_nn, jshr_k, jand_255] <;> first | done | omega | assumption)) | (intros; simp (disch := omega) only [jst_eq, jst_ne, jst_ni, jst_o, jI_i, jcpy_out, w32_id, jdiv_nn, *] <;> first | done | omega) | (intros; simp (disch := omega) only [jst_eq, jst_ne, jst_ni, jst_o, jI_i, jcpy_out, w32_id, jdiv_nn] at * <;> first | done | omega | assumption) | (intros; first | rfl | (exfalso; omega) | ((repeat' apply And.intro) <;> first | assumption | rfl | omega | trivial))) -- o5 e2i.1
        · (intro k k0 k1; by_cases y : k = a4; { rw [y, jst_eq] }; { rw [jst_ni y]; exact q1 k k0 (by omega) }) -- o6 e2i.2
        · exact fun a s y => by rw [jst_o (by omega)]; exact fr a s y -- o7 e2i.3
      · (first | assumption | omega | ((try dsimp only [jt2, jt3, jt4]); first | omega | (simp (disch := omega) only [jst_eq, jst_ne, jst_ni, jst_o, jI_i, jcpy_out, w32_id, jdiv_nn, jshr_k, jand_255] <;> first | done | omega | assumption)) | (intros; simp (disch := omega) only [jst_eq, jst_ne, jst_ni, jst_o, jI_i, jcpy_out, w32_id, jdiv_nn, *] <;> first | done | omega) | (intros; simp (disch := omega) only [jst_eq, jst_ne, jst_ni, jst_o, jI_i, jcpy_out, w32_id, jdiv_nn] at * <;> first | done | omega | assumption) | (intros; first | rfl | (exfalso; omega) | ((repeat' apply And.intro) <;> first | assumption | rfl | omega | trivial))) -- o8 e2m
  · try dsimp only [Sum.elim_inl, Sum.elim_inr, jt2, jt3, jt4, jt5, jt6, jt7, jt8]
    refine ⟨?_, ?_, ?_⟩
    · (first | assumption | omega | ((try dsimp only [jt2, jt3, jt4]); first | omega | (simp (disch := omega) only [jst_eq, jst_ne, jst_ni, jst_o, jI_i, jcpy_out, w32_id, jdiv_nn, jshr_k, jand_255] <;> first | done | omega | assumption)) | (intros; simp (disch := omega) only [jst_eq, jst_ne, jst_ni, jst_o, jI_i, jcpy_out, w32_id, jdiv_nn, *] <;> first | done | omega) | (intros; simp (disch := omega) only [jst_eq, jst_ne, jst_ni, jst_o, jI_i, jcpy_out, w32_id, jdiv_nn] at * <;> first | done | omega | assumption) | (intros; first | rfl | (exfalso; omega) | ((repeat' apply And.intro) <;> first | assumption | rfl | omega | trivial))) -- o9 init.1
    · (intro k k0 k1; omega) -- o10 init.2
    · exact fun _ _ _ => rfl -- o11 init.3
theorem vX1_meet_2_j105 (a1 : Int) {h : AH} {E : EV} {Rf : Int → TR} {W : Int → Int → Int → VW} {hl : Int → Int} {L : LE} {l : List (Int → Int)} {s9 : Int → Int} (rn : rnX h E Rf W hl L) (sv : (vlS L s9 ∧ ∀ k, ¬ (0 ≤ k ∧ k < L.2.1.1) → s9 k = 0) ∧ ∀ k, 0 ≤ k → k < L.2.1.1 → h 406 k = s9 k) (ha : a1 = nuS L s9 L.2.1.1.toNat) (se1 : ∀ s, s ∈ l → vlS L s ∧ (∀ k, ¬ (0 ≤ k ∧ k < L.2.1.1) → s k = 0) ∧ h 405 (nuS L s L.2.1.1.toNat) = 1) (se2 : ∀ p, 0 ≤ p → p < 4096 → (h 405 p = 0 ∨ h 405 p = 1) ∧ (h 405 p = 1 → ∃ s, s ∈ l ∧ nuS L s L.2.1.1.toNat = p)) (se3 : h (h 200 39) 10 = cntR (s9 :: l)) (se4 : ∀ k, 0 ≤ k → k < L.2.1.1 → h (h 200 39 + 11) k = (if l = [] then -1 else lsR k l) ∧ h (h 200 39 + 12) k = gtR k l) : OK (gX1_meet_2_j105 a1 h) (fun h' => (snX h' L (s9 :: l)) ∧ (∀ a k, ¬ (a = 405 ∧ k = a1) → ¬ ((a = h 200 39 + 11 ∨ a = h 200 39 + 12) ∧ 0 ≤ k) → h' a k = h a k)) := by
  have v := rn.2.2.2
  have LX := rnX_x rn
  have A4 := nuS_4 v sv.1.1
  unfold gX1_meet_2_j105
  refine OK_jg (by (first | assumption | omega | ((try dsimp only [jt2, jt3, jt4]); first | omega | (simp (disch := omega) only [jst_eq, jst_ne, jst_ni, jst_o, jI_i, jcpy_out, w32_id, jdiv_nn, jshr_k, jand_255] <;> first | done | omega | assumption)) | (intros; simp (disch := omega) only [jst_eq, jst_ne, jst_ni, jst_o, jI_i, jcpy_out, w32_id, jdiv_nn, *] <;> first | done | omega) | (intros; simp (disch := omega) only [jst_eq, jst_ne, jst_ni, jst_o, jI_i, jcpy_out, w32_id, jdiv_nn] at * <;> first | done | omega | assumption) | (intros; first | rfl | (exfalso; omega) | ((repeat' apply And.intro) <;> first | assumption | rfl | omega | trivial)))) ?_ -- o1
  refine OK_jl ?_
  rw [ji2z_1]
  refine OK_jb (vX1_meet_2_l115 (L := L) (l := l) (s9 := s9) (x := h 200 39) _ (by (rw [jst_ne (by decide), jst_ne (by omega)]; have := v.2.1; exact ⟨rfl, LX, rn.2.1.2.2.1, by omega, by omega⟩)) (by (rw [jst_ne (by omega), jst_ne (by omega)]; exact rn.2.2.1.2.2)) (by exact ⟨sv.1.1, fun k k0 k1 => by rw [jst_ne (by decide)]; exact sv.2 k k0 k1⟩) (by exact fun k k0 k1 => by rw [jst_ne (by omega), jst_ne (by omega)]; exact se4 k k0 k1) (by exact fun k k0 k1 => lsR_0 k0 k1 (fun s m => (se1 s m).1)) (by rfl) (by (intro k k0 k1 z0 z1; have := v.2.1.2.2 k k0 k1; omega))) (fun o14 r1 => ?_)
  try dsimp only [Sum.elim_inl, Sum.elim_inr, jt2, jt3, jt4, jt5, jt6, jt7, jt8] at r1
  obtain ⟨q11, fr1⟩ := r1
  try simp (disch := omega) only [jst_eq, jst_ne, jst_ni, jI_i, jcmp_lt, jcmp_gt, w32_id, jcpy_out, Sum.elim_inl, Sum.elim_inr, jt2, jt3, jt4, jt5, jt6, jt7, jt8] at q11
  try simp (disch := omega) only [jst_eq, jst_ne, jst_ni, jI_i, jcmp_lt, jcmp_gt, w32_id, jcpy_out, Sum.elim_inl, Sum.elim_inr, jt2, jt3, jt4, jt5, jt6, jt7, jt8] at fr1
  have F14 : ∀ a k, ¬ ((a = h 200 39 + 11 ∨ a = h 200 39 + 12) ∧ 0 ≤ k ∧ k < L.2.1.1) → o14 a k = jst h 405 a1 1 a k := by assumption
  have Q14 : ∀ k, 0 ≤ k → k < L.2.1.1 → o14 (h 200 39 + 11) k = lsR k (s9 :: l) ∧ o14 (h 200 39 + 12) k = gtR k (s9 :: l) := by assumption
  have E14 : o14 200 39 = h 200 39 := by { rw [F14 _ _ (by omega), jst_ne (by decide)] }
  refine OK_some ?_
  try dsimp only [Sum.elim_inl, Sum.elim_inr, jt2, jt3, jt4, jt5, jt6, jt7, jt8]
  try dsimp only [Sum.elim_inl, Sum.elim_inr, jt2, jt3, jt4, jt5, jt6, jt7, jt8]
  refine ⟨?_, ?_⟩
  · (refine ⟨fun s m => ?_, fun p p0 p1 => ?_, by rw [E14, F14 _ _ (by omega), jst_ne (by omega)]; exact se3, fun k k0 k1 => by rw [E14, if_neg (by intro z; cases z)]; exact Q14 k k0 k1⟩; { rcases List.mem_cons.mp m with y | y; { rw [y]; exact ⟨sv.1.1, sv.1.2, by rw [F14 _ _ (by omega), ← ha, jst_eq]⟩ }; { have q := se1 s y; refine ⟨q.1, q.2.1, ?_⟩; rw [F14 _ _ (by omega), jst_at]; by_cases z : nuS L s L.2.1.1.toNat = a1; { rw [if_pos z] }; { rw [if_neg z]; exact q.2.2 } } }; { rw [F14 _ _ (by omega), jst_at]; by_cases z : p = a1; { rw [if_pos z]; exact ⟨Or.inr rfl, fun _ => ⟨s9, List.mem_cons_self, by omega⟩⟩ }; { rw [if_neg z]; have q := se2 p p0 p1; exact ⟨q.1, fun y => by obtain ⟨s, s1, s2⟩ := q.2 y; exact ⟨s, List.mem_cons_of_mem _ s1, s2⟩⟩ } }) -- o9 e1.1
  · exact fun a k y1 y2 => by rw [F14 a k (by omega), jst_o y1] -- o10 e1.2
theorem vX1_meet_2 (a1 : Int) (a2 : Int) (a3 : Int) {h : AH} {E : EV} {Rf : Int → TR} {W : Int → Int → Int → VW} {hl : Int → Int} {L : LE} {l : List (Int → Int)} {s9 : Int → Int} {T : TR} (rn : rnX h E Rf W hl L) (sv : (vlS L s9 ∧ ∀ k, ¬ (0 ≤ k ∧ k < L.2.1.1) → s9 k = 0) ∧ ∀ k, 0 ≤ k → k < L.2.1.1 → h 406 k = s9 k) (ha : a1 = nuS L s9 L.2.1.1.toNat) (h2 : (a2 = 0 ∧ snX h L l ∧ l.length ≤ 2000000) ∨ (a2 = 324 ∧ vwX h 324 2200 (-1) 0 T a3 0 ∧ capX h 324 2200 ∧ tmW E L.2.1.1 L.2.1.2 T 1)) : OK (gX1_meet_2 a1 a2 a3 h) (fun h' => (a2 = 0 → snX h' L (s9 :: l) ∧ h' 200 48 = h 200 48) ∧ (a2 ≠ 0 → (h 200 48 = -1 ∧ evL W T s9 = 1 ∧ h' 200 48 = -1) ∨ (h 200 48 = -1 ∧ evL W T s9 ≠ 1 ∧ h' 200 48 = h 200 46) ∨ (h 200 48 ≠ -1 ∧ h' 200 48 = h 200 48)) ∧ (a2 = 0 → ∀ a k, ¬ (a = h 200 39 ∧ k = 10) → ¬ (a = 405 ∧ k = a1) → ¬ ((a = h 200 39 + 11 ∨ a = h 200 39 + 12) ∧ 0 ≤ k) → h' a k = h a k) ∧ (a2 ≠ 0 → ∀ a s, ¬ (a = 200 ∧ (s = 9 ∨ s = 10 ∨ s = 48)) → ¬ (a = 269 ∧ 0 ≤ s) → h' a s = h a s) ∧ (bd10 h')) := by
  have v := rn.2.2.2
  have LX := rnX_x rn
  have A4 := nuS_4 v sv.1.1
  have n3 := v.2.1
  unfold gX1_meet_2
  refine OK_if (fun c1 => ?_) (fun c1 => ?_)
  · skip
    try simp (disch := omega) only [jst_eq, jst_ne, jst_ni, jI_i, jcmp_lt, jcmp_gt, w32_id, jcpy_out, Sum.elim_inl, Sum.elim_inr, jt2, jt3, jt4, jt5, jt6, jt7, jt8] at c1
    have SE : snX h L l := by { rcases h2 with z | z; { exact z.2.1 }; { omega } }
    have LL : l.length ≤ 2000000 := by { rcases h2 with z | z; { exact z.2.2 }; { omega } }
    obtain ⟨se1, se2, se3, se4⟩ := SE
    have CB := cntR_b l
    have IN : h 405 a1 = 1 ↔ s9 ∈ l := ⟨fun z => by (obtain ⟨s, s1, s2⟩ := (se2 a1 (by omega) (by omega)).2 z; have q := se1 s s1; have e9 := st_eq v ⟨q.1, q.2.1⟩ sv.1 (by omega); rw [← e9]; exact s1), fun z => by (rw [ha]; exact (se1 s9 z).2.2)⟩
    have SC : cntR (s9 :: l) = cif (s9 ∈ l) (cntR l) (cntR l + 1) := rfl
    have B05 := (se2 a1 (by omega) (by omega)).1
    refine OK_jg (by (first | assumption | omega | ((try dsimp only [jt2, jt3, jt4]); first | omega | (simp (disch := omega) only [jst_eq, jst_ne, jst_ni, jst_o, jI_i, jcpy_out, w32_id, jdiv_nn, jshr_k, jand_255] <;> first | done | omega | assumption)) | (intros; simp (disch := omega) only [jst_eq, jst_ne, jst_ni, jst_o, jI_i, jcpy_out, w32_id, jdiv_nn, *] <;> first | done | omega) | (intros; simp (disch := omega) only [jst_eq, jst_ne, jst_ni, jst_o, jI_i, jcpy_out, w32_id, jdiv_nn] at * <;> first | done | omega | assumption) | (intros; first | rfl | (exfalso; omega) | ((repeat' apply And.intro) <;> first | assumption | rfl | omega | trivial)))) ?_ -- o1
    refine OK_if (fun c2 => ?_) (fun c2 => ?_)
    · skip
      try simp (disch := omega) only [jst_eq, jst_ne, jst_ni, jI_i, jcmp_lt, jcmp_gt, w32_id, jcpy_out, Sum.elim_inl, Sum.elim_inr, jt2, jt3, jt4, jt5, jt6, jt7, jt8] at c2
      refine OK_jl ?_
      have W1 : w32 (h (h 200 39) 10 + 1) = cntR (s9 :: l) := by { rw [SC, cif_n (fun z => by have := IN.mpr z; omega), se3, w32_id (by omega) (by omega)] }
      rw [W1]
      have J3 : ∀ a s, ¬ (a = h 200 39 ∧ s = 10) → jst h (h 200 39) 10 (cntR (s9 :: l)) a s = h a s := fun a s y => jst_o y
      refine OK_mono (vX1_meet_2_j105 (E := E) (Rf := Rf) (W := W) (hl := hl) (L := L) (l := l) (s9 := s9) _ (by exact rnX_f rn (by unfold bd10; rw [J3 _ _ (by omega)]; exact rn.1.2.2.2.2) (fun a s y1 y2 y3 y4 => J3 a s (by omega))) (by exact ⟨sv.1, fun k k0 k1 => by rw [J3 _ _ (by omega)]; exact sv.2 k k0 k1⟩) (by (first | assumption | omega | ((try dsimp only [jt2, jt3, jt4]); first | omega | (simp (disch := omega) only [jst_eq, jst_ne, jst_ni, jst_o, jI_i, jcpy_out, w32_id, jdiv_nn, jshr_k, jand_255] <;> first | done | omega | assumption)) | (intros; simp (disch := omega) only [jst_eq, jst_ne, jst_ni, jst_o, jI_i, jcpy_out, w32_id, jdiv_nn, *] <;> first | done | omega) | (intros; simp (disch := omega) only [jst_eq, jst_ne, jst_ni, jst_o, jI_i, jcpy_out, w32_id, jdiv_nn] at * <;> first | done | omega | assumption) | (intros; first | rfl | (exfalso; omega) | ((repeat' apply And.intro) <;> first | assumption | rfl | omega | trivial)))) (by exact fun s m => by rw [J3 _ _ (by omega)]; exact se1 s m) (by exact fun p p0 p1 => by rw [J3 _ _ (by omega)]; exact se2 p p0 p1) (by (rw [J3 200 39 (by omega), jst_eq])) (by exact fun k k0 k1 => by rw [J3 200 39 (by omega), J3 _ _ (by omega), J3 _ _ (by omega)]; exact se4 k k0 k1)) (fun r r1 => ?_)
      try dsimp only [Sum.elim_inl, Sum.elim_inr, jt2, jt3, jt4, jt5, jt6, jt7, jt8] at r1
      obtain ⟨se1, fr1⟩ := r1
      try simp (disch := omega) only [jst_eq, jst_ne, jst_ni, jI_i, jcmp_lt, jcmp_gt, w32_id, jcpy_out, Sum.elim_inl, Sum.elim_inr, jt2, jt3, jt4, jt5, jt6, jt7, jt8] at se1
      try simp (disch := omega) only [jst_eq, jst_ne, jst_ni, jI_i, jcmp_lt, jcmp_gt, w32_id, jcpy_out, Sum.elim_inl, Sum.elim_inr, jt2, jt3, jt4, jt5, jt6, jt7, jt8] at fr1
      try dsimp only [Sum.elim_inl, Sum.elim_inr, jt2, jt3, jt4, jt5, jt6, jt7, jt8]
      try dsimp only [Sum.elim_inl, Sum.elim_inr, jt2, jt3, jt4, jt5, jt6, jt7, jt8]
      refine ⟨?_, ?_, ?_, ?_, ?_⟩
      · (intro _; refine ⟨se1, ?_⟩; rw [fr1 _ _ (by omega) (by first | omega | (rw [J3 200 39 (by omega)]; omega))]; exact J3 _ _ (by omega)) -- o9 e1.1
      · (intro z; omega) -- o10 e1.2
      · (intro _ a k y1 y2 y3; rw [fr1 a k y2 (by first | exact y3 | (rw [J3 200 39 (by omega)]; exact y3))]; exact J3 a k y1) -- o11 e1.3
      · (intro z; omega) -- o12 e1.4
      · (unfold bd10; rw [fr1 _ _ (by omega) (by first | omega | (rw [J3 200 39 (by omega)]; omega)), J3 _ _ (by omega)]; exact rn.1.2.2.2.2) -- o13 e1.5
    · skip
      try simp (disch := omega) only [jst_eq, jst_ne, jst_ni, jI_i, jcmp_lt, jcmp_gt, w32_id, jcpy_out, Sum.elim_inl, Sum.elim_inr, jt2, jt3, jt4, jt5, jt6, jt7, jt8] at c2
      refine OK_mono (vX1_meet_2_j105 (E := E) (Rf := Rf) (W := W) (hl := hl) (L := L) (l := l) (s9 := s9) _ (by exact rn) (by exact sv) (by (first | assumption | omega | ((try dsimp only [jt2, jt3, jt4]); first | omega | (simp (disch := omega) only [jst_eq, jst_ne, jst_ni, jst_o, jI_i, jcpy_out, w32_id, jdiv_nn, jshr_k, jand_255] <;> first | done | omega | assumption)) | (intros; simp (disch := omega) only [jst_eq, jst_ne, jst_ni, jst_o, jI_i, jcpy_out, w32_id, jdiv_nn, *] <;> first | done | omega) | (intros; simp (disch := omega) only [jst_eq, jst_ne, jst_ni, jst_o, jI_i, jcpy_out, w32_id, jdiv_nn] at * <;> first | done | omega | assumption) | (intros; first | rfl | (exfalso; omega) | ((repeat' apply And.intro) <;> first | assumption | rfl | omega | trivial)))) (by exact se1) (by exact se2) (by (rw [SC, cif_y (IN.mp (by omega))]; exact se3)) (by exact se4)) (fun r r2 => ?_)
      try dsimp only [Sum.elim_inl, Sum.elim_inr, jt2, jt3, jt4, jt5, jt6, jt7, jt8] at r2
      obtain ⟨se2, fr2⟩ := r2
      try simp (disch := omega) only [jst_eq, jst_ne, jst_ni, jI_i, jcmp_lt, jcmp_gt, w32_id, jcpy_out, Sum.elim_inl, Sum.elim_inr, jt2, jt3, jt4, jt5, jt6, jt7, jt8] at se2
      try simp (disch := omega) only [jst_eq, jst_ne, jst_ni, jI_i, jcmp_lt, jcmp_gt, w32_id, jcpy_out, Sum.elim_inl, Sum.elim_inr, jt2, jt3, jt4, jt5, jt6, jt7, jt8] at fr2
      try dsimp only [Sum.elim_inl, Sum.elim_inr, jt2, jt3, jt4, jt5, jt6, jt7, jt8]
      try dsimp only [Sum.elim_inl, Sum.elim_inr, jt2, jt3, jt4, jt5, jt6, jt7, jt8]
      refine ⟨?_, ?_, ?_, ?_, ?_⟩
      · (intro _; refine ⟨by assumption, ?_⟩; rw [fr2 _ _ (by omega) (by omega)]) -- o21 e2.1
      · (intro z; omega) -- o22 e2.2
      · (intro _ a k y1 y2 y3; exact fr2 a k y2 y3) -- o23 e2.3
      · (intro z; omega) -- o24 e2.4
      · (unfold bd10; rw [fr2 _ _ (by omega) (by omega)]; exact rn.1.2.2.2.2) -- o25 e2.5
  · skip
    try simp (disch := omega) only [jst_eq, jst_ne, jst_ni, jI_i, jcmp_lt, jcmp_gt, w32_id, jcpy_out, Sum.elim_inl, Sum.elim_inr, jt2, jt3, jt4, jt5, jt6, jt7, jt8] at c1
    obtain ⟨z1, z2, z3, z4⟩ := h2.resolve_left (fun z => c1 z.1)
    refine OK_jb (vX1_meet_2_l7 (m := L.2.1.1) _ _ _ (by exact ⟨LX, rn.2.1.2.2.1, by omega, by omega⟩) (by rfl)) (fun o4 r3 => ?_)
    try dsimp only [Sum.elim_inl, Sum.elim_inr, jt2, jt3, jt4, jt5, jt6, jt7, jt8] at r3
    obtain ⟨q13, fr3⟩ := r3
    try simp (disch := omega) only [jst_eq, jst_ne, jst_ni, jI_i, jcmp_lt, jcmp_gt, w32_id, jcpy_out, Sum.elim_inl, Sum.elim_inr, jt2, jt3, jt4, jt5, jt6, jt7, jt8] at q13
    try simp (disch := omega) only [jst_eq, jst_ne, jst_ni, jI_i, jcmp_lt, jcmp_gt, w32_id, jcpy_out, Sum.elim_inl, Sum.elim_inr, jt2, jt3, jt4, jt5, jt6, jt7, jt8] at fr3
    have F4 : ∀ a s, ¬ (a = 269 ∧ 0 ≤ s) → o4 a s = h a s := by assumption
    have Q4 : ∀ k, 0 ≤ k → k < L.2.1.1 → o4 269 k = h 406 k := by assumption
    rw [F4 200 39 (by omega), F4 (h 200 39) 2 (by omega), rn.2.1.2.2.1]
    refine OK_jl ?_
    have G6 : f269 h (jst o4 200 9 L.2.1.1) := fun a s y1 y2 => by { rw [jst_o (by omega)]; exact F4 a s y2 }
    have C9 : jst o4 200 9 L.2.1.1 200 9 = L.2.1.1 := jst_eq
    have C26 : ∀ k, 0 ≤ k → k < L.2.1.1 → jst o4 200 9 L.2.1.1 269 k = s9 k := fun k k0 k1 => by { rw [jst_ne (by decide), Q4 k k0 k1]; exact sv.2 k k0 k1 }
    have B6 : bd10 (jst o4 200 9 L.2.1.1) := by { unfold bd10; rw [jst_ni (by decide), F4 _ _ (by omega)]; exact rn.1.2.2.2.2 }
    generalize jst o4 200 9 L.2.1.1 = hq at *
    have W6 := wkO_f rn.1 B6 (fun a s y => G6 a s (by omega) (by omega))
    have E48 : hq 200 48 = h 200 48 := G6 _ _ (by omega) (by omega)
    have E46 : hq 200 46 = h 200 46 := G6 _ _ (by omega) (by omega)
    rw [E48]
    refine OK_if (fun c3 => ?_) (fun c3 => ?_)
    · skip
      try simp (disch := omega) only [jst_eq, jst_ne, jst_ni, jI_i, jcmp_lt, jcmp_gt, w32_id, jcpy_out, Sum.elim_inl, Sum.elim_inr, jt2, jt3, jt4, jt5, jt6, jt7, jt8] at c3
      refine OK_jb2 (vX1_work (E := E) (Rf := Rf) (W := W) (f := fun _ _ _ => 0) (N := 2200) (w := -1) (wv := 0) (np := L.2.1.1) (kp := L.2.1.2) (p := s9) (hl := hl) (R := T) _ _ _ (by (rw [z1]; exact ⟨W6.1, capX_fr z3 (fun a a0 a1 => G6 _ _ (by omega) (by omega)), vwX_fr (fun a s q => G6 _ _ (by omega) (by omega)) z2, z4.1, W6.2.2.1, Or.inl rfl, by decide, by rw [C9]; omega, by rw [C9]; have := z4.2.2.2; omega, by omega, fun c c0 c1 => ⟨by rw [Int.zero_add]; exact C26 c c0 (by omega), sv.1.1 c c0 c1⟩, W6.2.2.2.1, W6.2.2.2.2⟩)) (by (have := z4.2.2.2; omega))) (fun v9 h10 r4 => ?_)
      try dsimp only [Sum.elim_inl, Sum.elim_inr, jt2, jt3, jt4, jt5, jt6, jt7, jt8] at r4
      obtain ⟨ev4, pe4⟩ := r4
      try simp (disch := omega) only [jst_eq, jst_ne, jst_ni, jI_i, jcmp_lt, jcmp_gt, w32_id, jcpy_out, Sum.elim_inl, Sum.elim_inr, jt2, jt3, jt4, jt5, jt6, jt7, jt8] at ev4
      try simp (disch := omega) only [jst_eq, jst_ne, jst_ni, jI_i, jcmp_lt, jcmp_gt, w32_id, jcpy_out, Sum.elim_inl, Sum.elim_inr, jt2, jt3, jt4, jt5, jt6, jt7, jt8] at pe4
      have wr := w32_r (hq 200 10 + (evT W (fun _ _ _ => 0) s9 hl T).2)
      have pe10 := pe4.1
      have F10 : ∀ a s, ¬ (a = 200 ∧ (s = 9 ∨ s = 10)) → ¬ (a = 269 ∧ 0 ≤ s) → h10 a s = h a s := fun a s y1 y2 => by { rw [pe4.2 a s (by omega) (by omega)]; exact G6 a s y1 y2 }
      have V9 : v9 = evL W T s9 := by { rw [ev4]; exact evL_eq z4.2.2.1 (fun _ _ _ => rfl) }
      have E46b : h10 200 46 = h 200 46 := F10 _ _ (by omega) (by omega)
      rw [E46b]
      refine OK_if (fun c4 => ?_) (fun c4 => ?_)
      · skip
        try simp (disch := omega) only [jst_eq, jst_ne, jst_ni, jI_i, jcmp_lt, jcmp_gt, w32_id, jcpy_out, Sum.elim_inl, Sum.elim_inr, jt2, jt3, jt4, jt5, jt6, jt7, jt8] at c4
        unfold gX1_meet_2_j77
        refine OK_jl ?_
        refine OK_some ?_
        try dsimp only [Sum.elim_inl, Sum.elim_inr, jt2, jt3, jt4, jt5, jt6, jt7, jt8]
        try dsimp only [Sum.elim_inl, Sum.elim_inr, jt2, jt3, jt4, jt5, jt6, jt7, jt8]
        refine ⟨?_, ?_, ?_, ?_, ?_⟩
        · (intro z; omega) -- o30 e3.1
        · (intro _; left; refine ⟨by omega, by omega, ?_⟩; rw [jst_ni (by decide), F10 _ _ (by omega) (by omega)]; omega) -- o31 e3.2
        · (intro z; omega) -- o32 e3.3
        · exact fun _ a s y1 y2 => by rw [jst_o (by omega)]; exact F10 a s (by omega) y2 -- o33 e3.4
        · (unfold bd10; rw [jst_ni (by decide), pe10]; exact wr) -- o34 e3.5
      · skip
        try simp (disch := omega) only [jst_eq, jst_ne, jst_ni, jI_i, jcmp_lt, jcmp_gt, w32_id, jcpy_out, Sum.elim_inl, Sum.elim_inr, jt2, jt3, jt4, jt5, jt6, jt7, jt8] at c4
        refine OK_jl ?_
        unfold gX1_meet_2_j77
        refine OK_jl ?_
        refine OK_some ?_
        try dsimp only [Sum.elim_inl, Sum.elim_inr, jt2, jt3, jt4, jt5, jt6, jt7, jt8]
        try dsimp only [Sum.elim_inl, Sum.elim_inr, jt2, jt3, jt4, jt5, jt6, jt7, jt8]
        refine ⟨?_, ?_, ?_, ?_, ?_⟩
        · (intro z; omega) -- o35 e4.1
        · (intro _; right; left; refine ⟨by omega, by omega, ?_⟩; rw [jst_ni (by decide), jst_eq]) -- o36 e4.2
        · (intro z; omega) -- o37 e4.3
        · exact fun _ a s y1 y2 => by rw [jst_o (by omega), jst_o (by omega)]; exact F10 a s (by omega) y2 -- o38 e4.4
        · (unfold bd10; rw [jst_ni (by decide), jst_ni (by decide), pe10]; exact wr) -- o39 e4.5
    · skip
      try simp (disch := omega) only [jst_eq, jst_ne, jst_ni, jI_i, jcmp_lt, jcmp_gt, w32_id, jcpy_out, Sum.elim_inl, Sum.elim_inr, jt2, jt3, jt4, jt5, jt6, jt7, jt8] at c3
      unfold gX1_meet_2_j77
      refine OK_jl ?_
      refine OK_some ?_
      try dsimp only [Sum.elim_inl, Sum.elim_inr, jt2, jt3, jt4, jt5, jt6, jt7, jt8]
      try dsimp only [Sum.elim_inl, Sum.elim_inr, jt2, jt3, jt4, jt5, jt6, jt7, jt8]
      refine ⟨?_, ?_, ?_, ?_, ?_⟩
      · (intro z; omega) -- o40 e5.1
      · (intro _; right; right; refine ⟨by assumption, ?_⟩; rw [jst_ni (by decide)]; exact E48) -- o41 e5.2
      · (intro z; omega) -- o42 e5.3
      · exact fun _ a s y1 y2 => by rw [jst_o (by omega)]; exact G6 a s (by omega) y2 -- o43 e5.4
      · (unfold bd10; rw [jst_ni (by decide)]; exact B6) -- o44 e5.5

