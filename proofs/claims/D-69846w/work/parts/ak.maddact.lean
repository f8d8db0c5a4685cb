/-! m: an own act comes -/
/-- a told term's nodes stand where it was told -/
theorem resQ_S {h : AH} {E : EV} {lo n : Int} : ∀ {t : TR} {d j p pv hc : Int}, 0 ≤ j → lo ≤ d → d < lo + n → lo ≤ p → p + (sz t - 1) ≤ lo + n → rawS h t d j p pv → resM h (rsE E t hc) d j → resQ h (rgN lo n) (rsE E t hc) d j
  | .leaf i, d, j, p, pv, hc, j0, d0, d1, p0, p1, s, r => ⟨⟨d0, d1⟩, r⟩
  | .branch b s t, d, j, p, pv, hc, j0, d0, d1, p0, p1, q, r => by
    have z1 := sz_pos s
    have z2 := sz_pos t
    have e : sz (.branch b s t) = sz s + sz t := rfl
    rw [e] at p1
    obtain ⟨q1, q2, q3, q4⟩ := q
    obtain ⟨r1, r2, r3⟩ := r
    have c1 := q1 r1
    refine ⟨j0, r1, ?_, resQ_S (by omega) d0 d1 (by omega) (by omega) q4 r3⟩
    rw [c1] at r2 ⊢
    exact resQ_S (Int.le_refl _) (by omega) (by omega) (by omega) (by omega) q2 r2
def adN (N : Int) : Int := 5500 + 130 * (N - 26)
def frAa (N z : Int) (h h' : AH) : Prop := ∀ b s, ¬ (b = 454 ∧ (s = 5 ∨ s = 17)) → ¬ ((b = 455 ∨ b = 459) ∧ s = N) → ¬ (460 ≤ b ∧ b ≤ 469 ∧ b ≠ 464 ∧ adN N ≤ s ∧ s < adN N + z) → ¬ (b = 464 ∧ 3 * adN N ≤ s ∧ s < 3 * (adN N + z)) → h' b s = h b s
theorem vX14_addAct (a1 : Int) (a3 : Int) {h : AH} {N : Int} {R : TR} {Q : Int → Prop} (n5 : h 454 5 = N ∧ 26 ≤ N ∧ N ≤ 35) (tr : resQ h Q R a3 0) (qq : ∀ x, Q x → x < 5500) (sz1 : sz R ≤ 130 ∧ dpT R ≤ 38) : OK (gX14_addAct a1 a3 h) (fun h' => (h' 454 5 = N + 1 ∧ h' 455 N = a1 ∧ h' 459 N = adN N) ∧ (resQ h' (rgN (adN N) (sz R)) R (adN N) 0) ∧ (frAa N (sz R) h h')) := by
  obtain ⟨n1, n2, n3⟩ := n5
  have SP := sz_pos R
  unfold gX14_addAct
  refine OK_jg (by (first | assumption | omega | ((try dsimp only [jt2, jt3, jt4]); first | omega | (simp (disch := omega) only [jst_eq, jst_ne, jst_ni, jst_o, jI_i, jcpy_out, w32_id, jdiv_nn, jshr_k, jand_255] <;> first | done | omega | assumption)) | (intros; simp (disch := omega) only [jst_eq, jst_ne, jst_ni, jst_o, jI_i, jcpy_out, w32_id, jdiv_nn, *] <;> first | done | omega) | (intros; simp (disch := omega) only [jst_eq, jst_ne, jst_ni, jst_o, jI_i, jcpy_out, w32_id, jdiv_nn] at * <;> first | done | omega | assumption) | (intros; first | rfl | (exfalso; omega) | ((repeat' apply And.intro) <;> first | assumption | rfl | omega | trivial)))) ?_ -- o1
  refine OK_jl ?_
  have F1 : ∀ b s, ¬ (b = 455 ∧ s = N) → jst h 455 (h 454 5) a1 b s = h b s := fun b s y => jst_o (by omega)
  have V1 : jst h 455 (h 454 5) a1 455 N = a1 := by { rw [n1]; exact jst_eq }
  generalize jst h 455 (h 454 5) a1 = g1 at *
  have E1 : g1 454 5 = N := (F1 _ _ (by omega)).trans n1
  have W1 : w32 (5500 + w32 (130 * w32 (g1 454 5 - 26))) = adN N := by { rw [E1, w32_id (x := N - 26) (by omega) (by omega), w32_id (x := 130 * (N - 26)) (by omega) (by omega)]; unfold adN; exact w32_id (by omega) (by omega) }
  have A1 : adN N = 5500 + 130 * (N - 26) := rfl
  rw [W1]
  refine OK_jl ?_
  have F2 : ∀ b s, ¬ (b = 454 ∧ s = 17) → jst g1 454 17 (adN N) b s = g1 b s := fun b s y => jst_o (by omega)
  have V2 : jst g1 454 17 (adN N) 454 17 = adN N := jst_eq
  generalize jst g1 454 17 (adN N) = g2 at *
  have E2 : g2 454 5 = N := (F2 _ _ (by omega)).trans E1
  refine OK_jb2 (vX14_copy (Q := Q) (R := R) _ _ _ (by exact resQ_rw (resQ_fr (fun a s a0 a1 _ _ => (F2 _ _ (by omega)).trans (F1 _ _ (by omega))) (fun s j _ _ _ => (F2 _ _ (by omega)).trans (F1 _ _ (by omega))) tr)) (by (intro x q; have := qq x q; omega)) (by omega) (by exact sz1.2)) (fun v4 h5 r1 => ?_)
  try dsimp only [Sum.elim_inl, Sum.elim_inr, jt2, jt3, jt4, jt5, jt6, jt7, jt8] at r1
  have po1 := r1
  clear r1
  try simp (disch := omega) only [jst_eq, jst_ne, jst_ni, jI_i, jcmp_lt, jcmp_gt, w32_id, jcpy_out, Sum.elim_inl, Sum.elim_inr, jt2, jt3, jt4, jt5, jt6, jt7, jt8] at po1
  obtain ⟨v4e, n4, rq, fd⟩ := po1
  rw [V2] at v4e n4 rq fd
  rw [E2]
  refine OK_jg (by (first | assumption | omega | ((try dsimp only [jt2, jt3, jt4]); first | omega | (simp (disch := omega) only [jst_eq, jst_ne, jst_ni, jst_o, jI_i, jcpy_out, w32_id, jdiv_nn, jshr_k, jand_255] <;> first | done | omega | assumption)) | (intros; simp (disch := omega) only [jst_eq, jst_ne, jst_ni, jst_o, jI_i, jcpy_out, w32_id, jdiv_nn, *] <;> first | done | omega) | (intros; simp (disch := omega) only [jst_eq, jst_ne, jst_ni, jst_o, jI_i, jcpy_out, w32_id, jdiv_nn] at * <;> first | done | omega | assumption) | (intros; first | rfl | (exfalso; omega) | ((repeat' apply And.intro) <;> first | assumption | rfl | omega | trivial)))) ?_ -- o6
  refine OK_jl ?_
  have F6 : ∀ b s, ¬ (b = 459 ∧ s = N) → jst h5 459 N v4 b s = h5 b s := fun b s y => jst_o (by omega)
  have V6 : jst h5 459 N v4 459 N = adN N := jst_eq.trans v4e
  generalize jst h5 459 N v4 = g6 at *
  have E6 : g6 454 5 = N := (F6 _ _ (by omega)).trans ((fd _ _ (by omega) (by omega) (by omega)).trans E2)
  refine OK_jl ?_
  have F7 : ∀ b s, ¬ (b = 454 ∧ s = 5) → jst g6 454 5 (w32 (g6 454 5 + 1)) b s = g6 b s := fun b s y => jst_o (by omega)
  have V7 : jst g6 454 5 (w32 (g6 454 5 + 1)) 454 5 = N + 1 := by { rw [jst_eq, E6]; exact w32_id (by omega) (by omega) }
  generalize jst g6 454 5 (w32 (g6 454 5 + 1)) = g7 at *
  refine OK_some ?_
  try dsimp only [Sum.elim_inl, Sum.elim_inr, jt2, jt3, jt4, jt5, jt6, jt7, jt8]
  try dsimp only [Sum.elim_inl, Sum.elim_inr, jt2, jt3, jt4, jt5, jt6, jt7, jt8]
  refine ⟨?_, ?_, ?_⟩
  · (refine ⟨V7, ?_, ?_⟩; { rw [F7 _ _ (by omega), F6 _ _ (by omega), fd _ _ (by omega) (by omega) (by omega), F2 _ _ (by omega)]; exact V1 }; { rw [F7 _ _ (by omega)]; exact V6 }) -- o7 e1.1
  · (rw [← v4e]; exact resQ_fr (fun a s a0 a1 _ _ => (F7 _ _ (by omega)).trans (F6 _ _ (by omega))) (fun s j _ _ _ => (F7 _ _ (by omega)).trans (F6 _ _ (by omega))) (by rw [v4e]; rw [v4e] at rq; exact rq)) -- o8 e1.2
  · exact fun b s y1 y2 y3 y4 => (F7 _ _ (by omega)).trans ((F6 _ _ (by omega)).trans ((fd _ _ (by omega) (by omega) (by omega)).trans ((F2 _ _ (by omega)).trans (F1 _ _ (by omega))))) -- o9 e1.3
theorem vX14_newAct_l15 (a10 : Int) {h0 : AH} {N L : Int} (lo : h0 454 5 = N ∧ 26 ≤ N ∧ N ≤ 35 ∧ h0 454 68 = L ∧ 0 ≤ L ∧ L ≤ 3 ∧ a10 = 0) : OK (gX14_newAct_l15 a10 h0) (fun h' => (∀ k, 0 ≤ k → k < L → h' 457 (3 * N + k) = h0 794 k) ∧ (∀ b s, ¬ (b = 457 ∧ 3 * N ≤ s ∧ s < 3 * N + 3) → h' b s = h0 b s)) := by
  unfold gX14_newAct_l15
  refine OK_jit (I := (fun (s : Int × AH) => jt2 s fun a1 h => (0 ≤ a1 ∧ a1 ≤ L) ∧ (∀ k, 0 ≤ k → k < a1 → h 457 (3 * N + k) = h0 794 k) ∧ (∀ b s, ¬ (b = 457 ∧ 3 * N ≤ s ∧ s < 3 * N + 3) → h b s = h0 b s))) (m := (fun (s : Int × AH) => jt2 s fun a1 h => (L - a1).toNat)) ?_ ?_
  · intro s hs
    obtain ⟨a1, h⟩ := s
    dsimp only [Sum.elim_inl, Sum.elim_inr, jt2, jt3, jt4, jt5, jt6, jt7, jt8] at hs
    obtain ⟨q0, q1, fr⟩ := hs
    unfold gX14_newAct_b15
    refine OK_jt2 ?_
    have E5 : h 454 5 = N := (fr _ _ (by omega)).trans lo.1
    have E68 : h 454 68 = L := (fr _ _ (by omega)).trans lo.2.2.2.1
    have W1 : w32 (w32 (3 * h 454 5) + a1) = 3 * N + a1 := by { rw [E5, w32_id (x := 3 * N) (by omega) (by omega)]; exact w32_id (by omega) (by omega) }
    refine OK_if (fun c1 => ?_) (fun c1 => ?_)
    · skip
      try simp (disch := omega) only [jst_eq, jst_ne, jst_ni, jI_i, jcmp_lt, jcmp_gt, w32_id, jcpy_out, Sum.elim_inl, Sum.elim_inr, jt2, jt3, jt4, jt5, jt6, jt7, jt8] at c1
      refine OK_ir ?_
      try dsimp only [Sum.elim_inl, Sum.elim_inr, jt2, jt3, jt4, jt5, jt6, jt7, jt8]
      refine ⟨?_, ?_⟩
      · exact fun k k0 k1 => q1 k k0 (by omega) -- o1 e1.1
      · (first | assumption | omega | ((try dsimp only [jt2, jt3, jt4]); first | omega | (simp (disch := omega) only [jst_eq, jst_ne, jst_ni, jst_o, jI_i, jcpy_out, w32_id, jdiv_nn, jshr_k, jand_255] <;> first | done | omega | assumption)) | (intros; simp (disch := omega) only [jst_eq, jst_ne, jst_ni, jst_o, jI_i, jcpy_out, w32_id, jdiv_nn, *] <;> first | done | omega) | (intros; simp (disch := omega) only [jst_eq, jst_ne, jst_ni, jst_o, jI_i, jcpy_out, w32_id, jdiv_nn] at * <;> first | done | omega | assumption) | (intros; first | rfl | (exfalso; omega) | ((repeat' apply And.intro) <;> first | assumption | rfl | omega | trivial))) -- o2 e1.2
    · skip
      try simp (disch := omega) only [jst_eq, jst_ne, jst_ni, jI_i, jcmp_lt, jcmp_gt, w32_id, jcpy_out, Sum.elim_inl, Sum.elim_inr, jt2, jt3, jt4, jt5, jt6, jt7, jt8] at c1
      rw [W1]
      refine OK_jg (by (first | assumption | omega | ((try dsimp only [jt2, jt3, jt4]); first | omega | (simp (disch := omega) only [jst_eq, jst_ne, jst_ni, jst_o, jI_i, jcpy_out, w32_id, jdiv_nn, jshr_k, jand_255] <;> first | done | omega | assumption)) | (intros; simp (disch := omega) only [jst_eq, jst_ne, jst_ni, jst_o, jI_i, jcpy_out, w32_id, jdiv_nn, *] <;> first | done | omega) | (intros; simp (disch := omega) only [jst_eq, jst_ne, jst_ni, jst_o, jI_i, jcpy_out, w32_id, jdiv_nn] at * <;> first | done | omega | assumption) | (intros; first | rfl | (exfalso; omega) | ((repeat' apply And.intro) <;> first | assumption | rfl | omega | trivial)))) ?_ -- o3
      refine OK_jg (by (first | assumption | omega | ((try dsimp only [jt2, jt3, jt4]); first | omega | (simp (disch := omega) only [jst_eq, jst_ne, jst_ni, jst_o, jI_i, jcpy_out, w32_id, jdiv_nn, jshr_k, jand_255] <;> first | done | omega | assumption)) | (intros; simp (disch := omega) only [jst_eq, jst_ne, jst_ni, jst_o, jI_i, jcpy_out, w32_id, jdiv_nn, *] <;> first | done | omega) | (intros; simp (disch := omega) only [jst_eq, jst_ne, jst_ni, jst_o, jI_i, jcpy_out, w32_id, jdiv_nn] at * <;> first | done | omega | assumption) | (intros; first | rfl | (exfalso; omega) | ((repeat' apply And.intro) <;> first | assumption | rfl | omega | trivial)))) ?_ -- o4
      refine OK_jl ?_
      refine OK_jlx (fun x9 ex9 => ?_)
      try simp (disch := omega) only [jst_eq, jst_ne, jst_ni, jI_i, jcmp_lt, jcmp_gt, w32_id, jcpy_out, Sum.elim_inl, Sum.elim_inr, jt2, jt3, jt4, jt5, jt6, jt7, jt8] at ex9
      refine OK_il ?_ ?_
      · try dsimp only [Sum.elim_inl, Sum.elim_inr, jt2, jt3, jt4, jt5, jt6, jt7, jt8]
        refine ⟨?_, ?_, ?_⟩
        · omega -- o5 e2i.1
        · (intro k k0 k1; by_cases c : k = a1; { rw [c, jst_eq]; exact fr _ _ (by omega) }; { rw [jst_o (by omega)]; exact q1 k k0 (by omega) }) -- o6 e2i.2
        · exact fun b s y => (jst_o (by omega)).trans (fr b s y) -- o7 e2i.3
      · (dsimp only [jt2]; omega) -- o8 e2m
  · try dsimp only [Sum.elim_inl, Sum.elim_inr, jt2, jt3, jt4, jt5, jt6, jt7, jt8]
    refine ⟨?_, ?_, ?_⟩
    · omega -- o9 init.1
    · (intro k k0 k1; omega) -- o10 init.2
    · exact fun _ _ _ => rfl -- o11 init.3
theorem vX14_newAct {h : AH} {N L : Int} {R : TR} {Q : Int → Prop} (n5 : h 454 5 = N ∧ 26 ≤ N ∧ N ≤ 35 ∧ h 454 68 = L ∧ 0 ≤ L ∧ L ≤ 3) (tr : resQ h Q R (h 454 69) 0) (qq : ∀ x, Q x → x < 5500) (sz1 : sz R ≤ 130 ∧ dpT R ≤ 38) : OK (gX14_newAct h) (fun h' => (h' 454 5 = N + 1 ∧ h' 455 N = h 454 67 ∧ h' 456 N = L ∧ (∀ k, 0 ≤ k → k < L → h' 457 (3 * N + k) = h 794 k) ∧ h' 458 N = h 454 66 ∧ h' 459 N = adN N) ∧ (resQ h' (rgN (adN N) (sz R)) R (adN N) 0) ∧ (∀ b s, ¬ (b = 454 ∧ (s = 5 ∨ s = 17)) → ¬ ((b = 455 ∨ b = 456 ∨ b = 458 ∨ b = 459) ∧ s = N) → ¬ (b = 457 ∧ 3 * N ≤ s ∧ s < 3 * N + 3) → ¬ (460 ≤ b ∧ b ≤ 469 ∧ b ≠ 464 ∧ adN N ≤ s ∧ s < adN N + sz R) → ¬ (b = 464 ∧ 3 * adN N ≤ s ∧ s < 3 * (adN N + sz R)) → h' b s = h b s)) := by
  obtain ⟨n1, n2, n3, n4, n6, n7⟩ := n5
  unfold gX14_newAct
  refine OK_jg (by (first | assumption | omega | ((try dsimp only [jt2, jt3, jt4]); first | omega | (simp (disch := omega) only [jst_eq, jst_ne, jst_ni, jst_o, jI_i, jcpy_out, w32_id, jdiv_nn, jshr_k, jand_255] <;> first | done | omega | assumption)) | (intros; simp (disch := omega) only [jst_eq, jst_ne, jst_ni, jst_o, jI_i, jcpy_out, w32_id, jdiv_nn, *] <;> first | done | omega) | (intros; simp (disch := omega) only [jst_eq, jst_ne, jst_ni, jst_o, jI_i, jcpy_out, w32_id, jdiv_nn] at * <;> first | done | omega | assumption) | (intros; first | rfl | (exfalso; omega) | ((repeat' apply And.intro) <;> first | assumption | rfl | omega | trivial)))) ?_ -- o1
  refine OK_jl ?_
  have F1 : ∀ b s, ¬ (b = 456 ∧ s = N) → jst h 456 (h 454 5) (h 454 68) b s = h b s := fun b s y => jst_o (by omega)
  have V1 : jst h 456 (h 454 5) (h 454 68) 456 N = L := by { rw [n1, n4]; exact jst_eq }
  generalize jst h 456 (h 454 5) (h 454 68) = g1 at *
  refine OK_jb (vX14_newAct_l15 (N := N) (L := L) _ (by exact ⟨(F1 _ _ (by omega)).trans n1, n2, n3, (F1 _ _ (by omega)).trans n4, n6, n7, rfl⟩)) (fun o2 r1 => ?_)
  try dsimp only [Sum.elim_inl, Sum.elim_inr, jt2, jt3, jt4, jt5, jt6, jt7, jt8] at r1
  obtain ⟨v1, fr1⟩ := r1
  try simp (disch := omega) only [jst_eq, jst_ne, jst_ni, jI_i, jcmp_lt, jcmp_gt, w32_id, jcpy_out, Sum.elim_inl, Sum.elim_inr, jt2, jt3, jt4, jt5, jt6, jt7, jt8] at v1
  try simp (disch := omega) only [jst_eq, jst_ne, jst_ni, jI_i, jcmp_lt, jcmp_gt, w32_id, jcpy_out, Sum.elim_inl, Sum.elim_inr, jt2, jt3, jt4, jt5, jt6, jt7, jt8] at fr1
  have E2 : o2 454 5 = N := (fr1 _ _ (by omega)).trans ((F1 _ _ (by omega)).trans n1)
  refine OK_jg (by (first | assumption | omega | ((try dsimp only [jt2, jt3, jt4]); first | omega | (simp (disch := omega) only [jst_eq, jst_ne, jst_ni, jst_o, jI_i, jcpy_out, w32_id, jdiv_nn, jshr_k, jand_255] <;> first | done | omega | assumption)) | (intros; simp (disch := omega) only [jst_eq, jst_ne, jst_ni, jst_o, jI_i, jcpy_out, w32_id, jdiv_nn, *] <;> first | done | omega) | (intros; simp (disch := omega) only [jst_eq, jst_ne, jst_ni, jst_o, jI_i, jcpy_out, w32_id, jdiv_nn] at * <;> first | done | omega | assumption) | (intros; first | rfl | (exfalso; omega) | ((repeat' apply And.intro) <;> first | assumption | rfl | omega | trivial)))) ?_ -- o3
  refine OK_jl ?_
  have F4 : ∀ b s, ¬ (b = 458 ∧ s = N) → jst o2 458 (o2 454 5) (o2 454 66) b s = o2 b s := fun b s y => jst_o (by omega)
  have V4 : jst o2 458 (o2 454 5) (o2 454 66) 458 N = h 454 66 := by { rw [E2, jst_eq, fr1 _ _ (by omega)]; exact F1 _ _ (by omega) }
  generalize jst o2 458 (o2 454 5) (o2 454 66) = g4 at *
  have G4 : ∀ b s, ¬ ((b = 456 ∨ b = 458) ∧ s = N) → ¬ (b = 457 ∧ 3 * N ≤ s ∧ s < 3 * N + 3) → g4 b s = h b s := fun b s y1 y2 => (F4 _ _ (by omega)).trans ((fr1 _ _ y2).trans (F1 _ _ (by omega)))
  refine OK_jb (vX14_addAct (N := N) (R := R) (Q := Q) _ _ (by exact ⟨(G4 _ _ (by omega) (by omega)).trans n1, n2, n3⟩) (by (rw [G4 454 69 (by omega) (by omega)]; exact resQ_fr (fun a s a0 a1 _ _ => G4 _ _ (by omega) (by omega)) (fun s j _ _ _ => G4 _ _ (by omega) (by omega)) tr)) (by exact qq) (by exact sz1)) (fun h6 r2 => ?_)
  try dsimp only [Sum.elim_inl, Sum.elim_inr, jt2, jt3, jt4, jt5, jt6, jt7, jt8] at r2
  obtain ⟨vv2, tx2, fr2⟩ := r2
  try simp (disch := omega) only [jst_eq, jst_ne, jst_ni, jI_i, jcmp_lt, jcmp_gt, w32_id, jcpy_out, Sum.elim_inl, Sum.elim_inr, jt2, jt3, jt4, jt5, jt6, jt7, jt8] at vv2
  try simp (disch := omega) only [jst_eq, jst_ne, jst_ni, jI_i, jcmp_lt, jcmp_gt, w32_id, jcpy_out, Sum.elim_inl, Sum.elim_inr, jt2, jt3, jt4, jt5, jt6, jt7, jt8] at tx2
  try simp (disch := omega) only [jst_eq, jst_ne, jst_ni, jI_i, jcmp_lt, jcmp_gt, w32_id, jcpy_out, Sum.elim_inl, Sum.elim_inr, jt2, jt3, jt4, jt5, jt6, jt7, jt8] at fr2
  have A1 : adN N = 5500 + 130 * (N - 26) := rfl
  refine OK_some ?_
  try dsimp only [Sum.elim_inl, Sum.elim_inr, jt2, jt3, jt4, jt5, jt6, jt7, jt8]
  try dsimp only [Sum.elim_inl, Sum.elim_inr, jt2, jt3, jt4, jt5, jt6, jt7, jt8]
  refine ⟨?_, ?_, ?_⟩
  · (refine ⟨vv2.1, vv2.2.1.trans (G4 _ _ (by omega) (by omega)), ?_, ?_, ?_, vv2.2.2⟩; { rw [fr2 _ _ (by omega) (by omega) (by omega) (by omega), F4 _ _ (by omega), fr1 _ _ (by omega)]; exact V1 }; { intro k k0 k1; rw [fr2 _ _ (by omega) (by omega) (by omega) (by omega), F4 _ _ (by omega), v1 k k0 k1]; exact F1 _ _ (by omega) }; { rw [fr2 _ _ (by omega) (by omega) (by omega) (by omega)]; exact V4 }) -- o8 e1.1
  · exact tx2 -- o9 e1.2
  · exact fun b s y1 y2 y3 y4 y5 => (fr2 b s y1 (by omega) y4 y5).trans (G4 b s (by omega) y3) -- o10 e1.3

