/-! x: an own act comes -/
theorem rXc_tr {h : AH} {E : EV} (ac : acE E) {np T lo hi : Int} {kp : Int → Int} : ∀ {R : TR} {d j p : Int}, tyT E np kp R j → rXc h T R d j p → 0 ≤ j → lo ≤ d → d < hi → lo ≤ p → p + (sz R - 1) ≤ hi → trX h T lo hi R d j
  | .leaf i, d, j, p, _, r, j0, d0, d1, _, _ => ⟨d0, d1, r.1, r.2.1, r.2.2.1, r.2.2.2.2⟩
  | .branch b s r, d, j, p, t, q, j0, d0, d1, p0, p1 => by
    have n := tyI_n ac (tyT_nd t.2.2)
    have n0 := nk_0 r
    have z1 := sz_pos s
    have z2 := sz_pos r
    have e : sz (.branch b s r) = sz s + sz r := rfl
    rw [e] at p1
    have j3 : j < 3 := by omega
    obtain ⟨q1, q2, q3⟩ := q
    refine ⟨j0, j3, ?_, rXc_tr ac t.2.2 q3 (by omega) d0 d1 (by omega) (by omega)⟩
    rw [q1 j3]
    exact rXc_tr ac t.1 q2 (Int.le_refl _) p0 (by omega) (by omega) (by omega)
theorem vX1_addOwn_l42 (i2 : Int) (i3 : Int) (i5 : Int) (i6 : Int) (a70 : Int) {h0 : AH} {o : Int} (lo : h0 200 7 = o ∧ 0 ≤ o ∧ o ≤ 9 ∧ a70 = 0) (ar : h0 i5 (-2) = 101 ∧ 2 ≤ h0 i5 (-1) ∧ i5 ≠ 266) : OK (gX1_addOwn_l42 i2 i3 i5 i6 a70 h0) (fun h' => (∀ k, 0 ≤ k → k < 2 → h' 266 (3 * o + k) = h0 i5 k) ∧ (∀ b s, ¬ (b = 266 ∧ 3 * o ≤ s ∧ s < 3 * o + 2) → h' b s = h0 b s)) := by
  unfold gX1_addOwn_l42
  refine OK_jit (I := (fun (s : Int × AH) => jt2 s fun a7 h => (0 ≤ a7 ∧ a7 ≤ 2) ∧ (∀ k, 0 ≤ k → k < a7 → h 266 (3 * o + k) = h0 i5 k) ∧ (∀ b s, ¬ (b = 266 ∧ 3 * o ≤ s ∧ s < 3 * o + 2) → h b s = h0 b s))) (m := (fun (s : Int × AH) => jt2 s fun a7 h => (2 - a7).toNat)) ?_ ?_
  · intro s hs
    obtain ⟨a7, h⟩ := s
    dsimp only [Sum.elim_inl, Sum.elim_inr, jt2, jt3, jt4, jt5, jt6, jt7, jt8] at hs
    obtain ⟨q0, q1, fr⟩ := hs
    unfold gX1_addOwn_b42
    refine OK_jt2 ?_
    have E7 : h 200 7 = o := (fr _ _ (by omega)).trans lo.1
    have A5 : h i5 (-2) = 101 ∧ 2 ≤ h i5 (-1) := by { rw [fr _ _ (by omega), fr _ _ (by omega)]; exact ⟨ar.1, ar.2.1⟩ }
    have W1 : w32 (w32 (3 * h 200 7) + a7) = 3 * o + a7 := by { rw [E7, w32_id (x := 3 * o) (by omega) (by omega)]; exact w32_id (by omega) (by omega) }
    refine OK_if (fun c1 => ?_) (fun c1 => ?_)
    · skip
      try simp (disch := omega) only [jst_eq, jst_ne, jst_ni, jI_i, jcmp_lt, jcmp_gt, w32_id, jcpy_out, Sum.elim_inl, Sum.elim_inr, jt2, jt3, jt4, jt5, jt6, jt7, jt8] at c1
      refine OK_ir ?_
      try dsimp only [Sum.elim_inl, Sum.elim_inr, jt2, jt3, jt4, jt5, jt6, jt7, jt8]
      refine ⟨?_, ?_⟩
      · exact fun k k0 k1 => q1 k k0 (by omega) -- o1 e1.1
      · (first | assumption | omega | ((try dsimp only [jt2, jt3, jt4]); first | omega | (simp (disch := omega) only [jst_eq, jst_ne, jst_ni, jst_o, jI_i, jcpy_out, w32_id, jdiv_nn, jshr_k, jand_255] <;> first | done | omega | assumption)) | (intros; simp (disch := omega) only [jst_eq, jst_ne, jst_ni, jst_o, jI_i, jcpy_out, w32_id, jdiv_nn, *] <;> first | done | omega) | (intros; simp (disch := omega) only [jst_eq, jst_ne, jst_ni, jst_o, jI_i, jcpy_out, w32_id, jdiv_nn] at * <;> first | done | omega | assumption) | (intros; first | rfl | (exfalso; omega) | ((repeat' apply And.intro) <;> first | assumption | rfl | omega | trivial))) -- o2 e1.2
    · skip
      try simp (disch := omega) only [jst_eq, jst_ne, jst_ni, jI_i, jcmp_lt, jcmp_gt, w32_id, jcpy_out, Sum.elim_inl, Sum.elim_inr, jt2, jt3, jt4, jt5, jt6, jt7, jt8] at c1
      rw [W1]
      refine OK_jg (by (first | assumption | omega | ((try dsimp only [jt2, jt3, jt4]); first | omega | (simp (disch := omega) only [jst_eq, jst_ne, jst_ni, jst_o, jI_i, jcpy_out, w32_id, jdiv_nn, jshr_k, jand_255] <;> first | done | omega | assumption)) | (intros; simp (disch := omega) only [jst_eq, jst_ne, jst_ni, jst_o, jI_i, jcpy_out, w32_id, jdiv_nn, *] <;> first | done | omega) | (intros; simp (disch := omega) only [jst_eq, jst_ne, jst_ni, jst_o, jI_i, jcpy_out, w32_id, jdiv_nn] at * <;> first | done | omega | assumption) | (intros; first | rfl | (exfalso; omega) | ((repeat' apply And.intro) <;> first | assumption | rfl | omega | trivial)))) ?_ -- o3
      refine OK_jg (by (first | assumption | omega | ((try dsimp only [jt2, jt3, jt4]); first | omega | (simp (disch := omega) only [jst_eq, jst_ne, jst_ni, jst_o, jI_i, jcpy_out, w32_id, jdiv_nn, jshr_k, jand_255] <;> first | done | omega | assumption)) | (intros; simp (disch := omega) only [jst_eq, jst_ne, jst_ni, jst_o, jI_i, jcpy_out, w32_id, jdiv_nn, *] <;> first | done | omega) | (intros; simp (disch := omega) only [jst_eq, jst_ne, jst_ni, jst_o, jI_i, jcpy_out, w32_id, jdiv_nn] at * <;> first | done | omega | assumption) | (intros; first | rfl | (exfalso; omega) | ((repeat' apply And.intro) <;> first | assumption | rfl | omega | trivial)))) ?_ -- o4
      refine OK_jl ?_
      refine OK_jlx (fun x16 ex16 => ?_)
      try simp (disch := omega) only [jst_eq, jst_ne, jst_ni, jI_i, jcmp_lt, jcmp_gt, w32_id, jcpy_out, Sum.elim_inl, Sum.elim_inr, jt2, jt3, jt4, jt5, jt6, jt7, jt8] at ex16
      refine OK_il ?_ ?_
      · try dsimp only [Sum.elim_inl, Sum.elim_inr, jt2, jt3, jt4, jt5, jt6, jt7, jt8]
        refine ⟨?_, ?_, ?_⟩
        · omega -- o5 e2i.1
        · (intro k k0 k1; by_cases c : k = a7; { rw [c, jst_eq]; exact fr _ _ (by omega) }; { rw [jst_o (by omega)]; exact q1 k k0 (by omega) }) -- o6 e2i.2
        · exact fun b s y => (jst_o (by omega)).trans (fr b s y) -- o7 e2i.3
      · (dsimp only [jt2]; omega) -- o8 e2m
  · try dsimp only [Sum.elim_inl, Sum.elim_inr, jt2, jt3, jt4, jt5, jt6, jt7, jt8]
    refine ⟨?_, ?_, ?_⟩
    · omega -- o9 init.1
    · (intro k k0 k1; omega) -- o10 init.2
    · exact fun _ _ _ => rfl -- o11 init.3
def frAd (o N z : Int) (h h' : AH) : Prop := ∀ b s, ¬ (b = 200 ∧ s = 7) → ¬ ((b = 264 ∨ b = 265 ∨ b = 267 ∨ b = 268) ∧ s = o) → ¬ (b = 266 ∧ 3 * o ≤ s ∧ s < 3 * o + 3) → ¬ (b = 258 ∧ s = 0) → ¬ (259 ≤ b ∧ b ≤ 262 ∧ N ≤ s ∧ s < N + z) → ¬ (b = 263 ∧ 3 * N ≤ s ∧ s < 3 * (N + z)) → h' b s = h b s
theorem frAd_mk {h h1 h4 h5 h6 h7 h9 h12 h13 : AH} {o N z : Int} (F1 : ∀ b s, ¬ (b = 268 ∧ s = o) → h1 b s = h b s) (fc : ∀ a s, ¬ (a = 258 ∧ s = 0) → ¬ (258 + 1 ≤ a ∧ a ≤ 258 + 4 ∧ N ≤ s ∧ s < N + z) → ¬ (a = 258 + 5 ∧ 3 * N ≤ s ∧ s < 3 * (N + z)) → h4 a s = h1 a s) (F5 : ∀ b s, ¬ (b = 264 ∧ s = o) → h5 b s = h4 b s) (F6 : ∀ b s, ¬ (b = 265 ∧ s = o) → h6 b s = h5 b s) (F7 : ∀ b s, ¬ (b = 266 ∧ 3 * o ≤ s ∧ s < 3 * o + 2) → h7 b s = h6 b s) (F9 : ∀ b s, ¬ (b = 266 ∧ s = 3 * o + 2) → h9 b s = h7 b s) (F12 : ∀ b s, ¬ (b = 267 ∧ s = o) → h12 b s = h9 b s) (F13 : ∀ b s, ¬ (b = 200 ∧ s = 7) → h13 b s = h12 b s) : frAd o N z h h13 := fun b s y1 y2 y3 y4 y5 y6 => by
  have e13 := F13 b s y1
  have e12 := F12 b s (fun q => y2 ⟨Or.inr (Or.inr (Or.inl q.1)), q.2⟩)
  have e9 := F9 b s (fun q => y3 ⟨q.1, by have := q.2; clear y1 y2 y3 y4 y5 y6; omega, by have := q.2; clear y1 y2 y3 y4 y5 y6; omega⟩)
  have e7 := F7 b s (fun q => y3 ⟨q.1, q.2.1, by have := q.2.2; clear y1 y2 y3 y4 y5 y6; omega⟩)
  have e6 := F6 b s (fun q => y2 ⟨Or.inr (Or.inl q.1), q.2⟩)
  have e5 := F5 b s (fun q => y2 ⟨Or.inl q.1, q.2⟩)
  have e4 := fc b s y4 (fun q => y5 ⟨q.1, q.2.1, q.2.2⟩) (fun q => y6 ⟨q.1, q.2⟩)
  have e1 := F1 b s (fun q => y2 ⟨Or.inr (Or.inr (Or.inr q.1)), q.2⟩)
  exact e13.trans (e12.trans (e9.trans (e7.trans (e6.trans (e5.trans (e4.trans e1))))))
theorem vX1_addOwn (a1 : Int) (a2 : Int) (a3 : Int) (a4 : Int) (a5 : Int) (a6 : Int) {h : AH} {o N M1 : Int} {R : TR} {wA : Int → Int} (op : h 200 7 = o ∧ 0 ≤ o ∧ o ≤ 9) (nm : h a1 (-2) = 1) (W : ∀ a, 26 ≤ a → 0 ≤ wA a) (ow : ∀ a, 26 ≤ a → a < o + 26 → h 267 (a - 26) = wA a ∧ wA a ≤ 40) (tr : trX h a2 0 M1 R a3 0) (cp : capT h 258 1300 ∧ capT h a2 M1 ∧ 263 < a2 ∧ (a2 + 5 < 264 ∨ 268 < a2)) (nn : N = h 258 0 ∧ 0 ≤ N ∧ N + sz R ≤ 1300) (dk : dpT R ≤ 39 ∧ acR (o + 26) R ∧ wtR wA R ≤ 100000) (ar : h a5 (-2) = 101 ∧ 2 ≤ h a5 (-1) ∧ (268 < a5)) : OK (gX1_addOwn a1 a2 a3 a4 a5 a6 h) (fun h' => (h' 200 7 = o + 1 ∧ h' 268 o = a1 ∧ h' 264 o = N ∧ h' 265 o = a4 ∧ (∀ k, 0 ≤ k → k < 2 → h' 266 (3 * o + k) = h a5 k) ∧ h' 266 (3 * o + 2) = a6 ∧ h' 267 o = wtR wA R) ∧ (h' 258 0 = N + sz R ∧ cX h' 258 R N 0 (N + 1)) ∧ (frAd o N (sz R) h h')) := by
  have C1 := cp.2.1
  have A2 : a2 ≤ 400 := cp.2.1.2.2.2.2.2.2.1
  obtain ⟨o1, o2, o3⟩ := op
  have SP := sz_pos R
  unfold gX1_addOwn
  refine OK_jg (by (first | exact ⟨by unfold jI; omega, Or.inr nm⟩ | (unfold jI; omega))) ?_ -- o1
  refine OK_jl ?_
  have F1 : ∀ b s, ¬ (b = 268 ∧ s = o) → jst h 268 (h 200 7) a1 b s = h b s := fun b s y => jst_o (by omega)
  have V1 : jst h 268 (h 200 7) a1 268 o = a1 := by { rw [o1]; exact jst_eq }
  generalize jst h 268 (h 200 7) a1 = g1 at *
  have E1 : g1 200 7 = o := (F1 _ _ (by omega)).trans o1
  refine OK_jb2 (vX3_copy (M0 := 1300) (M1 := M1) (R := R) _ _ _ (by (unfold dsj; omega)) (by exact capT_fr cp.1 (fun a x y => F1 _ _ (by omega))) (by exact capT_fr cp.2.1 (fun a x y => F1 _ _ (by omega))) (by exact trX_fr (fun a s x y z w => F1 _ _ (by omega)) (fun s z w => F1 _ _ (by omega)) tr (Int.le_refl _)) (by (rw [F1 _ _ (by omega)]; omega)) (by exact dk.1)) (fun v3 h4 r1 => ?_)
  try dsimp only [Sum.elim_inl, Sum.elim_inr, jt2, jt3, jt4, jt5, jt6, jt7, jt8] at r1
  have po1 := r1
  clear r1
  try simp (disch := omega) only [jst_eq, jst_ne, jst_ni, jI_i, jcmp_lt, jcmp_gt, w32_id, jcpy_out, Sum.elim_inl, Sum.elim_inr, jt2, jt3, jt4, jt5, jt6, jt7, jt8] at po1
  obtain ⟨v3e, n4, cx, fc⟩ := po1
  rw [F1 _ _ (by omega), ← nn.1] at v3e n4 fc
  have E4 : h4 200 7 = o := (fc _ _ (by omega) (by omega) (by omega)).trans E1
  rw [E1]
  refine OK_jg (by (first | exact ⟨by unfold jI; omega, Or.inr nm⟩ | (unfold jI; omega))) ?_ -- o8
  refine OK_jl ?_
  have F5 : ∀ b s, ¬ (b = 264 ∧ s = o) → jst h4 264 o v3 b s = h4 b s := fun b s y => jst_o (by omega)
  have V5 : jst h4 264 o v3 264 o = N := jst_eq.trans v3e
  generalize jst h4 264 o v3 = g5 at *
  have E5 : g5 200 7 = o := (F5 _ _ (by omega)).trans E4
  refine OK_jg (by (first | exact ⟨by unfold jI; omega, Or.inr nm⟩ | (unfold jI; omega))) ?_ -- o9
  refine OK_jl ?_
  have F6 : ∀ b s, ¬ (b = 265 ∧ s = o) → jst g5 265 (g5 200 7) a4 b s = g5 b s := fun b s y => jst_o (by omega)
  have V6 : jst g5 265 (g5 200 7) a4 265 o = a4 := by { rw [E5]; exact jst_eq }
  generalize jst g5 265 (g5 200 7) a4 = g6 at *
  have E6 : g6 200 7 = o := (F6 _ _ (by omega)).trans E5
  have G6 : ∀ b s, 268 < b → ¬ (258 ≤ b ∧ b ≤ 263) → g6 b s = h b s := fun b s y1 y2 => (F6 _ _ (by omega)).trans ((F5 _ _ (by omega)).trans ((fc _ _ (by omega) (by omega) (by omega)).trans (F1 _ _ (by omega))))
  refine OK_jb (vX1_addOwn_l42 (o := o) _ _ _ _ _ (by exact ⟨E6, o2, o3, rfl⟩) (by (rw [G6 _ _ (by omega) (by omega), G6 _ _ (by omega) (by omega)]; exact ⟨ar.1, ar.2.1, by omega⟩))) (fun o7 r2 => ?_)
  try dsimp only [Sum.elim_inl, Sum.elim_inr, jt2, jt3, jt4, jt5, jt6, jt7, jt8] at r2
  obtain ⟨v2, fr2⟩ := r2
  try simp (disch := omega) only [jst_eq, jst_ne, jst_ni, jI_i, jcmp_lt, jcmp_gt, w32_id, jcpy_out, Sum.elim_inl, Sum.elim_inr, jt2, jt3, jt4, jt5, jt6, jt7, jt8] at v2
  try simp (disch := omega) only [jst_eq, jst_ne, jst_ni, jI_i, jcmp_lt, jcmp_gt, w32_id, jcpy_out, Sum.elim_inl, Sum.elim_inr, jt2, jt3, jt4, jt5, jt6, jt7, jt8] at fr2
  have E7 : o7 200 7 = o := (fr2 _ _ (by omega)).trans E6
  have W7 : w32 (w32 (3 * o7 200 7) + 2) = 3 * o + 2 := by { rw [E7, w32_id (x := 3 * o) (by omega) (by omega)]; exact w32_id (by omega) (by omega) }
  rw [W7]
  refine OK_jg (by (first | exact ⟨by unfold jI; omega, Or.inr nm⟩ | (unfold jI; omega))) ?_ -- o12
  refine OK_jl ?_
  have F9 : ∀ b s, ¬ (b = 266 ∧ s = 3 * o + 2) → jst o7 266 (3 * o + 2) a6 b s = o7 b s := fun b s y => jst_o (by omega)
  have V9 : jst o7 266 (3 * o + 2) a6 266 (3 * o + 2) = a6 := jst_eq
  generalize jst o7 266 (3 * o + 2) a6 = g9 at *
  have E9 : g9 200 7 = o := (F9 _ _ (by omega)).trans E7
  have G9 : ∀ b s, 264 ≤ b → ¬ ((b = 264 ∨ b = 265 ∨ b = 268) ∧ s = o) → ¬ (b = 266 ∧ 3 * o ≤ s ∧ s < 3 * o + 3) → g9 b s = h b s := fun b s y0 y1 y2 => (F9 _ _ (by omega)).trans ((fr2 _ _ (by omega)).trans ((F6 _ _ (by omega)).trans ((F5 _ _ (by omega)).trans ((fc _ _ (by omega) (by omega) (by omega)).trans (F1 _ _ (by omega))))))
  refine OK_jb (vX1_weight (wA := wA) (N := o + 26) (M := M1) (R := R) _ _ (by exact W) (by exact ⟨by omega, fun a a0 a1 => by { rw [G9 _ _ (by omega) (by omega) (by omega)]; exact ow a a0 a1 }⟩) (by exact capT_fr cp.2.1 (fun a x y => G9 _ _ (by omega) (by omega) (by omega))) (by exact trX_fr (fun a s x y z w => G9 _ _ (by omega) (by omega) (by omega)) (fun s z w => G9 _ _ (by omega) (by omega) (by omega)) tr (Int.le_refl _)) (by exact dk.2.1) (by exact dk.2.2) (by exact dk.1)) (fun v11 r3 => ?_)
  try dsimp only [Sum.elim_inl, Sum.elim_inr, jt2, jt3, jt4, jt5, jt6, jt7, jt8] at r3
  have sv3 := r3
  clear r3
  try simp (disch := omega) only [jst_eq, jst_ne, jst_ni, jI_i, jcmp_lt, jcmp_gt, w32_id, jcpy_out, Sum.elim_inl, Sum.elim_inr, jt2, jt3, jt4, jt5, jt6, jt7, jt8] at sv3
  refine OK_jg (by (first | exact ⟨by unfold jI; omega, Or.inr nm⟩ | (unfold jI; omega))) ?_ -- o20
  refine OK_jl ?_
  have F12 : ∀ b s, ¬ (b = 267 ∧ s = o) → jst g9 267 (g9 200 7) v11 b s = g9 b s := fun b s y => jst_o (by omega)
  have V12 : jst g9 267 (g9 200 7) v11 267 o = v11 := by { rw [E9]; exact jst_eq }
  generalize jst g9 267 (g9 200 7) v11 = g12 at *
  have E12 : g12 200 7 = o := (F12 _ _ (by omega)).trans E9
  refine OK_jl ?_
  have F13 : ∀ b s, ¬ (b = 200 ∧ s = 7) → jst g12 200 7 (w32 (g12 200 7 + 1)) b s = g12 b s := fun b s y => jst_o (by omega)
  have V13 : jst g12 200 7 (w32 (g12 200 7 + 1)) 200 7 = o + 1 := by { rw [jst_eq, E12]; exact w32_id (by omega) (by omega) }
  generalize jst g12 200 7 (w32 (g12 200 7 + 1)) = g13 at *
  refine OK_some ?_
  try dsimp only [Sum.elim_inl, Sum.elim_inr, jt2, jt3, jt4, jt5, jt6, jt7, jt8]
  try dsimp only [Sum.elim_inl, Sum.elim_inr, jt2, jt3, jt4, jt5, jt6, jt7, jt8]
  refine ⟨?_, ?_, ?_⟩
  · (refine ⟨V13, ?_, ?_, ?_, ?_, ?_, ?_⟩; { rw [F13 _ _ (by omega), F12 _ _ (by omega), F9 _ _ (by omega), fr2 _ _ (by omega), F6 _ _ (by omega), F5 _ _ (by omega), fc _ _ (by omega) (by omega) (by omega)]; exact V1 }; { rw [F13 _ _ (by omega), F12 _ _ (by omega), F9 _ _ (by omega), fr2 _ _ (by omega), F6 _ _ (by omega)]; exact V5 }; { rw [F13 _ _ (by omega), F12 _ _ (by omega), F9 _ _ (by omega), fr2 _ _ (by omega)]; exact V6 }; { intro k k0 k1; rw [F13 _ _ (by omega), F12 _ _ (by omega), F9 _ _ (by omega), v2 k k0 k1]; exact G6 _ _ (by omega) (by omega) }; { rw [F13 _ _ (by omega), F12 _ _ (by omega)]; exact V9 }; { rw [F13 _ _ (by omega), V12]; exact sv3 }) -- o21 e1.1
  · (refine ⟨?_, ?_⟩; { rw [F13 _ _ (by omega), F12 _ _ (by omega), F9 _ _ (by omega), fr2 _ _ (by omega), F6 _ _ (by omega), F5 _ _ (by omega)]; exact n4 }; { rw [← v3e]; exact cX_fr (lo := 0) (hi := 1300) (fun a s x y z w => (F13 _ _ (by omega)).trans ((F12 _ _ (by omega)).trans ((F9 _ _ (by omega)).trans ((fr2 _ _ (by omega)).trans ((F6 _ _ (by omega)).trans (F5 _ _ (by omega))))))) (fun s z w => (F13 _ _ (by omega)).trans ((F12 _ _ (by omega)).trans ((F9 _ _ (by omega)).trans ((fr2 _ _ (by omega)).trans ((F6 _ _ (by omega)).trans (F5 _ _ (by omega))))))) cx (Int.le_refl _) (by omega) (by omega) (by omega) (by omega) }) -- o22 e1.2
  · exact frAd_mk F1 fc F5 F6 fr2 F9 F12 F13 -- o23 e1.3

