/-! m: the laws that hold -/
/-- a law holds at a row of values -/
def lwP (W : Int → Int → Int → VW) (f : Int → Int → Int → Int) (hl : Int → Int) (nn : Int → Int) (lk : Int → Int → Int) (LL LR : Int → TR) (l i : Int) : Prop := (evT W f (pr2 (vaT (lk l) (nn l) i 0) (vaT (lk l) (nn l) i 1)) hl (LL l)).1 = (evT W f (pr2 (vaT (lk l) (nn l) i 0) (vaT (lk l) (nn l) i 1)) hl (LR l)).1
theorem bsK_v (k : Int) : bsK k = 16 ∨ bsK k = 2 := by unfold bsK; by_cases q : k = 0; · rw [if_pos q]; exact Or.inl rfl
                                                       · rw [if_neg q]; exact Or.inr rfl
theorem rwT_1 {kf : Int → Int} (a : kf 0 ≠ 2) : rwT kf 1 = bsK (kf 0) := by
  show (if kf 0 = 2 then (100000 : Int) else min 100000 (1 * bsK (kf 0))) = bsK (kf 0)
  rw [if_neg a]
  have := bsK_r (kf 0)
  omega
theorem rwT_2 {kf : Int → Int} (a : kf 0 ≠ 2) (b : kf 1 ≠ 2) : rwT kf 2 = bsK (kf 0) * bsK (kf 1) := by
  show (if kf 1 = 2 then (100000 : Int) else min 100000 (rwT kf 1 * bsK (kf 1))) = bsK (kf 0) * bsK (kf 1)
  rw [if_neg b, rwT_1 a]
  rcases bsK_v (kf 0) with e | e <;> rcases bsK_v (kf 1) with f | f <;> rw [e, f] <;> decide
theorem vaT_10 {kf : Int → Int} {p : Int} (h : 0 ≤ p) (g : p < bsK (kf 0)) : vaT kf 1 p 0 = p := by
  show (if (1 : Int) ≤ 0 then 0 else p % bsK (kf 0)) = p
  rw [if_neg (by decide)]
  exact Int.emod_eq_of_lt h g
theorem vaT_11 {kf : Int → Int} {p : Int} : vaT kf 1 p 1 = 0 := if_pos (by decide)
theorem vaT_20 {kf : Int → Int} {p : Int} : vaT kf 2 p 0 = p / bsK (kf 1) % bsK (kf 0) := if_neg (by decide)
theorem vaT_21 {kf : Int → Int} {p : Int} : vaT kf 2 p 1 = p % bsK (kf 1) := if_neg (by decide)
theorem vaT_r {kf : Int → Int} {n p k : Int} (h : k < n) : 0 ≤ vaT kf n p k ∧ vaT kf n p k < bsK (kf k) := by
  have b := bsK_r (kf k)
  unfold vaT
  rw [if_neg (by omega)]
  exact ⟨Int.emod_nonneg _ (by omega), Int.emod_lt_of_pos _ (by omega)⟩
theorem lwP_H {W : Int → Int → Int → VW} {f : Int → Int → Int → Int} {hl : Int → Int} {nn : Int → Int} {lk : Int → Int → Int} {LL LR : Int → TR} {l : Int} (n0 : 1 ≤ nn l ∧ nn l ≤ 2) (k0 : lk l 0 ≠ 2) (k1 : nn l = 2 → lk l 1 ≠ 2) : (∀ i, 0 ≤ i → i < rwT (lk l) (nn l).toNat → lwP W f hl nn lk LL LR l i) ↔ lwH W f hl nn lk LL LR l := by
  have b0 := bsK_r (lk l 0)
  have b1 := bsK_r (lk l 1)
  unfold lwP lwH lwA
  rcases (show nn l = 1 ∨ nn l = 2 by omega) with e | e
  · rw [e, if_neg (by decide)]
    have r1 : rwT (lk l) (1 : Int).toNat = bsK (lk l 0) := rwT_1 k0
    rw [r1]
    constructor
    · intro H x y x0 x1 y0 y1
      have z := H x x0 x1
      rw [vaT_10 x0 x1, vaT_11] at z
      rw [show y = 0 by omega]
      exact z
    · intro H i i0 i1
      rw [vaT_10 i0 i1, vaT_11]
      exact H i 0 i0 i1 (by decide) (by decide)
  · rw [e, if_pos rfl]
    have r2 : rwT (lk l) (2 : Int).toNat = bsK (lk l 0) * bsK (lk l 1) := rwT_2 k0 (k1 e)
    rw [r2]
    constructor
    · intro H x y x0 x1 y0 y1
      have z := H (x * bsK (lk l 1) + y)
      rw [vaT_20, vaT_21] at z
      have d : (x * bsK (lk l 1) + y) / bsK (lk l 1) % bsK (lk l 0) = x := by
        rcases bsK_v (lk l 0) with e0 | e0 <;> rcases bsK_v (lk l 1) with e1 | e1 <;> rw [e0] at x1 ⊢ <;> rw [e1] at y1 ⊢ <;> omega
      have m : (x * bsK (lk l 1) + y) % bsK (lk l 1) = y := by
        rcases bsK_v (lk l 1) with e1 | e1 <;> rw [e1] at y1 ⊢ <;> omega
      rw [d, m] at z
      refine z ?_ ?_
      · rcases bsK_v (lk l 1) with e1 | e1 <;> rw [e1] <;> omega
      · rcases bsK_v (lk l 0) with e0 | e0 <;> rcases bsK_v (lk l 1) with e1 | e1 <;> rw [e0] at x1 ⊢ <;> rw [e1] at y1 ⊢ <;> omega
    · intro H i i0 i1
      rw [vaT_20, vaT_21]
      exact H _ _ (Int.emod_nonneg _ (by omega)) (Int.emod_lt_of_pos _ (by omega)) (Int.emod_nonneg _ (by omega)) (Int.emod_lt_of_pos _ (by omega))
theorem p3_2 {W : Int → Int → Int → VW} {f : Int → Int → Int → Int} {hl : Int → Int} {E : EV} {np a b c : Int} {kp : Int → Int} {R : TR} (n : np ≤ 2) (t : tyT E np kp R 0) : evT W f (p3 a b c) hl R = evT W f (pr2 a b) hl R := evT_pc (fun k k0 k1 => by
  unfold p3 pr2
  rcases (show k = 0 ∨ k = 1 by omega) with rfl | rfl
  · rw [if_pos rfl, if_pos rfl]
  · rw [if_neg (by decide), if_pos rfl, if_neg (by decide)]) t
theorem f2021_tr {h h1 h2 : AH} (a : f2021 h h1) (b : f2021 h1 h2) : f2021 h h2 := fun x s y => by rw [b x s y]; exact a x s y
theorem ag20_f {h h' : AH} (a : ag20 h h') : f2021 h h' := fun x s y => a x s (by omega)
theorem ag20_t {h h1 h2 : AH} (a : ag20 h h1) (b : ag20 h1 h2) : ag20 h h2 := fun x s y => by rw [b x s y]; exact a x s y
theorem vX14_meets_2_l102 (i2 : Int) (i3 : Int) (i4 : Int) (i5 : Int) (a60 : Int) {h0 : AH} {E : EV} {Rf : Int → TR} {W : Int → Int → Int → VW} {hl ra : Int → Int} {n wh pts rn ln : Int} {kf rv nn : Int → Int} {lk : Int → Int → Int} {LL LR : Int → TR} {g : Int → Int} (m : mtM h0 E Rf W hl n kf wh rv pts rn ra ln nn lk LL LR) (t : tbM h0 pts g i2) (o : ∀ p, 0 ≤ p → p < pts → okV (eK E (-2) (eO E (-2))) (g p)) (b : 0 ≤ i3 ∧ i3 < ln ∧ i4 = nn i3 ∧ i5 = rwT (lk i3) (nn i3).toNat) (w : h0 454 21 = -1) (zb : -9223372036854775808 ≤ h0 454 20 ∧ h0 454 20 < 9223372036854775808) (z : a60 = 0) : OK (gX14_meets_2_l102 i2 i3 i4 i5 a60 h0) (Sum.elim (fun h' => (¬ ∀ i, 0 ≤ i → i < i5 → lwP W (fPt E g) hl nn lk LL LR i3 i) ∧ (ag20 h0 h' ∧ -9223372036854775808 ≤ h' 454 20 ∧ h' 454 20 < 9223372036854775808)) (fun h' => (∀ i, 0 ≤ i → i < i5 → lwP W (fPt E g) hl nn lk LL LR i3 i) ∧ (ag20 h0 h' ∧ -9223372036854775808 ≤ h' 454 20 ∧ h' 454 20 < 9223372036854775808))) := by
  unfold gX14_meets_2_l102
  refine OK_jit (I := (fun (s : Int × AH) => jt2 s fun a6 h => (0 ≤ a6 ∧ a6 ≤ i5) ∧ (∀ i, 0 ≤ i → i < a6 → lwP W (fPt E g) hl nn lk LL LR i3 i) ∧ (ag20 h0 h) ∧ (-9223372036854775808 ≤ h 454 20 ∧ h 454 20 < 9223372036854775808))) (m := (fun (s : Int × AH) => jt2 s fun a6 h => (i5 - a6).toNat)) ?_ ?_
  · intro s hs
    obtain ⟨a6, h⟩ := s
    dsimp only [Sum.elim_inl, Sum.elim_inr, jt2, jt3, jt4, jt5, jt6, jt7, jt8] at hs
    obtain ⟨q0, q1, fr, bb⟩ := hs
    unfold gX14_meets_2_b102
    refine OK_jt2 ?_
    have rr := rwT_r (kf := lk i3) (nn i3).toNat
    have M1 := mtM_fr m (ag20_f fr)
    have T1 := tbM_fr t (ag20_f fr)
    have w1 : h 454 21 = -1 := by { rw [fr _ _ (by omega)]; exact w }
    have xx : isX16 (h 454 38) := M1.1.1
    have L1 := M1.2.2.2.1.2.2.2.2.2 i3 b.1 b.2.1
    have l3 := M1.2.2.2.1.2.2.1
    have l5 := M1.2.2.2.1.2.2.2.1
    have l6 := M1.2.2.2.1.2.2.2.2.1
    have w2 : w32 (2 * i3) = 2 * i3 := w32_id (by omega) (by omega)
    have kk : ∀ k, 0 ≤ k → k < nn i3 → h (h 454 38 + 8) (2 * i3 + k) = kch (lk i3 k) ∧ 0 ≤ lk i3 k ∧ lk i3 k ≤ 2 := fun k k0 k1 => by { have z := L1.2.2.2.1 k k0 k1; exact ⟨z.1, z.2.1, by omega⟩ }
    have k0 := L1.2.2.2.1 0 (by decide) (by have := L1.1; omega)
    have l1 := L1.1
    have l2 := L1.2.1
    refine OK_if (fun c1 => ?_) (fun c1 => ?_)
    · skip
      try simp (disch := omega) only [jst_eq, jst_ne, jst_ni, jI_i, jcmp_lt, jcmp_gt, w32_id, jcpy_out, Sum.elim_inl, Sum.elim_inr, jt2, jt3, jt4, jt5, jt6, jt7, jt8] at c1
      refine OK_ir ?_
      try dsimp only [Sum.elim_inl, Sum.elim_inr, jt2, jt3, jt4, jt5, jt6, jt7, jt8]
      refine ⟨?_, ?_⟩
      · (intro i i0 i1; exact q1 i i0 (by omega)) -- o1 e1.1
      · exact ⟨fr, bb⟩ -- o2 e1.2
    · skip
      try simp (disch := omega) only [jst_eq, jst_ne, jst_ni, jI_i, jcmp_lt, jcmp_gt, w32_id, jcpy_out, Sum.elim_inl, Sum.elim_inr, jt2, jt3, jt4, jt5, jt6, jt7, jt8] at c1
      refine OK_jg (by (first | assumption | omega | ((try dsimp only [jt2, jt3, jt4]); first | omega | (simp (disch := omega) only [jst_eq, jst_ne, jst_ni, jst_o, jI_i, jcpy_out, w32_id, jdiv_nn, jshr_k, jand_255] <;> first | done | omega | assumption)) | (intros; simp (disch := omega) only [jst_eq, jst_ne, jst_ni, jst_o, jI_i, jcpy_out, w32_id, jdiv_nn, *] <;> first | done | omega) | (intros; simp (disch := omega) only [jst_eq, jst_ne, jst_ni, jst_o, jI_i, jcpy_out, w32_id, jdiv_nn] at * <;> first | done | omega | assumption) | (intros; first | rfl | (exfalso; omega) | ((repeat' apply And.intro) <;> first | assumption | rfl | omega | trivial)))) ?_ -- o3
      refine OK_jb (vX14_valueAt (n := nn i3) (kf := lk i3) _ _ _ _ _ (by exact ⟨l5, by omega, by omega, by omega, b.2.2.1, by omega, by omega⟩) (by (first | exact kk | (rw [w2]; exact kk))) (by (first | assumption | omega | ((try dsimp only [jt2, jt3, jt4]); first | omega | (simp (disch := omega) only [jst_eq, jst_ne, jst_ni, jst_o, jI_i, jcpy_out, w32_id, jdiv_nn, jshr_k, jand_255] <;> first | done | omega | assumption)) | (intros; simp (disch := omega) only [jst_eq, jst_ne, jst_ni, jst_o, jI_i, jcpy_out, w32_id, jdiv_nn, *] <;> first | done | omega) | (intros; simp (disch := omega) only [jst_eq, jst_ne, jst_ni, jst_o, jI_i, jcpy_out, w32_id, jdiv_nn] at * <;> first | done | omega | assumption) | (intros; first | rfl | (exfalso; omega) | ((repeat' apply And.intro) <;> first | assumption | rfl | omega | trivial))))) (fun v27 r1 => ?_)
      try dsimp only [Sum.elim_inl, Sum.elim_inr, jt2, jt3, jt4, jt5, jt6, jt7, jt8] at r1
      have vv1 := r1
      clear r1
      try simp (disch := omega) only [jst_eq, jst_ne, jst_ni, jI_i, jcmp_lt, jcmp_gt, w32_id, jcpy_out, Sum.elim_inl, Sum.elim_inr, jt2, jt3, jt4, jt5, jt6, jt7, jt8] at vv1
      refine OK_jb (vX14_valueAt (n := nn i3) (kf := lk i3) _ _ _ _ _ (by exact ⟨l5, by omega, by omega, by omega, b.2.2.1, by omega, by omega⟩) (by (first | exact kk | (rw [w2]; exact kk))) (by (first | assumption | omega | ((try dsimp only [jt2, jt3, jt4]); first | omega | (simp (disch := omega) only [jst_eq, jst_ne, jst_ni, jst_o, jI_i, jcpy_out, w32_id, jdiv_nn, jshr_k, jand_255] <;> first | done | omega | assumption)) | (intros; simp (disch := omega) only [jst_eq, jst_ne, jst_ni, jst_o, jI_i, jcpy_out, w32_id, jdiv_nn, *] <;> first | done | omega) | (intros; simp (disch := omega) only [jst_eq, jst_ne, jst_ni, jst_o, jI_i, jcpy_out, w32_id, jdiv_nn] at * <;> first | done | omega | assumption) | (intros; first | rfl | (exfalso; omega) | ((repeat' apply And.intro) <;> first | assumption | rfl | omega | trivial))))) (fun v29 r2 => ?_)
      try dsimp only [Sum.elim_inl, Sum.elim_inr, jt2, jt3, jt4, jt5, jt6, jt7, jt8] at r2
      have vv2 := r2
      clear r2
      try simp (disch := omega) only [jst_eq, jst_ne, jst_ni, jI_i, jcmp_lt, jcmp_gt, w32_id, jcpy_out, Sum.elim_inl, Sum.elim_inr, jt2, jt3, jt4, jt5, jt6, jt7, jt8] at vv2
      have r0 := vaT_r (kf := lk i3) (n := nn i3) (p := a6) (k := 0) (by omega)
      have y0 : vlR (lk i3 0) v27 := bs_vl k0.2.1 k0.2.2 (by omega) (by omega)
      have y1 : nn i3 = 2 → vlR (lk i3 1) v29 := fun y => by { have r1 := vaT_r (kf := lk i3) (n := nn i3) (p := a6) (k := 1) (by omega); have k1 := L1.2.2.2.1 1 (by decide) (by omega); exact bs_vl k1.2.1 k1.2.2 (by omega) (by omega) }
      refine OK_jg (by (first | assumption | omega | ((try dsimp only [jt2, jt3, jt4]); first | omega | (simp (disch := omega) only [jst_eq, jst_ne, jst_ni, jst_o, jI_i, jcpy_out, w32_id, jdiv_nn, jshr_k, jand_255] <;> first | done | omega | assumption)) | (intros; simp (disch := omega) only [jst_eq, jst_ne, jst_ni, jst_o, jI_i, jcpy_out, w32_id, jdiv_nn, *] <;> first | done | omega) | (intros; simp (disch := omega) only [jst_eq, jst_ne, jst_ni, jst_o, jI_i, jcpy_out, w32_id, jdiv_nn] at * <;> first | done | omega | assumption) | (intros; first | rfl | (exfalso; omega) | ((repeat' apply And.intro) <;> first | assumption | rfl | omega | trivial)))) ?_ -- o10
      refine OK_jb2 (vX14_answer (E := E) (Rf := Rf) (W := W) (f := fPt E g) (w := -1) (wv := 0) (np := nn i3) (kp := lk i3) (hl := hl) _ _ _ _ _ (by exact mtM_pv M1 T1 o w1 bb L1.2.2.2.2.1 ⟨l1, l2⟩ y0 y1 (by omega)) (by exact L1.2.2.2.2.1.2.2) (by exact m.1.2.2)) (fun v31 h32 r3 => ?_)
      try dsimp only [Sum.elim_inl, Sum.elim_inr, jt2, jt3, jt4, jt5, jt6, jt7, jt8] at r3
      obtain ⟨ev3, pe3⟩ := r3
      try simp (disch := omega) only [jst_eq, jst_ne, jst_ni, jI_i, jcmp_lt, jcmp_gt, w32_id, jcpy_out, Sum.elim_inl, Sum.elim_inr, jt2, jt3, jt4, jt5, jt6, jt7, jt8] at ev3
      try simp (disch := omega) only [jst_eq, jst_ne, jst_ni, jI_i, jcmp_lt, jcmp_gt, w32_id, jcpy_out, Sum.elim_inl, Sum.elim_inr, jt2, jt3, jt4, jt5, jt6, jt7, jt8] at pe3
      have F32 := ag20_t fr pe3.2
      have M2 := mtM_fr m (ag20_f F32)
      have T2 := tbM_fr t (ag20_f F32)
      have w3 : h32 454 21 = -1 := by { rw [F32 _ _ (by omega)]; exact w }
      have b3 := posV_b pe3
      have L2 := M2.2.2.2.1.2.2.2.2.2 i3 b.1 b.2.1
      have x2 : isX16 (h32 454 38) := M2.1.1
      refine OK_jg (by (first | assumption | omega | ((try dsimp only [jt2, jt3, jt4]); first | omega | (simp (disch := omega) only [jst_eq, jst_ne, jst_ni, jst_o, jI_i, jcpy_out, w32_id, jdiv_nn, jshr_k, jand_255] <;> first | done | omega | assumption)) | (intros; simp (disch := omega) only [jst_eq, jst_ne, jst_ni, jst_o, jI_i, jcpy_out, w32_id, jdiv_nn, *] <;> first | done | omega) | (intros; simp (disch := omega) only [jst_eq, jst_ne, jst_ni, jst_o, jI_i, jcpy_out, w32_id, jdiv_nn] at * <;> first | done | omega | assumption) | (intros; first | rfl | (exfalso; omega) | ((repeat' apply And.intro) <;> first | assumption | rfl | omega | trivial)))) ?_ -- o14
      refine OK_jb2 (vX14_answer (E := E) (Rf := Rf) (W := W) (f := fPt E g) (w := -1) (wv := 0) (np := nn i3) (kp := lk i3) (hl := hl) _ _ _ _ _ (by exact mtM_pv M2 T2 o w3 b3 L2.2.2.2.2.2 ⟨l1, l2⟩ y0 y1 (by omega)) (by exact L2.2.2.2.2.2.2.2) (by exact m.1.2.2)) (fun v34 h35 r4 => ?_)
      try dsimp only [Sum.elim_inl, Sum.elim_inr, jt2, jt3, jt4, jt5, jt6, jt7, jt8] at r4
      obtain ⟨ev4, pe4⟩ := r4
      try simp (disch := omega) only [jst_eq, jst_ne, jst_ni, jI_i, jcmp_lt, jcmp_gt, w32_id, jcpy_out, Sum.elim_inl, Sum.elim_inr, jt2, jt3, jt4, jt5, jt6, jt7, jt8] at ev4
      try simp (disch := omega) only [jst_eq, jst_ne, jst_ni, jI_i, jcmp_lt, jcmp_gt, w32_id, jcpy_out, Sum.elim_inl, Sum.elim_inr, jt2, jt3, jt4, jt5, jt6, jt7, jt8] at pe4
      have F35 := ag20_t F32 pe4.2
      have b4 := posV_b pe4
      have e31 : v31 = (evT W (fPt E g) (pr2 (vaT (lk i3) (nn i3) a6 0) (vaT (lk i3) (nn i3) a6 1)) hl (LL i3)).1 := by { rw [ev3, p3_2 l2 L1.2.2.2.2.1.2.1, vv1, vv2] }
      have e34 : v34 = (evT W (fPt E g) (pr2 (vaT (lk i3) (nn i3) a6 0) (vaT (lk i3) (nn i3) a6 1)) hl (LR i3)).1 := by { rw [ev4, p3_2 l2 L1.2.2.2.2.2.2.1, vv1, vv2] }
      refine OK_if (fun c2 => ?_) (fun c2 => ?_)
      · skip
        try simp (disch := omega) only [jst_eq, jst_ne, jst_ni, jI_i, jcmp_lt, jcmp_gt, w32_id, jcpy_out, Sum.elim_inl, Sum.elim_inr, jt2, jt3, jt4, jt5, jt6, jt7, jt8] at c2
        refine OK_jlx (fun x37 ex37 => ?_)
        try simp (disch := omega) only [jst_eq, jst_ne, jst_ni, jI_i, jcmp_lt, jcmp_gt, w32_id, jcpy_out, Sum.elim_inl, Sum.elim_inr, jt2, jt3, jt4, jt5, jt6, jt7, jt8] at ex37
        refine OK_il ?_ ?_
        · try dsimp only [Sum.elim_inl, Sum.elim_inr, jt2, jt3, jt4, jt5, jt6, jt7, jt8]
          refine ⟨?_, ?_, ?_, ?_⟩
          · (first | assumption | omega | ((try dsimp only [jt2, jt3, jt4]); first | omega | (simp (disch := omega) only [jst_eq, jst_ne, jst_ni, jst_o, jI_i, jcpy_out, w32_id, jdiv_nn, jshr_k, jand_255] <;> first | done | omega | assumption)) | (intros; simp (disch := omega) only [jst_eq, jst_ne, jst_ni, jst_o, jI_i, jcpy_out, w32_id, jdiv_nn, *] <;> first | done | omega) | (intros; simp (disch := omega) only [jst_eq, jst_ne, jst_ni, jst_o, jI_i, jcpy_out, w32_id, jdiv_nn] at * <;> first | done | omega | assumption) | (intros; first | rfl | (exfalso; omega) | ((repeat' apply And.intro) <;> first | assumption | rfl | omega | trivial))) -- o18 e2i.1
          · (intro i i0 i1; by_cases y : i = a6; { rw [y]; unfold lwP; rw [← e31, ← e34]; assumption }; { exact q1 i i0 (by omega) }) -- o19 e2i.2
          · exact F35 -- o20 e2i.3
          · exact b4 -- o21 e2i.4
        · (first | assumption | omega | ((try dsimp only [jt2, jt3, jt4]); first | omega | (simp (disch := omega) only [jst_eq, jst_ne, jst_ni, jst_o, jI_i, jcpy_out, w32_id, jdiv_nn, jshr_k, jand_255] <;> first | done | omega | assumption)) | (intros; simp (disch := omega) only [jst_eq, jst_ne, jst_ni, jst_o, jI_i, jcpy_out, w32_id, jdiv_nn, *] <;> first | done | omega) | (intros; simp (disch := omega) only [jst_eq, jst_ne, jst_ni, jst_o, jI_i, jcpy_out, w32_id, jdiv_nn] at * <;> first | done | omega | assumption) | (intros; first | rfl | (exfalso; omega) | ((repeat' apply And.intro) <;> first | assumption | rfl | omega | trivial))) -- o22 e2m
      · skip
        try simp (disch := omega) only [jst_eq, jst_ne, jst_ni, jI_i, jcmp_lt, jcmp_gt, w32_id, jcpy_out, Sum.elim_inl, Sum.elim_inr, jt2, jt3, jt4, jt5, jt6, jt7, jt8] at c2
        refine OK_ir ?_
        try dsimp only [Sum.elim_inl, Sum.elim_inr, jt2, jt3, jt4, jt5, jt6, jt7, jt8]
        refine ⟨?_, ?_⟩
        · (intro y; have z := y a6 q0.1 (by omega); unfold lwP at z; rw [← e31, ← e34] at z; contradiction) -- o23 e3.1
        · exact ⟨F35, b4⟩ -- o24 e3.2
  · try dsimp only [Sum.elim_inl, Sum.elim_inr, jt2, jt3, jt4, jt5, jt6, jt7, jt8]
    refine ⟨?_, ?_, ?_, ?_⟩
    · (have := (rwT_r (kf := lk i3) (nn i3).toNat).1; omega) -- o25 init.1
    · (first | assumption | omega | ((try dsimp only [jt2, jt3, jt4]); first | omega | (simp (disch := omega) only [jst_eq, jst_ne, jst_ni, jst_o, jI_i, jcpy_out, w32_id, jdiv_nn, jshr_k, jand_255] <;> first | done | omega | assumption)) | (intros; simp (disch := omega) only [jst_eq, jst_ne, jst_ni, jst_o, jI_i, jcpy_out, w32_id, jdiv_nn, *] <;> first | done | omega) | (intros; simp (disch := omega) only [jst_eq, jst_ne, jst_ni, jst_o, jI_i, jcpy_out, w32_id, jdiv_nn] at * <;> first | done | omega | assumption) | (intros; first | rfl | (exfalso; omega) | ((repeat' apply And.intro) <;> first | assumption | rfl | omega | trivial))) -- o26 init.2
    · exact fun _ _ _ => rfl -- o27 init.3
    · exact zb -- o28 init.4
theorem vX14_meets_2_l60 (i2 : Int) (a30 : Int) {h0 : AH} {E : EV} {Rf : Int → TR} {W : Int → Int → Int → VW} {hl ra : Int → Int} {n wh pts rn ln : Int} {kf rv nn : Int → Int} {lk : Int → Int → Int} {LL LR : Int → TR} {g : Int → Int} (m : mtM h0 E Rf W hl n kf wh rv pts rn ra ln nn lk LL LR) (t : tbM h0 pts g i2) (o : ∀ p, 0 ≤ p → p < pts → okV (eK E (-2) (eO E (-2))) (g p)) (w : h0 454 21 = -1) (zb : -9223372036854775808 ≤ h0 454 20 ∧ h0 454 20 < 9223372036854775808) (z : a30 = 0) : OK (gX14_meets_2_l60 i2 a30 h0) (Sum.elim (fun h' => (¬ ∀ l, 0 ≤ l → l < ln → lwH W (fPt E g) hl nn lk LL LR l) ∧ (ag20 h0 h' ∧ -9223372036854775808 ≤ h' 454 20 ∧ h' 454 20 < 9223372036854775808)) (fun h' => (∀ l, 0 ≤ l → l < ln → lwH W (fPt E g) hl nn lk LL LR l) ∧ (ag20 h0 h' ∧ -9223372036854775808 ≤ h' 454 20 ∧ h' 454 20 < 9223372036854775808))) := by
  unfold gX14_meets_2_l60
  refine OK_jit (I := (fun (s : Int × AH) => jt2 s fun a3 h => (0 ≤ a3 ∧ a3 ≤ ln) ∧ (∀ l, 0 ≤ l → l < a3 → lwH W (fPt E g) hl nn lk LL LR l) ∧ (ag20 h0 h) ∧ (-9223372036854775808 ≤ h 454 20 ∧ h 454 20 < 9223372036854775808))) (m := (fun (s : Int × AH) => jt2 s fun a3 h => (ln - a3).toNat)) ?_ ?_
  · intro s hs
    obtain ⟨a3, h⟩ := s
    dsimp only [Sum.elim_inl, Sum.elim_inr, jt2, jt3, jt4, jt5, jt6, jt7, jt8] at hs
    obtain ⟨q0, q1, fr, bb⟩ := hs
    unfold gX14_meets_2_b60
    refine OK_jt2 ?_
    have M1 := mtM_fr m (ag20_f fr)
    have T1 := tbM_fr t (ag20_f fr)
    have w1 : h 454 21 = -1 := by { rw [fr _ _ (by omega)]; exact w }
    have xx : isX16 (h 454 38) := M1.1.1
    obtain ⟨n1, n2, n3, l5, l6, l4⟩ := M1.2.2.2.1
    refine OK_jg (by (first | assumption | omega | ((try dsimp only [jt2, jt3, jt4]); first | omega | (simp (disch := omega) only [jst_eq, jst_ne, jst_ni, jst_o, jI_i, jcpy_out, w32_id, jdiv_nn, jshr_k, jand_255] <;> first | done | omega | assumption)) | (intros; simp (disch := omega) only [jst_eq, jst_ne, jst_ni, jst_o, jI_i, jcpy_out, w32_id, jdiv_nn, *] <;> first | done | omega) | (intros; simp (disch := omega) only [jst_eq, jst_ne, jst_ni, jst_o, jI_i, jcpy_out, w32_id, jdiv_nn] at * <;> first | done | omega | assumption) | (intros; first | rfl | (exfalso; omega) | ((repeat' apply And.intro) <;> first | assumption | rfl | omega | trivial)))) ?_ -- o1
    refine OK_if (fun c1 => ?_) (fun c1 => ?_)
    · skip
      try simp (disch := omega) only [jst_eq, jst_ne, jst_ni, jI_i, jcmp_lt, jcmp_gt, w32_id, jcpy_out, Sum.elim_inl, Sum.elim_inr, jt2, jt3, jt4, jt5, jt6, jt7, jt8] at c1
      refine OK_ir ?_
      try dsimp only [Sum.elim_inl, Sum.elim_inr, jt2, jt3, jt4, jt5, jt6, jt7, jt8]
      refine ⟨?_, ?_⟩
      · (intro l l0 l1; exact q1 l l0 (by omega)) -- o2 e1.1
      · exact ⟨fr, bb⟩ -- o3 e1.2
    · skip
      try simp (disch := omega) only [jst_eq, jst_ne, jst_ni, jI_i, jcmp_lt, jcmp_gt, w32_id, jcpy_out, Sum.elim_inl, Sum.elim_inr, jt2, jt3, jt4, jt5, jt6, jt7, jt8] at c1
      have L1 := l4 a3 q0.1 (by omega)
      have w2 : w32 (2 * a3) = 2 * a3 := w32_id (by omega) (by omega)
      have kk : ∀ k, 0 ≤ k → k < nn a3 → h (h 454 38 + 8) (2 * a3 + k) = kch (lk a3 k) ∧ 0 ≤ lk a3 k ∧ lk a3 k ≤ 2 := fun k k0 k1 => by { have z := L1.2.2.2.1 k k0 k1; exact ⟨z.1, z.2.1, by omega⟩ }
      have l1 := L1.1
      have l2 := L1.2.1
      have k0 := L1.2.2.2.1 0 (by decide) (by omega)
      have LP := lwP_H (W := W) (f := fPt E g) (hl := hl) (nn := nn) (lk := lk) (LL := LL) (LR := LR) (l := a3) ⟨l1, l2⟩ (by omega) (fun y => by { have := L1.2.2.2.1 1 (by decide) (by omega); omega })
      refine OK_jg (by (first | assumption | omega | ((try dsimp only [jt2, jt3, jt4]); first | omega | (simp (disch := omega) only [jst_eq, jst_ne, jst_ni, jst_o, jI_i, jcpy_out, w32_id, jdiv_nn, jshr_k, jand_255] <;> first | done | omega | assumption)) | (intros; simp (disch := omega) only [jst_eq, jst_ne, jst_ni, jst_o, jI_i, jcpy_out, w32_id, jdiv_nn, *] <;> first | done | omega) | (intros; simp (disch := omega) only [jst_eq, jst_ne, jst_ni, jst_o, jI_i, jcpy_out, w32_id, jdiv_nn] at * <;> first | done | omega | assumption) | (intros; first | rfl | (exfalso; omega) | ((repeat' apply And.intro) <;> first | assumption | rfl | omega | trivial)))) ?_ -- o4
      refine OK_jlx (fun x17 ex17 => ?_)
      try simp (disch := omega) only [jst_eq, jst_ne, jst_ni, jI_i, jcmp_lt, jcmp_gt, w32_id, jcpy_out, Sum.elim_inl, Sum.elim_inr, jt2, jt3, jt4, jt5, jt6, jt7, jt8] at ex17
      have e17 : x17 = nn a3 := by { rw [ex17]; exact L1.2.2.1 }
      refine OK_jb (vX14_rowsOf (n := nn a3) (kf := lk a3) _ _ _ (by exact ⟨l5, by omega, by omega, by omega, e17, by omega, by omega⟩) (by (first | exact kk | (rw [w2]; exact kk)))) (fun v19 r1 => ?_)
      try dsimp only [Sum.elim_inl, Sum.elim_inr, jt2, jt3, jt4, jt5, jt6, jt7, jt8] at r1
      have pv1 := r1
      clear r1
      try simp (disch := omega) only [jst_eq, jst_ne, jst_ni, jI_i, jcmp_lt, jcmp_gt, w32_id, jcpy_out, Sum.elim_inl, Sum.elim_inr, jt2, jt3, jt4, jt5, jt6, jt7, jt8] at pv1
      refine OK_jb (vX14_meets_2_l102 (E := E) (Rf := Rf) (W := W) (hl := hl) (n := n) (kf := kf) (wh := wh) (rv := rv) (pts := pts) (rn := rn) (ra := ra) (ln := ln) (nn := nn) (lk := lk) (LL := LL) (LR := LR) (g := g) _ _ _ _ _ (by exact M1) (by exact T1) (by exact o) (by exact ⟨q0.1, by omega, e17, by assumption⟩) (by (first | assumption | omega | ((try dsimp only [jt2, jt3, jt4]); first | omega | (simp (disch := omega) only [jst_eq, jst_ne, jst_ni, jst_o, jI_i, jcpy_out, w32_id, jdiv_nn, jshr_k, jand_255] <;> first | done | omega | assumption)) | (intros; simp (disch := omega) only [jst_eq, jst_ne, jst_ni, jst_o, jI_i, jcpy_out, w32_id, jdiv_nn, *] <;> first | done | omega) | (intros; simp (disch := omega) only [jst_eq, jst_ne, jst_ni, jst_o, jI_i, jcpy_out, w32_id, jdiv_nn] at * <;> first | done | omega | assumption) | (intros; first | rfl | (exfalso; omega) | ((repeat' apply And.intro) <;> first | assumption | rfl | omega | trivial)))) (by (first | assumption | omega | ((try dsimp only [jt2, jt3, jt4]); first | omega | (simp (disch := omega) only [jst_eq, jst_ne, jst_ni, jst_o, jI_i, jcpy_out, w32_id, jdiv_nn, jshr_k, jand_255] <;> first | done | omega | assumption)) | (intros; simp (disch := omega) only [jst_eq, jst_ne, jst_ni, jst_o, jI_i, jcpy_out, w32_id, jdiv_nn, *] <;> first | done | omega) | (intros; simp (disch := omega) only [jst_eq, jst_ne, jst_ni, jst_o, jI_i, jcpy_out, w32_id, jdiv_nn] at * <;> first | done | omega | assumption) | (intros; first | rfl | (exfalso; omega) | ((repeat' apply And.intro) <;> first | assumption | rfl | omega | trivial)))) (by (first | assumption | omega | ((try dsimp only [jt2, jt3, jt4]); first | omega | (simp (disch := omega) only [jst_eq, jst_ne, jst_ni, jst_o, jI_i, jcpy_out, w32_id, jdiv_nn, jshr_k, jand_255] <;> first | done | omega | assumption)) | (intros; simp (disch := omega) only [jst_eq, jst_ne, jst_ni, jst_o, jI_i, jcpy_out, w32_id, jdiv_nn, *] <;> first | done | omega) | (intros; simp (disch := omega) only [jst_eq, jst_ne, jst_ni, jst_o, jI_i, jcpy_out, w32_id, jdiv_nn] at * <;> first | done | omega | assumption) | (intros; first | rfl | (exfalso; omega) | ((repeat' apply And.intro) <;> first | assumption | rfl | omega | trivial))))) (fun o20 r2 => ?_)
      rcases o20 with o22 | o23
      · skip
        have r3 := r2; clear r2
        dsimp only [Sum.elim_inl, Sum.elim_inr] at r3
        try dsimp only [Sum.elim_inl, Sum.elim_inr, jt2, jt3, jt4, jt5, jt6, jt7, jt8] at r3
        obtain ⟨ne2, fs2⟩ := r3
        try simp (disch := omega) only [jst_eq, jst_ne, jst_ni, jI_i, jcmp_lt, jcmp_gt, w32_id, jcpy_out, Sum.elim_inl, Sum.elim_inr, jt2, jt3, jt4, jt5, jt6, jt7, jt8] at ne2
        try simp (disch := omega) only [jst_eq, jst_ne, jst_ni, jI_i, jcmp_lt, jcmp_gt, w32_id, jcpy_out, Sum.elim_inl, Sum.elim_inr, jt2, jt3, jt4, jt5, jt6, jt7, jt8] at fs2
        refine OK_jml ?_
        refine OK_ir ?_
        try dsimp only [Sum.elim_inl, Sum.elim_inr, jt2, jt3, jt4, jt5, jt6, jt7, jt8]
        refine ⟨?_, ?_⟩
        · (intro y; exact ne2 (by rw [pv1]; exact LP.2 (y a3 q0.1 (by omega)))) -- o14 e2.1
        · exact ⟨ag20_t fr fs2.1, fs2.2⟩ -- o15 e2.2
      · skip
        have r4 := r2; clear r2
        dsimp only [Sum.elim_inl, Sum.elim_inr] at r4
        try dsimp only [Sum.elim_inl, Sum.elim_inr, jt2, jt3, jt4, jt5, jt6, jt7, jt8] at r4
        obtain ⟨al3, fs3⟩ := r4
        try simp (disch := omega) only [jst_eq, jst_ne, jst_ni, jI_i, jcmp_lt, jcmp_gt, w32_id, jcpy_out, Sum.elim_inl, Sum.elim_inr, jt2, jt3, jt4, jt5, jt6, jt7, jt8] at al3
        try simp (disch := omega) only [jst_eq, jst_ne, jst_ni, jI_i, jcmp_lt, jcmp_gt, w32_id, jcpy_out, Sum.elim_inl, Sum.elim_inr, jt2, jt3, jt4, jt5, jt6, jt7, jt8] at fs3
        refine OK_jmr ?_
        refine OK_jlx (fun x24 ex24 => ?_)
        try simp (disch := omega) only [jst_eq, jst_ne, jst_ni, jI_i, jcmp_lt, jcmp_gt, w32_id, jcpy_out, Sum.elim_inl, Sum.elim_inr, jt2, jt3, jt4, jt5, jt6, jt7, jt8] at ex24
        refine OK_il ?_ ?_
        · try dsimp only [Sum.elim_inl, Sum.elim_inr, jt2, jt3, jt4, jt5, jt6, jt7, jt8]
          refine ⟨?_, ?_, ?_, ?_⟩
          · (first | assumption | omega | ((try dsimp only [jt2, jt3, jt4]); first | omega | (simp (disch := omega) only [jst_eq, jst_ne, jst_ni, jst_o, jI_i, jcpy_out, w32_id, jdiv_nn, jshr_k, jand_255] <;> first | done | omega | assumption)) | (intros; simp (disch := omega) only [jst_eq, jst_ne, jst_ni, jst_o, jI_i, jcpy_out, w32_id, jdiv_nn, *] <;> first | done | omega) | (intros; simp (disch := omega) only [jst_eq, jst_ne, jst_ni, jst_o, jI_i, jcpy_out, w32_id, jdiv_nn] at * <;> first | done | omega | assumption) | (intros; first | rfl | (exfalso; omega) | ((repeat' apply And.intro) <;> first | assumption | rfl | omega | trivial))) -- o16 e3i.1
          · (intro l l0 l1; by_cases y : l = a3; { rw [y]; exact LP.1 (by rw [← pv1]; exact al3) }; { exact q1 l l0 (by omega) }) -- o17 e3i.2
          · exact ag20_t fr fs3.1 -- o18 e3i.3
          · exact fs3.2 -- o19 e3i.4
        · (first | assumption | omega | ((try dsimp only [jt2, jt3, jt4]); first | omega | (simp (disch := omega) only [jst_eq, jst_ne, jst_ni, jst_o, jI_i, jcpy_out, w32_id, jdiv_nn, jshr_k, jand_255] <;> first | done | omega | assumption)) | (intros; simp (disch := omega) only [jst_eq, jst_ne, jst_ni, jst_o, jI_i, jcpy_out, w32_id, jdiv_nn, *] <;> first | done | omega) | (intros; simp (disch := omega) only [jst_eq, jst_ne, jst_ni, jst_o, jI_i, jcpy_out, w32_id, jdiv_nn] at * <;> first | done | omega | assumption) | (intros; first | rfl | (exfalso; omega) | ((repeat' apply And.intro) <;> first | assumption | rfl | omega | trivial))) -- o20 e3m
  · try dsimp only [Sum.elim_inl, Sum.elim_inr, jt2, jt3, jt4, jt5, jt6, jt7, jt8]
    refine ⟨?_, ?_, ?_, ?_⟩
    · (have := m.2.2.2.1.2.1; omega) -- o21 init.1
    · (first | assumption | omega | ((try dsimp only [jt2, jt3, jt4]); first | omega | (simp (disch := omega) only [jst_eq, jst_ne, jst_ni, jst_o, jI_i, jcpy_out, w32_id, jdiv_nn, jshr_k, jand_255] <;> first | done | omega | assumption)) | (intros; simp (disch := omega) only [jst_eq, jst_ne, jst_ni, jst_o, jI_i, jcpy_out, w32_id, jdiv_nn, *] <;> first | done | omega) | (intros; simp (disch := omega) only [jst_eq, jst_ne, jst_ni, jst_o, jI_i, jcpy_out, w32_id, jdiv_nn] at * <;> first | done | omega | assumption) | (intros; first | rfl | (exfalso; omega) | ((repeat' apply And.intro) <;> first | assumption | rfl | omega | trivial))) -- o22 init.2
    · exact fun _ _ _ => rfl -- o23 init.3
    · exact zb -- o24 init.4
theorem vX14_meets_2 (a1 : Int) (a2 : Int) {h : AH} {E : EV} {Rf : Int → TR} {W : Int → Int → Int → VW} {hl ra : Int → Int} {n wh pts rn ln : Int} {kf rv nn : Int → Int} {lk : Int → Int → Int} {LL LR : Int → TR} {g : Int → Int} (m : mtM h E Rf W hl n kf wh rv pts rn ra ln nn lk LL LR) (t : a1 = h (h 454 38) 4 → tbM h pts g a2 ∧ ∀ p, 0 ≤ p → p < pts → okV (eK E (-2) (eO E (-2))) (g p)) (b : -9223372036854775808 ≤ h 454 20 ∧ h 454 20 < 9223372036854775808) : OK (gX14_meets_2 a1 a2 h) (fun r => jt2 r fun v h' => ((v = 1 ∧ a1 = h (h 454 38) 4 ∧ mtA E W hl rn (rpA n kf wh rv) ra ln nn lk LL LR g) ∨ (v = 0 ∧ ¬ (a1 = h (h 454 38) 4 ∧ mtA E W hl rn (rpA n kf wh rv) ra ln nn lk LL LR g))) ∧ (f2021 h h' ∧ -9223372036854775808 ≤ h' 454 20 ∧ h' 454 20 < 9223372036854775808) ∧ (h' 454 21 = h 454 21 ∨ h' 454 21 = -1)) := by
  have xx : isX16 (h 454 38) := m.1.1
  unfold gX14_meets_2
  refine OK_jg (by (first | assumption | omega | ((try dsimp only [jt2, jt3, jt4]); first | omega | (simp (disch := omega) only [jst_eq, jst_ne, jst_ni, jst_o, jI_i, jcpy_out, w32_id, jdiv_nn, jshr_k, jand_255] <;> first | done | omega | assumption)) | (intros; simp (disch := omega) only [jst_eq, jst_ne, jst_ni, jst_o, jI_i, jcpy_out, w32_id, jdiv_nn, *] <;> first | done | omega) | (intros; simp (disch := omega) only [jst_eq, jst_ne, jst_ni, jst_o, jI_i, jcpy_out, w32_id, jdiv_nn] at * <;> first | done | omega | assumption) | (intros; first | rfl | (exfalso; omega) | ((repeat' apply And.intro) <;> first | assumption | rfl | omega | trivial)))) ?_ -- o1
  refine OK_if (fun c1 => ?_) (fun c1 => ?_)
  · skip
    try simp (disch := omega) only [jst_eq, jst_ne, jst_ni, jI_i, jcmp_lt, jcmp_gt, w32_id, jcpy_out, Sum.elim_inl, Sum.elim_inr, jt2, jt3, jt4, jt5, jt6, jt7, jt8] at c1
    have tt := t (by omega)
    refine OK_jb (vX14_meets_2_l15 (E := E) (Rf := Rf) (W := W) (hl := hl) (n := n) (kf := kf) (wh := wh) (rv := rv) (pts := pts) (rn := rn) (ra := ra) (ln := ln) (nn := nn) (lk := lk) (LL := LL) (LR := LR) (g := g) _ _ (by (first | assumption | omega | ((try dsimp only [jt2, jt3, jt4]); first | omega | (simp (disch := omega) only [jst_eq, jst_ne, jst_ni, jst_o, jI_i, jcpy_out, w32_id, jdiv_nn, jshr_k, jand_255] <;> first | done | omega | assumption)) | (intros; simp (disch := omega) only [jst_eq, jst_ne, jst_ni, jst_o, jI_i, jcpy_out, w32_id, jdiv_nn, *] <;> first | done | omega) | (intros; simp (disch := omega) only [jst_eq, jst_ne, jst_ni, jst_o, jI_i, jcpy_out, w32_id, jdiv_nn] at * <;> first | done | omega | assumption) | (intros; first | rfl | (exfalso; omega) | ((repeat' apply And.intro) <;> first | assumption | rfl | omega | trivial)))) (by exact tt.1) (by (first | assumption | omega | ((try dsimp only [jt2, jt3, jt4]); first | omega | (simp (disch := omega) only [jst_eq, jst_ne, jst_ni, jst_o, jI_i, jcpy_out, w32_id, jdiv_nn, jshr_k, jand_255] <;> first | done | omega | assumption)) | (intros; simp (disch := omega) only [jst_eq, jst_ne, jst_ni, jst_o, jI_i, jcpy_out, w32_id, jdiv_nn, *] <;> first | done | omega) | (intros; simp (disch := omega) only [jst_eq, jst_ne, jst_ni, jst_o, jI_i, jcpy_out, w32_id, jdiv_nn] at * <;> first | done | omega | assumption) | (intros; first | rfl | (exfalso; omega) | ((repeat' apply And.intro) <;> first | assumption | rfl | omega | trivial))))) (fun o2 r1 => ?_)
    rcases o2 with o4 | o5
    · skip
      have r2 := r1; clear r1
      dsimp only [Sum.elim_inl, Sum.elim_inr] at r2
      try dsimp only [Sum.elim_inl, Sum.elim_inr, jt2, jt3, jt4, jt5, jt6, jt7, jt8] at r2
      have ne1 := r2
      clear r2
      try simp (disch := omega) only [jst_eq, jst_ne, jst_ni, jI_i, jcmp_lt, jcmp_gt, w32_id, jcpy_out, Sum.elim_inl, Sum.elim_inr, jt2, jt3, jt4, jt5, jt6, jt7, jt8] at ne1
      refine OK_jml ?_
      refine OK_some ?_
      try dsimp only [Sum.elim_inl, Sum.elim_inr, jt2, jt3, jt4, jt5, jt6, jt7, jt8]
      try dsimp only [Sum.elim_inl, Sum.elim_inr, jt2, jt3, jt4, jt5, jt6, jt7, jt8]
      refine ⟨?_, ?_, ?_⟩
      · exact Or.inr ⟨rfl, fun y => ne1 y.2.1⟩ -- o5 e1.1
      · exact ⟨fun _ _ _ => rfl, b⟩ -- o6 e1.2
      · exact Or.inl rfl -- o7 e1.3
    · skip
      have r3 := r1; clear r1
      dsimp only [Sum.elim_inl, Sum.elim_inr] at r3
      try dsimp only [Sum.elim_inl, Sum.elim_inr, jt2, jt3, jt4, jt5, jt6, jt7, jt8] at r3
      have al2 := r3
      clear r3
      try simp (disch := omega) only [jst_eq, jst_ne, jst_ni, jI_i, jcmp_lt, jcmp_gt, w32_id, jcpy_out, Sum.elim_inl, Sum.elim_inr, jt2, jt3, jt4, jt5, jt6, jt7, jt8] at al2
      refine OK_jmr ?_
      refine OK_jl ?_
      have F6 : f2021 h (jst h 454 21 (-1)) := fun b s y => jst_o (by omega)
      have C6 : jst h 454 21 (-1) 454 21 = -1 := jst_eq
      have B6 : jst h 454 21 (-1) 454 20 = h 454 20 := jst_o (by omega)
      generalize e6 : jst h 454 21 (-1) = hq at *
      refine OK_jb (vX14_meets_2_l60 (E := E) (Rf := Rf) (W := W) (hl := hl) (n := n) (kf := kf) (wh := wh) (rv := rv) (pts := pts) (rn := rn) (ra := ra) (ln := ln) (nn := nn) (lk := lk) (LL := LL) (LR := LR) (g := g) _ _ (by exact mtM_fr m F6) (by exact tbM_fr tt.1 F6) (by exact tt.2) (by (first | assumption | omega | ((try dsimp only [jt2, jt3, jt4]); first | omega | (simp (disch := omega) only [jst_eq, jst_ne, jst_ni, jst_o, jI_i, jcpy_out, w32_id, jdiv_nn, jshr_k, jand_255] <;> first | done | omega | assumption)) | (intros; simp (disch := omega) only [jst_eq, jst_ne, jst_ni, jst_o, jI_i, jcpy_out, w32_id, jdiv_nn, *] <;> first | done | omega) | (intros; simp (disch := omega) only [jst_eq, jst_ne, jst_ni, jst_o, jI_i, jcpy_out, w32_id, jdiv_nn] at * <;> first | done | omega | assumption) | (intros; first | rfl | (exfalso; omega) | ((repeat' apply And.intro) <;> first | assumption | rfl | omega | trivial)))) (by (rw [B6]; exact b)) (by (first | assumption | omega | ((try dsimp only [jt2, jt3, jt4]); first | omega | (simp (disch := omega) only [jst_eq, jst_ne, jst_ni, jst_o, jI_i, jcpy_out, w32_id, jdiv_nn, jshr_k, jand_255] <;> first | done | omega | assumption)) | (intros; simp (disch := omega) only [jst_eq, jst_ne, jst_ni, jst_o, jI_i, jcpy_out, w32_id, jdiv_nn, *] <;> first | done | omega) | (intros; simp (disch := omega) only [jst_eq, jst_ne, jst_ni, jst_o, jI_i, jcpy_out, w32_id, jdiv_nn] at * <;> first | done | omega | assumption) | (intros; first | rfl | (exfalso; omega) | ((repeat' apply And.intro) <;> first | assumption | rfl | omega | trivial))))) (fun o7 r4 => ?_)
      rcases o7 with o9 | o10
      · skip
        have r5 := r4; clear r4
        dsimp only [Sum.elim_inl, Sum.elim_inr] at r5
        try dsimp only [Sum.elim_inl, Sum.elim_inr, jt2, jt3, jt4, jt5, jt6, jt7, jt8] at r5
        obtain ⟨ne3, fs3⟩ := r5
        try simp (disch := omega) only [jst_eq, jst_ne, jst_ni, jI_i, jcmp_lt, jcmp_gt, w32_id, jcpy_out, Sum.elim_inl, Sum.elim_inr, jt2, jt3, jt4, jt5, jt6, jt7, jt8] at ne3
        try simp (disch := omega) only [jst_eq, jst_ne, jst_ni, jI_i, jcmp_lt, jcmp_gt, w32_id, jcpy_out, Sum.elim_inl, Sum.elim_inr, jt2, jt3, jt4, jt5, jt6, jt7, jt8] at fs3
        refine OK_jml ?_
        refine OK_some ?_
        try dsimp only [Sum.elim_inl, Sum.elim_inr, jt2, jt3, jt4, jt5, jt6, jt7, jt8]
        try dsimp only [Sum.elim_inl, Sum.elim_inr, jt2, jt3, jt4, jt5, jt6, jt7, jt8]
        refine ⟨?_, ?_, ?_⟩
        · exact Or.inr ⟨rfl, fun y => ne3 y.2.2⟩ -- o14 e2.1
        · exact ⟨f2021_tr F6 (ag20_f fs3.1), fs3.2⟩ -- o15 e2.2
        · exact Or.inr (by rw [fs3.1 _ _ (by omega)]; exact C6) -- o16 e2.3
      · skip
        have r6 := r4; clear r4
        dsimp only [Sum.elim_inl, Sum.elim_inr] at r6
        try dsimp only [Sum.elim_inl, Sum.elim_inr, jt2, jt3, jt4, jt5, jt6, jt7, jt8] at r6
        obtain ⟨al4, fs4⟩ := r6
        try simp (disch := omega) only [jst_eq, jst_ne, jst_ni, jI_i, jcmp_lt, jcmp_gt, w32_id, jcpy_out, Sum.elim_inl, Sum.elim_inr, jt2, jt3, jt4, jt5, jt6, jt7, jt8] at al4
        try simp (disch := omega) only [jst_eq, jst_ne, jst_ni, jI_i, jcmp_lt, jcmp_gt, w32_id, jcpy_out, Sum.elim_inl, Sum.elim_inr, jt2, jt3, jt4, jt5, jt6, jt7, jt8] at fs4
        refine OK_jmr ?_
        refine OK_some ?_
        try dsimp only [Sum.elim_inl, Sum.elim_inr, jt2, jt3, jt4, jt5, jt6, jt7, jt8]
        try dsimp only [Sum.elim_inl, Sum.elim_inr, jt2, jt3, jt4, jt5, jt6, jt7, jt8]
        refine ⟨?_, ?_, ?_⟩
        · exact Or.inl ⟨rfl, by assumption, al2, al4⟩ -- o17 e3.1
        · exact ⟨f2021_tr F6 (ag20_f fs4.1), fs4.2⟩ -- o18 e3.2
        · exact Or.inr (by rw [fs4.1 _ _ (by omega)]; exact C6) -- o19 e3.3
  · skip
    try simp (disch := omega) only [jst_eq, jst_ne, jst_ni, jI_i, jcmp_lt, jcmp_gt, w32_id, jcpy_out, Sum.elim_inl, Sum.elim_inr, jt2, jt3, jt4, jt5, jt6, jt7, jt8] at c1
    refine OK_some ?_
    try dsimp only [Sum.elim_inl, Sum.elim_inr, jt2, jt3, jt4, jt5, jt6, jt7, jt8]
    try dsimp only [Sum.elim_inl, Sum.elim_inr, jt2, jt3, jt4, jt5, jt6, jt7, jt8]
    refine ⟨?_, ?_, ?_⟩
    · exact Or.inr ⟨rfl, fun y => by first | exact absurd y.1 (by assumption) | omega⟩ -- o20 e4.1
    · exact ⟨fun _ _ _ => rfl, b⟩ -- o21 e4.2
    · exact Or.inl rfl -- o22 e4.3

