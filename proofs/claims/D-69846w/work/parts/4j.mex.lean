/-! m: what the names of a term are: the operands that are too many -/
def chM (h : AH) (k : Int) : Int → Int → List (Int × TR) → Prop
  | x, _, [] => x = -1
  | x, hi, y :: L => x = y.1 ∧ okN h y.2 y.1 k ∧ y.1 + sz y.2 ≤ hi ∧ chM h k (h 467 x) x L
def hsL : List (Int × TR) → Int
  | [] => 0
  | y :: L => hlT y.2 + hsL L
theorem hsL_app : ∀ (L M : List (Int × TR)), hsL (L ++ M) = hsL L + hsL M
  | [], M => by show hsL M = 0 + hsL M; omega
  | y :: L, M => by show hlT y.2 + hsL (L ++ M) = hlT y.2 + hsL L + hsL M; rw [hsL_app L]; omega
theorem hsL_0 : ∀ L : List (Int × TR), 0 ≤ hsL L
  | [] => Int.le_refl _
  | y :: L => by have := hlT_0 y.2; have := hsL_0 L; show 0 ≤ hlT y.2 + hsL L; omega
theorem hsL_rev : ∀ L : List (Int × TR), hsL L.reverse = hsL L
  | [] => rfl
  | y :: L => by
    rw [List.reverse_cons, hsL_app, hsL_rev L]
    show hsL L + (hlT y.2 + 0) = hlT y.2 + hsL L
    omega
theorem chM_ex {h : AH} {k d : Int} : ∀ {r : TR} {j p pv : Int} {L : List (Int × TR)}, 3 ≤ j → rawM h r d j p pv → gT r → wpT r → 0 ≤ p → p + (sz r - 1) ≤ 8800 → dpT r ≤ k + 1 → chM h k pv p L → chM h k (h 466 d) (p + (sz r - 1)) ((exL r p).reverse ++ L)
  | .leaf i, j, p, pv, L, hj, a, _, _, _, _, _, c => by
    have e : p + (sz (.leaf i) - 1) = p := by show p + ((1 : Int) - 1) = p; omega
    rw [a.2.2, e]; exact c
  | .branch b s r, j, p, pv, L, hj, a, g, w, p0, p1, dp, c => by
    have z1 := sz_pos s
    have z2 := sz_pos r
    have e : sz (.branch b s r) = sz s + sz r := rfl
    have ed : dpT (.branch b s r) = max (dpT s + 1) (dpT r) := rfl
    rw [e] at p1 ⊢
    rw [ed] at dp
    obtain ⟨a1, a2, a3, a4⟩ := a
    rw [if_neg (by omega)] at a4
    have ih := chM_ex (h := h) (k := k) (d := d) (r := r) (j := j + 1) (p := p + sz s) (pv := p) (L := (p, s) :: L) (by omega) a4 g.2.2 w.2.2.2 (by omega) (by omega) (by omega) ⟨rfl, ⟨a2, g.2.1, w.2.2.1, p0, by show p + sz s ≤ 8800; omega, by show dpT s ≤ k; omega⟩, Int.le_refl _, by rw [a3 hj]; exact c⟩
    show chM h k (h 466 d) (p + (sz s + sz r - 1)) (((p, s) :: exL r (p + sz s)).reverse ++ L)
    rw [List.reverse_cons, List.append_assoc, show p + (sz s + sz r - 1) = p + sz s + (sz r - 1) by omega]
    exact ih
theorem chM_fr {h h' : AH} {k x0 : Int} (f : ∀ a s, 460 ≤ a → a ≤ 470 → a ≠ 464 → s < x0 → h' a s = h a s) (g : ∀ s, s < 3 * x0 → h' 464 s = h 464 s) : ∀ {L : List (Int × TR)} {x hi : Int}, hi ≤ x0 → chM h k x hi L → chM h' k x hi L
  | [], _, _, _, c => c
  | y :: L, x, hi, le, c => by
    obtain ⟨c1, ⟨o1, o2, o3, o4, o5, o6⟩, c3, c4⟩ := c
    have z := sz_pos y.2
    refine ⟨c1, ⟨?_, o2, o3, o4, o5, o6⟩, c3, ?_⟩
    · exact rawM_ag (lo := y.1) (hi := y.1 + sz y.2) ⟨fun a s a0 a1 a2 a3 s0 s1 => f a s a0 a1 a2 (by omega), fun s s0 s1 => g s (by omega), fun s s0 s1 => f 467 s (by omega) (by omega) (by omega) (by omega)⟩ (Int.le_refl _) (Int.le_refl _) (by omega) (by omega) (by omega) o1
    · rw [f 467 x (by omega) (by omega) (by omega) (by omega)]
      exact chM_fr f g (by omega) c4
def xivM (E : EV) (k lo hi : Int) (L0 : List (Int × TR)) (h0 : AH) (a7 : Int) (h : AH) (D L : List (Int × TR)) (hi' : Int) : Prop := L0 = D ++ L ∧ chM h k a7 hi' L ∧ hi' ≤ hi ∧ (∀ y, y ∈ D → hi' ≤ y.1 ∧ y.1 + sz y.2 ≤ hi ∧ actT h E y.2 y.1 (y.1 + 1)) ∧ MI h ∧ MK h = MK h0 ∧ h 454 35 + hsL L = h0 454 35 + hsL L0 ∧ h0 454 35 ≤ h 454 35 ∧ (∀ a s, ¬ (a = 454 ∧ (s = 30 ∨ s = 31 ∨ s = 35)) → ¬ ((a = 461 ∨ a = 462 ∨ a = 463) ∧ lo < s ∧ hi' ≤ s ∧ s < hi) → h a s = h0 a s)
theorem xiv_s {E : EV} {k lo hi a7 hi' v : Int} {L0 D L : List (Int × TR)} {y : Int × TR} {h0 h h42 : AH} (i : xivM E k lo hi L0 h0 a7 h D (y :: L) hi') (lw : lo < y.1) (key : MK h0 ≤ 8 * (inf y.2).2.2.2) (p : posN E y.2 a7 h v h42) : xivM E k lo hi L0 h0 (h42 467 a7) h42 (D ++ [y]) L a7 := by
  obtain ⟨i1, ⟨c1, c2, c3, c4⟩, i3, i4, i5, i6, i7, i8, i9⟩ := i
  obtain ⟨p1, p2, p3, p4, p5, p6, p7⟩ := p
  subst c1
  have z := sz_pos y.2
  have fl := fkE_lo (E := E) c2.2.1 c2.2.2.1 0 (h 454 35)
  have h0l := hlT_0 y.2
  have e7 : h42 467 y.1 = h 467 y.1 := p7 _ _ (by omega) (by omega)
  refine ⟨by rw [i1, List.append_assoc]; rfl, ?_, by omega, fun x hx => ?_, p2, by omega, ?_, by omega, fun a s y1 y2 => ?_⟩
  · rw [e7]
    exact chM_fr (x0 := y.1) (fun a s a0 a1 a2 s0 => p7 a s (by omega) (by omega)) (fun s s0 => p7 _ _ (by omega) (by omega)) (Int.le_refl _) c4
  · rcases List.mem_append.mp hx with m | m
    · have q := i4 x m
      refine ⟨by omega, q.2.1, ?_⟩
      have zx := sz_pos x.2
      exact actT_ag (lo := x.1) (hi := x.1 + sz x.2) (fun s s0 s1 => p7 _ _ (by omega) (by omega)) (Int.le_refl _) (by omega) (by omega) (by omega) q.2.2
    · have : x = y := List.mem_singleton.mp m
      subst this
      exact ⟨Int.le_refl _, by omega, p5⟩
  · have : hsL (y :: L) = hlT y.2 + hsL L := rfl
    omega
  · rw [p7 a s y1 (by omega)]
    exact i9 a s y1 (by omega)
theorem chM_n {h : AH} {k x hi : Int} {L : List (Int × TR)} (c : chM h k x hi L) (n : x < 0) : L = [] := by
  cases L with
  | nil => rfl
  | cons y M => have := c.1; have := c.2.1.2.2.2.1; omega
theorem chM_c {h : AH} {k x hi : Int} {L : List (Int × TR)} (c : chM h k x hi L) (n : ¬ x < 0) : ∃ y M, L = y :: M := by
  cases L with
  | nil => have : x = -1 := c; omega
  | cons y M => exact ⟨y, M, rfl⟩
theorem chM_lt {h : AH} {k x hi : Int} {L : List (Int × TR)} (c : chM h k x hi L) (n : 0 ≤ hi) : x < hi ∧ -1 ≤ x := by
  cases L with
  | nil => have : x = -1 := c; omega
  | cons y M => have := c.1; have := c.2.1.2.2.2.1; have := c.2.2.1; have := sz_pos y.2; omega
theorem vX14_mean_l399 {F : Int → Int → AH → Option (Int × AH)} (i1 : Int) (i2 : Int) (i3 : Int) (i4 : Int) (i5 : Int) (a70 : Int) {h0 : AH} {E : EV} {k lo hi : Int} {L0 : List (Int × TR)} (hF : CMN F E i2 k) (ev : evM h0 i2 E) (m : MI h0) (c : chM h0 k a70 hi L0) (lw : ∀ y, y ∈ L0 → lo < y.1 ∧ MK h0 ≤ 8 * (inf y.2).2.2.2) (hc : 0 ≤ h0 454 35 ∧ h0 454 35 + hsL L0 ≤ 4000) : OK (gX14_mean_l399 F i1 i2 i3 i4 i5 a70 h0) (fun h' => MI h' ∧ MK h' = MK h0 ∧ h' 454 35 = h0 454 35 + hsL L0 ∧ (∀ y, y ∈ L0 → actT h' E y.2 y.1 (y.1 + 1)) ∧ ∀ a s, ¬ (a = 454 ∧ (s = 30 ∨ s = 31 ∨ s = 35)) → ¬ ((a = 461 ∨ a = 462 ∨ a = 463) ∧ lo < s ∧ s < hi) → h' a s = h0 a s) := by
  unfold gX14_mean_l399
  refine OK_jit (I := (fun (s : Int × AH) => jt2 s fun a7 h => ∃ (D L : List (Int × TR)) (hi' : Int), xivM E k lo hi L0 h0 a7 h D L hi')) (m := (fun (s : Int × AH) => jt2 s fun a7 h => (a7 + 1).toNat)) ?_ ?_
  · intro s hs
    obtain ⟨a7, h⟩ := s
    dsimp only [Sum.elim_inl, Sum.elim_inr, jt2, jt3, jt4, jt5, jt6, jt7, jt8] at hs
    have q0 := hs; clear hs
    unfold gX14_mean_b399
    refine OK_jt2 ?_
    obtain ⟨D, L, hi', I⟩ := q0
    have I' := I
    obtain ⟨j1, j2, j3, j4, j5, j6, j7, j8, j9⟩ := I
    refine OK_if (fun c1 => ?_) (fun c1 => ?_)
    · skip
      try simp (disch := omega) only [jst_eq, jst_ne, jst_ni, jI_i, jcmp_lt, jcmp_gt, w32_id, jcpy_out, Sum.elim_inl, Sum.elim_inr, jt2, jt3, jt4, jt5, jt6, jt7, jt8] at c1
      have ln := chM_n j2 c1
      refine OK_ir ?_
      (subst ln; have e0 : hsL [] = 0 := rfl; rw [List.append_nil] at j1; subst j1; exact ⟨j5, j6, by omega, fun y hy => (j4 y hy).2.2, fun a s y1 y2 => j9 a s y1 (by omega)⟩) -- o1 e1
    · skip
      try simp (disch := omega) only [jst_eq, jst_ne, jst_ni, jI_i, jcmp_lt, jcmp_gt, w32_id, jcpy_out, Sum.elim_inl, Sum.elim_inr, jt2, jt3, jt4, jt5, jt6, jt7, jt8] at c1
      obtain ⟨y, M, rfl⟩ := chM_c j2 c1
      have yc := j2
      obtain ⟨yc1, yc2, yc3, yc4⟩ := yc
      have b8 := yc2.2.2.2.2.1
      have zy := sz_pos y.2
      have b0 := yc2.2.2.2.1
      have yL : y ∈ L0 := by { rw [j1]; exact List.mem_append.mpr (Or.inr (List.mem_cons_self)) }
      have lwy := lw y yL
      have hs : hsL (y :: M) = hlT y.2 + hsL M := rfl
      have hM := hsL_0 M
      have lt := chM_lt yc4 (by omega)
      refine OK_jb2 (hF _ _ y.2 (by exact evM_fr ev (fun a s y1 y2 => j9 a s y1 (by omega))) (by (first | assumption | omega | ((try dsimp only [jt2, jt3, jt4]); first | omega | (simp (disch := omega) only [jst_eq, jst_ne, jst_ni, jst_o, jI_i, jcpy_out, w32_id, jdiv_nn, jshr_k, jand_255] <;> first | done | omega | assumption)) | (intros; simp (disch := omega) only [jst_eq, jst_ne, jst_ni, jst_o, jI_i, jcpy_out, w32_id, jdiv_nn, *] <;> first | done | omega) | (intros; simp (disch := omega) only [jst_eq, jst_ne, jst_ni, jst_o, jI_i, jcpy_out, w32_id, jdiv_nn] at * <;> first | done | omega | assumption) | (intros; first | rfl | (exfalso; omega) | ((repeat' apply And.intro) <;> first | assumption | rfl | omega | trivial)))) (by exact ⟨by omega, by omega⟩) (by (rw [yc1]; exact yc2))) (fun v41 h42 r1 => ?_)
      try dsimp only [Sum.elim_inl, Sum.elim_inr, jt2, jt3, jt4, jt5, jt6, jt7, jt8] at r1
      have pn1 := r1
      clear r1
      try simp (disch := omega) only [jst_eq, jst_ne, jst_ni, jI_i, jcmp_lt, jcmp_gt, w32_id, jcpy_out, Sum.elim_inl, Sum.elim_inr, jt2, jt3, jt4, jt5, jt6, jt7, jt8] at pn1
      have e7 : h42 467 a7 = h 467 a7 := pn1.2.2.2.2.2.2 _ _ (by omega) (by omega)
      refine OK_jg (by (first | assumption | omega | ((try dsimp only [jt2, jt3, jt4]); first | omega | (simp (disch := omega) only [jst_eq, jst_ne, jst_ni, jst_o, jI_i, jcpy_out, w32_id, jdiv_nn, jshr_k, jand_255] <;> first | done | omega | assumption)) | (intros; simp (disch := omega) only [jst_eq, jst_ne, jst_ni, jst_o, jI_i, jcpy_out, w32_id, jdiv_nn, *] <;> first | done | omega) | (intros; simp (disch := omega) only [jst_eq, jst_ne, jst_ni, jst_o, jI_i, jcpy_out, w32_id, jdiv_nn] at * <;> first | done | omega | assumption) | (intros; first | rfl | (exfalso; omega) | ((repeat' apply And.intro) <;> first | assumption | rfl | omega | trivial)))) ?_ -- o6
      refine OK_jlx (fun x43 ex43 => ?_)
      try simp (disch := omega) only [jst_eq, jst_ne, jst_ni, jI_i, jcmp_lt, jcmp_gt, w32_id, jcpy_out, Sum.elim_inl, Sum.elim_inr, jt2, jt3, jt4, jt5, jt6, jt7, jt8] at ex43
      refine OK_il ?_ ?_
      · (show ∃ (D L : List (Int × TR)) (hi' : Int), xivM E k lo hi L0 h0 x43 h42 D L hi'; rw [ex43]; exact ⟨D ++ [y], M, a7, xiv_s I' lwy.1 lwy.2 pn1⟩) -- o7 e2i
      · (show (x43 + 1).toNat < (a7 + 1).toNat; omega) -- o8 e2m
  · (show ∃ (D L : List (Int × TR)) (hi' : Int), xivM E k lo hi L0 h0 a70 h0 D L hi'; exact ⟨[], L0, hi, rfl, c, Int.le_refl _, fun y hy => absurd hy (List.not_mem_nil), m, rfl, rfl, Int.le_refl _, fun _ _ _ _ => rfl⟩) -- o9 init

