/-! x: a told term is read -/
def frXr (h h' : AH) : Prop := ∀ a s, ¬ (a = 200 ∧ (s = 55 ∨ s = 56)) → ¬ (a = 324 ∧ s = 0) → ¬ (325 ≤ a ∧ a ≤ 329 ∧ 0 ≤ s) → ¬ (a = 441 ∧ 0 ≤ s ∧ s ≤ 18) → ¬ ((a = 442 ∨ a = 444) ∧ 0 ≤ s ∧ s < 3) → ¬ (a = 445 ∧ 0 ≤ s) → h' a s = h a s
def keyE (E : EV) (W : Int) (t : TR) : Int := min (fkE E t 0 0) (toE E t W)
def outX (E : EV) (W : Int) (R : Int ⊕ TR) (p0 v : Int) (h' : AH) : Prop := match R with
  | .inl z => v = -11 ∧ h' 200 56 = z
  | .inr t => (keyE E W t = 1000000 → v = 0 ∧ rXc h' 324 (rsE E t 0) 0 0 1 ∧ h' 324 0 = sz t ∧ h' 441 16 = hlT t ∧ h' 200 56 = p0) ∧ (keyE E W t ≠ 1000000 → v = -10 - keyE E W t % 8 ∧ h' 200 56 = keyE E W t / 8 ∧ 1 ≤ keyE E W t % 8 ∧ keyE E W t % 8 ≤ 6)
theorem toE_r {E : EV} {t : TR} {W : Int} (g : gT t) : toE E t W ≤ 1000000 ∧ 8 * (inf t).2.2.2 + 3 ≤ toE E t W := by
  have o := gT_i g
  have o1 := o.1
  have o2 := o.2.1
  unfold toE
  by_cases a : W ≠ -1 ∧ kdE E t ≠ -1 ∧ kdE E t ≠ W
  · rw [if_pos a]
    by_cases b : 40 < wtE E t
    · rw [if_pos b]; omega
    · rw [if_neg b]; omega
  · rw [if_neg a]
    by_cases b : 40 < wtE E t
    · rw [if_pos b]; omega
    · rw [if_neg b]; omega
theorem pA_inr {B : Int → Int} {n : Int} {sk : Bool} {R : Int ⊕ Int} {t : TR} (e : pA B n sk R = .inr t) : ∃ q q1, R = .inr q ∧ pT B n sk 13 q = .inr (t, q1) ∧ tO B n q1 = 0 := by
  unfold pA at e
  cases e2 : bdT R (pT B n sk 13) with
  | inl z => rw [e2] at e; cases e
  | inr x =>
    obtain ⟨t', q1⟩ := x
    rw [e2] at e
    obtain ⟨q, r1, r2⟩ := bdT_inr e2
    have e' : (if tO B n q1 = 0 then (.inr t' : Int ⊕ TR) else .inl (tS B n q1)) = .inr t := e
    by_cases c : tO B n q1 = 0
    · rw [if_pos c] at e'
      cases e'
      exact ⟨q, q1, r1, r2, c⟩
    · rw [if_neg c] at e'; cases e'
theorem key_r {B : Int → Int} {n q q1 W : Int} {sk : Bool} {t : TR} {E : EV} (hB : ∀ i, 0 ≤ i → i < n → 0 ≤ B i ∧ B i < 256) (hn : n ≤ 2000) (q0 : 0 ≤ q) (qn : q ≤ n) (o5 : tO B n q ≠ 5) (e : pT B n sk 13 q = .inr (t, q1)) : gT t ∧ wpT t ∧ dpT t ≤ 12 ∧ keyE E W t ≤ 1000000 ∧ 8 * (inf t).2.2.2 + 2 ≤ keyE E W t := by
  have w := pT_wp hB 13 q t q1 q0 qn o5 e
  have o := pT_ok hB hn 13 q t q1 q0 qn o5 e
  have f := fkE_lo (E := E) o.1 w.1 0 0
  have g := toE_r (E := E) (W := W) o.1
  refine ⟨o.1, w.1, by have := o.2; omega, ?_, ?_⟩
  · unfold keyE; omega
  · unfold keyE; omega
theorem xr_fin {B : Int → Int} {n W v v17 : Int} {sk : Bool} {E : EV} {R : Int ⊕ Int} {h h15 h18 : AH} (r : match pA B n sk R with | .inl z => h15 441 6 = 1 ∧ h15 441 7 = z | .inr t => h15 441 6 = 0 ∧ v = 0 ∧ h15 324 0 = 0 + sz t ∧ rXc h15 324 (rsE E t 0) v 0 (v + 1) ∧ FK h15 = min 1000000 (min (fkE E t 0 0) (toE E t W)) ∧ h15 441 16 = 0 + hlT t)
    (K : ∀ t, pA B n sk R = .inr t → FK h15 = keyE E W t ∧ keyE E W t ≤ 1000000 ∧ 8 * (inf t).2.2.2 + 2 ≤ keyE E W t)
    (b1 : h15 441 6 = 1 → v17 = -11 ∧ h18 = jst h15 200 56 (h15 441 7)) (b0 : h15 441 6 = 0 → FK h15 = 1000000 → v17 = 0 ∧ h18 = h15) (bf : h15 441 6 = 0 → FK h15 ≠ 1000000 → v17 = -10 - FK h15 % 8 ∧ h18 = jst h15 200 56 (FK h15 / 8) ∧ 1 ≤ FK h15 % 8 ∧ FK h15 % 8 ≤ 6)
    (F : ∀ hz : AH, (∀ a s, ¬ (a = 200 ∧ s = 56) → hz a s = h15 a s) → frXr h hz) (p56 : h15 200 56 = h 200 56) : (0 ≤ v17 → outX E W (pA B n sk R) (h 200 56) v h18) ∧ (v17 < 0 → outX E W (pA B n sk R) (h 200 56) v17 h18) ∧ frXr h h18 := by
  cases e : pA B n sk R with
  | inl z =>
    rw [e] at r
    obtain ⟨x1, x2⟩ := b1 r.1
    refine ⟨fun y => by omega, fun _ => ⟨x1, by rw [x2, jst_eq]; exact r.2⟩, F h18 (fun a s y => by rw [x2]; exact jst_o y)⟩
  | inr t =>
    rw [e] at r
    obtain ⟨k1, k2, k3⟩ := K t e
    obtain ⟨r1, r2, r3, r4, r5, r6⟩ := r
    by_cases c : FK h15 = 1000000
    · obtain ⟨x1, x2⟩ := b0 r1 c
      subst x2
      refine ⟨fun _ => ⟨fun _ => ⟨r2, by rw [r2] at r4; exact r4, by omega, by omega, p56⟩, fun y => by omega⟩, fun y => by omega, F _ (fun _ _ _ => rfl)⟩
    · obtain ⟨x1, x2, x3, x4⟩ := bf r1 c
      rw [k1] at x1 x2 x3 x4
      refine ⟨fun y => by omega, fun _ => ⟨fun y => by omega, fun _ => ⟨x1, by rw [x2, jst_eq], x3, x4⟩⟩, F h18 (fun a s y => by rw [x2]; exact jst_o y)⟩
theorem vX1_readTerm_j95 (t1 : Int) {h : AH} {B : Int → Int} {n : Int} {sk : Bool} {E : EV} {R : Int ⊕ Int} (hB : ∀ i, 0 ≤ i → i < n → 0 ≤ B i ∧ B i < 256) (s : Sx B n R h) (uq : ∀ q, R = .inr q → 0 ≤ q) (p : preT B n 440 324 sk E 0 h) (z : h 324 0 = 0 ∧ h 441 16 = 0 ∧ h 441 8 = 0) : OK (gX1_readTerm_j95 t1 h) (fun r => jt2 r fun v h' => (outX E t1 (pA B n sk R) (h 200 56) v h') ∧ (frXr h h')) := by
  have tn := p.1.1.2.2.1
  have k0 : FK h = 1000000 := by { unfold FK; rw [if_pos (by omega)] }
  have tn2 := p.1.1.2.2.2.1
  unfold gX1_readTerm_j95
  refine OK_jb2 (vX13_alone (B := B) (n := n) (A := 440) (T := 324) (u := 0) (sk := sk) (E := E) (R := R) _ (by (first | assumption | omega | ((try dsimp only [jt2, jt3, jt4]); first | omega | (simp (disch := omega) only [jst_eq, jst_ne, jst_ni, jst_o, jI_i, jcpy_out, w32_id, jdiv_nn, jshr_k, jand_255] <;> first | done | omega | assumption)) | (intros; simp (disch := omega) only [jst_eq, jst_ne, jst_ni, jst_o, jI_i, jcpy_out, w32_id, jdiv_nn, *] <;> first | done | omega) | (intros; simp (disch := omega) only [jst_eq, jst_ne, jst_ni, jst_o, jI_i, jcpy_out, w32_id, jdiv_nn] at * <;> first | done | omega | assumption) | (intros; first | rfl | (exfalso; omega) | ((repeat' apply And.intro) <;> first | assumption | rfl | omega | trivial)))) (by (first | assumption | omega | ((try dsimp only [jt2, jt3, jt4]); first | omega | (simp (disch := omega) only [jst_eq, jst_ne, jst_ni, jst_o, jI_i, jcpy_out, w32_id, jdiv_nn, jshr_k, jand_255] <;> first | done | omega | assumption)) | (intros; simp (disch := omega) only [jst_eq, jst_ne, jst_ni, jst_o, jI_i, jcpy_out, w32_id, jdiv_nn, *] <;> first | done | omega) | (intros; simp (disch := omega) only [jst_eq, jst_ne, jst_ni, jst_o, jI_i, jcpy_out, w32_id, jdiv_nn] at * <;> first | done | omega | assumption) | (intros; first | rfl | (exfalso; omega) | ((repeat' apply And.intro) <;> first | assumption | rfl | omega | trivial)))) (by (first | assumption | omega | ((try dsimp only [jt2, jt3, jt4]); first | omega | (simp (disch := omega) only [jst_eq, jst_ne, jst_ni, jst_o, jI_i, jcpy_out, w32_id, jdiv_nn, jshr_k, jand_255] <;> first | done | omega | assumption)) | (intros; simp (disch := omega) only [jst_eq, jst_ne, jst_ni, jst_o, jI_i, jcpy_out, w32_id, jdiv_nn, *] <;> first | done | omega) | (intros; simp (disch := omega) only [jst_eq, jst_ne, jst_ni, jst_o, jI_i, jcpy_out, w32_id, jdiv_nn] at * <;> first | done | omega | assumption) | (intros; first | rfl | (exfalso; omega) | ((repeat' apply And.intro) <;> first | assumption | rfl | omega | trivial)))) (by (first | assumption | omega | ((try dsimp only [jt2, jt3, jt4]); first | omega | (simp (disch := omega) only [jst_eq, jst_ne, jst_ni, jst_o, jI_i, jcpy_out, w32_id, jdiv_nn, jshr_k, jand_255] <;> first | done | omega | assumption)) | (intros; simp (disch := omega) only [jst_eq, jst_ne, jst_ni, jst_o, jI_i, jcpy_out, w32_id, jdiv_nn, *] <;> first | done | omega) | (intros; simp (disch := omega) only [jst_eq, jst_ne, jst_ni, jst_o, jI_i, jcpy_out, w32_id, jdiv_nn] at * <;> first | done | omega | assumption) | (intros; first | rfl | (exfalso; omega) | ((repeat' apply And.intro) <;> first | assumption | rfl | omega | trivial)))) (by (first | assumption | omega | ((try dsimp only [jt2, jt3, jt4]); first | omega | (simp (disch := omega) only [jst_eq, jst_ne, jst_ni, jst_o, jI_i, jcpy_out, w32_id, jdiv_nn, jshr_k, jand_255] <;> first | done | omega | assumption)) | (intros; simp (disch := omega) only [jst_eq, jst_ne, jst_ni, jst_o, jI_i, jcpy_out, w32_id, jdiv_nn, *] <;> first | done | omega) | (intros; simp (disch := omega) only [jst_eq, jst_ne, jst_ni, jst_o, jI_i, jcpy_out, w32_id, jdiv_nn] at * <;> first | done | omega | assumption) | (intros; first | rfl | (exfalso; omega) | ((repeat' apply And.intro) <;> first | assumption | rfl | omega | trivial))))) (fun v14 h15 r1 => ?_)
  try dsimp only [Sum.elim_inl, Sum.elim_inr, jt2, jt3, jt4, jt5, jt6, jt7, jt8] at r1
  have pa1 := r1
  clear r1
  try simp (disch := omega) only [jst_eq, jst_ne, jst_ni, jI_i, jcmp_lt, jcmp_gt, w32_id, jcpy_out, Sum.elim_inl, Sum.elim_inr, jt2, jt3, jt4, jt5, jt6, jt7, jt8] at pa1
  have P := pa1
  obtain ⟨⟨c1, c2, c3, c4, c5⟩, r⟩ := pa1
  have b01 : h15 441 6 = 0 ∨ h15 441 6 = 1 := by { cases e : pA B n sk R with | inl z => { rw [e] at r; exact Or.inr r.1 } | inr t => { rw [e] at r; exact Or.inl r.1 } }
  rw [z.1] at c1
  rw [z.1, z.2.1, k0] at r
  have F : ∀ hz : AH, (∀ a s, ¬ (a = 200 ∧ s = 56) → hz a s = h15 a s) → frXr h hz := fun hz f a s y1 y2 y3 y4 y5 y6 => by { rw [f a s (by omega)]; exact c1 a s (by omega) (by omega) (by omega) (by omega) (by omega) }
  have K : ∀ t, pA B n sk R = .inr t → FK h15 = keyE E t1 t ∧ keyE E t1 t ≤ 1000000 ∧ 8 * (inf t).2.2.2 + 2 ≤ keyE E t1 t := fun t e => by { obtain ⟨q, q1, e1, e2, e3⟩ := pA_inr e; subst e1; have nb := Sx_inr s; have kr := key_r (E := E) (W := t1) hB tn2 nb.1.2.2.1 nb.1.2.2.2 nb.2 e2; rw [e] at r; have f := r.2.2.2.2.1; unfold keyE at kr ⊢; refine ⟨?_, kr.2.2.2.1, kr.2.2.2.2⟩; omega }
  have p56 : h15 200 56 = h 200 56 := c1 _ _ (by omega) (by omega) (by omega) (by omega) (by omega)
  refine OK_jb2 (vX13_result (by (first | assumption | omega | ((try dsimp only [jt2, jt3, jt4]); first | omega | (simp (disch := omega) only [jst_eq, jst_ne, jst_ni, jst_o, jI_i, jcpy_out, w32_id, jdiv_nn, jshr_k, jand_255] <;> first | done | omega | assumption)) | (intros; simp (disch := omega) only [jst_eq, jst_ne, jst_ni, jst_o, jI_i, jcpy_out, w32_id, jdiv_nn, *] <;> first | done | omega) | (intros; simp (disch := omega) only [jst_eq, jst_ne, jst_ni, jst_o, jI_i, jcpy_out, w32_id, jdiv_nn] at * <;> first | done | omega | assumption) | (intros; first | rfl | (exfalso; omega) | ((repeat' apply And.intro) <;> first | assumption | rfl | omega | trivial)))) (by (first | assumption | omega | ((try dsimp only [jt2, jt3, jt4]); first | omega | (simp (disch := omega) only [jst_eq, jst_ne, jst_ni, jst_o, jI_i, jcpy_out, w32_id, jdiv_nn, jshr_k, jand_255] <;> first | done | omega | assumption)) | (intros; simp (disch := omega) only [jst_eq, jst_ne, jst_ni, jst_o, jI_i, jcpy_out, w32_id, jdiv_nn, *] <;> first | done | omega) | (intros; simp (disch := omega) only [jst_eq, jst_ne, jst_ni, jst_o, jI_i, jcpy_out, w32_id, jdiv_nn] at * <;> first | done | omega | assumption) | (intros; first | rfl | (exfalso; omega) | ((repeat' apply And.intro) <;> first | assumption | rfl | omega | trivial)))) (by (first | assumption | omega | ((try dsimp only [jt2, jt3, jt4]); first | omega | (simp (disch := omega) only [jst_eq, jst_ne, jst_ni, jst_o, jI_i, jcpy_out, w32_id, jdiv_nn, jshr_k, jand_255] <;> first | done | omega | assumption)) | (intros; simp (disch := omega) only [jst_eq, jst_ne, jst_ni, jst_o, jI_i, jcpy_out, w32_id, jdiv_nn, *] <;> first | done | omega) | (intros; simp (disch := omega) only [jst_eq, jst_ne, jst_ni, jst_o, jI_i, jcpy_out, w32_id, jdiv_nn] at * <;> first | done | omega | assumption) | (intros; first | rfl | (exfalso; omega) | ((repeat' apply And.intro) <;> first | assumption | rfl | omega | trivial))))) (fun v17 h18 r2 => ?_)
  try dsimp only [Sum.elim_inl, Sum.elim_inr, jt2, jt3, jt4, jt5, jt6, jt7, jt8] at r2
  obtain ⟨b12, b02, bf2⟩ := r2
  try simp (disch := omega) only [jst_eq, jst_ne, jst_ni, jI_i, jcmp_lt, jcmp_gt, w32_id, jcpy_out, Sum.elim_inl, Sum.elim_inr, jt2, jt3, jt4, jt5, jt6, jt7, jt8] at b12
  try simp (disch := omega) only [jst_eq, jst_ne, jst_ni, jI_i, jcmp_lt, jcmp_gt, w32_id, jcpy_out, Sum.elim_inl, Sum.elim_inr, jt2, jt3, jt4, jt5, jt6, jt7, jt8] at b02
  try simp (disch := omega) only [jst_eq, jst_ne, jst_ni, jI_i, jcmp_lt, jcmp_gt, w32_id, jcpy_out, Sum.elim_inl, Sum.elim_inr, jt2, jt3, jt4, jt5, jt6, jt7, jt8] at bf2
  refine OK_if (fun c1 => ?_) (fun c1 => ?_)
  · skip
    try simp (disch := omega) only [jst_eq, jst_ne, jst_ni, jI_i, jcmp_lt, jcmp_gt, w32_id, jcpy_out, Sum.elim_inl, Sum.elim_inr, jt2, jt3, jt4, jt5, jt6, jt7, jt8] at c1
    refine OK_some ?_
    try dsimp only [Sum.elim_inl, Sum.elim_inr, jt2, jt3, jt4, jt5, jt6, jt7, jt8]
    try dsimp only [Sum.elim_inl, Sum.elim_inr, jt2, jt3, jt4, jt5, jt6, jt7, jt8]
    refine ⟨?_, ?_⟩
    · exact (xr_fin r K b12 b02 bf2 F p56).1 (by omega) -- o9 e1.1
    · exact (xr_fin r K b12 b02 bf2 F p56).2.2 -- o10 e1.2
  · skip
    try simp (disch := omega) only [jst_eq, jst_ne, jst_ni, jI_i, jcmp_lt, jcmp_gt, w32_id, jcpy_out, Sum.elim_inl, Sum.elim_inr, jt2, jt3, jt4, jt5, jt6, jt7, jt8] at c1
    refine OK_some ?_
    try dsimp only [Sum.elim_inl, Sum.elim_inr, jt2, jt3, jt4, jt5, jt6, jt7, jt8]
    try dsimp only [Sum.elim_inl, Sum.elim_inr, jt2, jt3, jt4, jt5, jt6, jt7, jt8]
    refine ⟨?_, ?_⟩
    · exact (xr_fin r K b12 b02 bf2 F p56).2.1 (by omega) -- o11 e2.1
    · exact (xr_fin r K b12 b02 bf2 F p56).2.2 -- o12 e2.2

