/-! x: a loop is read, its end -/
theorem vX13_wordB (a1 : Int) {h : AH} {B : Int → Int} {n A w : Int} {r : Int ⊕ Int} (t : TX B n A h) (hB : ∀ i, 0 ≤ i → i < n → 0 ≤ B i ∧ B i < 256) (s : Sx B n r h) (nm : nmS h a1 w) : OK (gX13_word a1 h) (fun h' => (Sx B n (bnd r (pN B n w)) h') ∧ (∀ a s, ¬ (a = 441 ∧ 2 ≤ s ∧ s ≤ 7) → h' a s = h a s) ∧ (¬ h 441 6 = 0 → h' = h) ∧ ((∃ z, r = .inl z) → h' 441 6 = 1)) := by
  unfold gX13_word
  refine OK_if (fun c1 => ?_) (fun c1 => ?_)
  · skip
    try simp (disch := omega) only [jst_eq, jst_ne, jst_ni, jI_i, jcmp_lt, jcmp_gt, w32_id, jcpy_out, Sum.elim_inl, Sum.elim_inr, jt2, jt3, jt4, jt5, jt6, jt7, jt8] at c1
    obtain ⟨q, nb, k⟩ := Sx_nb s c1
    refine OK_jb (vX13_is (B := B) (n := n) (A := A) (q := q) (w := w) _ (by (first | assumption | omega | ((try dsimp only [jt2, jt3, jt4]); first | omega | (simp (disch := omega) only [jst_eq, jst_ne, jst_ni, jst_o, jI_i, jcpy_out, w32_id, jdiv_nn, jshr_k, jand_255] <;> first | done | omega | assumption)) | (intros; simp (disch := omega) only [jst_eq, jst_ne, jst_ni, jst_o, jI_i, jcpy_out, w32_id, jdiv_nn, *] <;> first | done | omega) | (intros; simp (disch := omega) only [jst_eq, jst_ne, jst_ni, jst_o, jI_i, jcpy_out, w32_id, jdiv_nn] at * <;> first | done | omega | assumption) | (intros; first | rfl | (exfalso; omega) | ((repeat' apply And.intro) <;> first | assumption | rfl | omega | trivial)))) (by (first | assumption | omega | ((try dsimp only [jt2, jt3, jt4]); first | omega | (simp (disch := omega) only [jst_eq, jst_ne, jst_ni, jst_o, jI_i, jcpy_out, w32_id, jdiv_nn, jshr_k, jand_255] <;> first | done | omega | assumption)) | (intros; simp (disch := omega) only [jst_eq, jst_ne, jst_ni, jst_o, jI_i, jcpy_out, w32_id, jdiv_nn, *] <;> first | done | omega) | (intros; simp (disch := omega) only [jst_eq, jst_ne, jst_ni, jst_o, jI_i, jcpy_out, w32_id, jdiv_nn] at * <;> first | done | omega | assumption) | (intros; first | rfl | (exfalso; omega) | ((repeat' apply And.intro) <;> first | assumption | rfl | omega | trivial)))) (by (first | assumption | omega | ((try dsimp only [jt2, jt3, jt4]); first | omega | (simp (disch := omega) only [jst_eq, jst_ne, jst_ni, jst_o, jI_i, jcpy_out, w32_id, jdiv_nn, jshr_k, jand_255] <;> first | done | omega | assumption)) | (intros; simp (disch := omega) only [jst_eq, jst_ne, jst_ni, jst_o, jI_i, jcpy_out, w32_id, jdiv_nn, *] <;> first | done | omega) | (intros; simp (disch := omega) only [jst_eq, jst_ne, jst_ni, jst_o, jI_i, jcpy_out, w32_id, jdiv_nn] at * <;> first | done | omega | assumption) | (intros; first | rfl | (exfalso; omega) | ((repeat' apply And.intro) <;> first | assumption | rfl | omega | trivial))))) (fun v3 r1 => ?_)
    try dsimp only [Sum.elim_inl, Sum.elim_inr, jt2, jt3, jt4, jt5, jt6, jt7, jt8] at r1
    have v1 := r1
    clear r1
    try simp (disch := omega) only [jst_eq, jst_ne, jst_ni, jI_i, jcmp_lt, jcmp_gt, w32_id, jcpy_out, Sum.elim_inl, Sum.elim_inr, jt2, jt3, jt4, jt5, jt6, jt7, jt8] at v1
    refine OK_if (fun c2 => ?_) (fun c2 => ?_)
    · skip
      try simp (disch := omega) only [jst_eq, jst_ne, jst_ni, jI_i, jcmp_lt, jcmp_gt, w32_id, jcpy_out, Sum.elim_inl, Sum.elim_inr, jt2, jt3, jt4, jt5, jt6, jt7, jt8] at c2
      have g : ¬ isN B n q w := (isN_1 v1).mp c2
      refine OK_jb (vX13_no (B := B) (n := n) (r := r) (by (first | assumption | omega | ((try dsimp only [jt2, jt3, jt4]); first | omega | (simp (disch := omega) only [jst_eq, jst_ne, jst_ni, jst_o, jI_i, jcpy_out, w32_id, jdiv_nn, jshr_k, jand_255] <;> first | done | omega | assumption)) | (intros; simp (disch := omega) only [jst_eq, jst_ne, jst_ni, jst_o, jI_i, jcpy_out, w32_id, jdiv_nn, *] <;> first | done | omega) | (intros; simp (disch := omega) only [jst_eq, jst_ne, jst_ni, jst_o, jI_i, jcpy_out, w32_id, jdiv_nn] at * <;> first | done | omega | assumption) | (intros; first | rfl | (exfalso; omega) | ((repeat' apply And.intro) <;> first | assumption | rfl | omega | trivial))))) (fun h6 r2 => ?_)
      try dsimp only [Sum.elim_inl, Sum.elim_inr, jt2, jt3, jt4, jt5, jt6, jt7, jt8] at r2
      obtain ⟨nb2, fr2⟩ := r2
      try simp (disch := omega) only [jst_eq, jst_ne, jst_ni, jI_i, jcmp_lt, jcmp_gt, w32_id, jcpy_out, Sum.elim_inl, Sum.elim_inr, jt2, jt3, jt4, jt5, jt6, jt7, jt8] at nb2
      try simp (disch := omega) only [jst_eq, jst_ne, jst_ni, jI_i, jcmp_lt, jcmp_gt, w32_id, jcpy_out, Sum.elim_inl, Sum.elim_inr, jt2, jt3, jt4, jt5, jt6, jt7, jt8] at fr2
      refine OK_some ?_
      try dsimp only [Sum.elim_inl, Sum.elim_inr, jt2, jt3, jt4, jt5, jt6, jt7, jt8]
      try dsimp only [Sum.elim_inl, Sum.elim_inr, jt2, jt3, jt4, jt5, jt6, jt7, jt8]
      refine ⟨?_, ?_, ?_, ?_⟩
      · (rcases k with k | k; { rw [k.1] at nb2 ⊢; exact Sx_l nb2.1 nb2.2 }; { rw [k.1] at nb2 ⊢; show Sx B n (pN B n w q) _; unfold pN; rw [if_neg g]; exact Sx_l nb2.1 nb2.2 }) -- o5 e1.1
      · (first | assumption | omega | ((try dsimp only [jt2, jt3, jt4]); first | omega | (simp (disch := omega) only [jst_eq, jst_ne, jst_ni, jst_o, jI_i, jcpy_out, w32_id, jdiv_nn, jshr_k, jand_255] <;> first | done | omega | assumption)) | (intros; simp (disch := omega) only [jst_eq, jst_ne, jst_ni, jst_o, jI_i, jcpy_out, w32_id, jdiv_nn, *] <;> first | done | omega) | (intros; simp (disch := omega) only [jst_eq, jst_ne, jst_ni, jst_o, jI_i, jcpy_out, w32_id, jdiv_nn] at * <;> first | done | omega | assumption) | (intros; first | rfl | (exfalso; omega) | ((repeat' apply And.intro) <;> first | assumption | rfl | omega | trivial))) -- o6 e1.2
      · exact fun z => absurd c1 z -- o7 e1.3
      · exact fun _ => nb2.1 -- o8 e1.4
    · skip
      try simp (disch := omega) only [jst_eq, jst_ne, jst_ni, jI_i, jcmp_lt, jcmp_gt, w32_id, jcpy_out, Sum.elim_inl, Sum.elim_inr, jt2, jt3, jt4, jt5, jt6, jt7, jt8] at c2
      have g : isN B n q w := Classical.byContradiction fun z => c2 ((isN_1 v1).mpr z)
      have k2 := k.resolve_left (fun z => by have := g.1; omega)
      refine OK_jb (vX13_nextS (B := B) (n := n) (A := A) (q := q) (by (first | assumption | omega | ((try dsimp only [jt2, jt3, jt4]); first | omega | (simp (disch := omega) only [jst_eq, jst_ne, jst_ni, jst_o, jI_i, jcpy_out, w32_id, jdiv_nn, jshr_k, jand_255] <;> first | done | omega | assumption)) | (intros; simp (disch := omega) only [jst_eq, jst_ne, jst_ni, jst_o, jI_i, jcpy_out, w32_id, jdiv_nn, *] <;> first | done | omega) | (intros; simp (disch := omega) only [jst_eq, jst_ne, jst_ni, jst_o, jI_i, jcpy_out, w32_id, jdiv_nn] at * <;> first | done | omega | assumption) | (intros; first | rfl | (exfalso; omega) | ((repeat' apply And.intro) <;> first | assumption | rfl | omega | trivial)))) (by (first | assumption | omega | ((try dsimp only [jt2, jt3, jt4]); first | omega | (simp (disch := omega) only [jst_eq, jst_ne, jst_ni, jst_o, jI_i, jcpy_out, w32_id, jdiv_nn, jshr_k, jand_255] <;> first | done | omega | assumption)) | (intros; simp (disch := omega) only [jst_eq, jst_ne, jst_ni, jst_o, jI_i, jcpy_out, w32_id, jdiv_nn, *] <;> first | done | omega) | (intros; simp (disch := omega) only [jst_eq, jst_ne, jst_ni, jst_o, jI_i, jcpy_out, w32_id, jdiv_nn] at * <;> first | done | omega | assumption) | (intros; first | rfl | (exfalso; omega) | ((repeat' apply And.intro) <;> first | assumption | rfl | omega | trivial)))) (by (first | assumption | omega | ((try dsimp only [jt2, jt3, jt4]); first | omega | (simp (disch := omega) only [jst_eq, jst_ne, jst_ni, jst_o, jI_i, jcpy_out, w32_id, jdiv_nn, jshr_k, jand_255] <;> first | done | omega | assumption)) | (intros; simp (disch := omega) only [jst_eq, jst_ne, jst_ni, jst_o, jI_i, jcpy_out, w32_id, jdiv_nn, *] <;> first | done | omega) | (intros; simp (disch := omega) only [jst_eq, jst_ne, jst_ni, jst_o, jI_i, jcpy_out, w32_id, jdiv_nn] at * <;> first | done | omega | assumption) | (intros; first | rfl | (exfalso; omega) | ((repeat' apply And.intro) <;> first | assumption | rfl | omega | trivial)))) (by exact k2.2)) (fun h8 r3 => ?_)
      try dsimp only [Sum.elim_inl, Sum.elim_inr, jt2, jt3, jt4, jt5, jt6, jt7, jt8] at r3
      obtain ⟨sx3, fr3⟩ := r3
      try simp (disch := omega) only [jst_eq, jst_ne, jst_ni, jI_i, jcmp_lt, jcmp_gt, w32_id, jcpy_out, Sum.elim_inl, Sum.elim_inr, jt2, jt3, jt4, jt5, jt6, jt7, jt8] at sx3
      try simp (disch := omega) only [jst_eq, jst_ne, jst_ni, jI_i, jcmp_lt, jcmp_gt, w32_id, jcpy_out, Sum.elim_inl, Sum.elim_inr, jt2, jt3, jt4, jt5, jt6, jt7, jt8] at fr3
      refine OK_some ?_
      try dsimp only [Sum.elim_inl, Sum.elim_inr, jt2, jt3, jt4, jt5, jt6, jt7, jt8]
      try dsimp only [Sum.elim_inl, Sum.elim_inr, jt2, jt3, jt4, jt5, jt6, jt7, jt8]
      refine ⟨?_, ?_, ?_, ?_⟩
      · (rw [k2.1]; show Sx B n (pN B n w q) _; unfold pN; rw [if_pos g]; exact sx3) -- o13 e2.1
      · (first | assumption | omega | ((try dsimp only [jt2, jt3, jt4]); first | omega | (simp (disch := omega) only [jst_eq, jst_ne, jst_ni, jst_o, jI_i, jcpy_out, w32_id, jdiv_nn, jshr_k, jand_255] <;> first | done | omega | assumption)) | (intros; simp (disch := omega) only [jst_eq, jst_ne, jst_ni, jst_o, jI_i, jcpy_out, w32_id, jdiv_nn, *] <;> first | done | omega) | (intros; simp (disch := omega) only [jst_eq, jst_ne, jst_ni, jst_o, jI_i, jcpy_out, w32_id, jdiv_nn] at * <;> first | done | omega | assumption) | (intros; first | rfl | (exfalso; omega) | ((repeat' apply And.intro) <;> first | assumption | rfl | omega | trivial))) -- o14 e2.2
      · exact fun z => absurd c1 z -- o15 e2.3
      · exact fun ⟨z, e⟩ => by (rw [k2.1] at e; cases e) -- o16 e2.4
  · skip
    try simp (disch := omega) only [jst_eq, jst_ne, jst_ni, jI_i, jcmp_lt, jcmp_gt, w32_id, jcpy_out, Sum.elim_inl, Sum.elim_inr, jt2, jt3, jt4, jt5, jt6, jt7, jt8] at c1
    refine OK_some ?_
    try dsimp only [Sum.elim_inl, Sum.elim_inr, jt2, jt3, jt4, jt5, jt6, jt7, jt8]
    try dsimp only [Sum.elim_inl, Sum.elim_inr, jt2, jt3, jt4, jt5, jt6, jt7, jt8]
    refine ⟨?_, ?_, ?_, ?_⟩
    · (obtain ⟨_, e⟩ := Sx_br s c1; rw [e] at s ⊢; exact s) -- o17 e3.1
    · (first | assumption | omega | ((try dsimp only [jt2, jt3, jt4]); first | omega | (simp (disch := omega) only [jst_eq, jst_ne, jst_ni, jst_o, jI_i, jcpy_out, w32_id, jdiv_nn, jshr_k, jand_255] <;> first | done | omega | assumption)) | (intros; simp (disch := omega) only [jst_eq, jst_ne, jst_ni, jst_o, jI_i, jcpy_out, w32_id, jdiv_nn, *] <;> first | done | omega) | (intros; simp (disch := omega) only [jst_eq, jst_ne, jst_ni, jst_o, jI_i, jcpy_out, w32_id, jdiv_nn] at * <;> first | done | omega | assumption) | (intros; first | rfl | (exfalso; omega) | ((repeat' apply And.intro) <;> first | assumption | rfl | omega | trivial))) -- o18 e3.2
    · exact fun _ => rfl -- o19 e3.3
    · exact fun _ => (Sx_br s c1).1 -- o20 e3.4
theorem bnd_le {B : Int → Int} {n w q' : Int} {R : Int ⊕ Int} (hB : ∀ i, 0 ≤ i → i < n → 0 ≤ B i ∧ B i < 256) {h : AH} (s : Sx B n R h) (e : bnd R (pN B n w) = .inr q') : ∃ q, R = .inr q ∧ q ≤ q' := by
  cases R with
  | inl z => cases e
  | inr q =>
    refine ⟨q, rfl, ?_⟩
    have e2 : pN B n w q = .inr q' := e
    unfold pN at e2
    by_cases g : isN B n q w
    · rw [if_pos g] at e2
      obtain ⟨x, y⟩ := Sx_inr s
      have nr := nx_r hB x.2.2.1 x.2.2.2 y (by rw [g.1]; decide) e2
      omega
    · rw [if_neg g] at e2; cases e2
theorem nm_loop {h : AH} (o : Od h) : nmS h 46 247552 := old_nm o [108, 111, 111, 112] rfl (by decide) (by decide) (by decide) (by decide) (by decide) (by decide)
theorem nm_from {h : AH} (o : Od h) : nmS h 48 131638 := old_nm o [102, 114, 111, 109] rfl (by decide) (by decide) (by decide) (by decide) (by decide) (by decide)
theorem nm_while {h : AH} (o : Od h) : nmS h 50 12387497 := old_nm o [119, 104, 105, 108, 101] rfl (by decide) (by decide) (by decide) (by decide) (by decide) (by decide)
theorem nm_do {h : AH} (o : Od h) : nmS h 52 123 := old_nm o [100, 111] rfl (by decide) (by decide) (by decide) (by decide) (by decide) (by decide)
theorem nm_give {h : AH} (o : Od h) : nmS h 54 144941 := old_nm o [103, 105, 118, 101] rfl (by decide) (by decide) (by decide) (by decide) (by decide) (by decide)
/-- a chain behind a word -/
theorem cqX_n {B : Int → Int} {n A T w : Int} {E : EV} {R : Int ⊕ Int} {h h' : AH} (hB : ∀ i, 0 ≤ i → i < n → 0 ≤ B i ∧ B i < 256) (c : cqX B n A T E R h) (f : ∀ a s, ¬ (a = 441 ∧ 2 ≤ s ∧ s ≤ 7) → h' a s = h a s) (s : Sx B n (bnd R (pN B n w)) h') : cqX B n A T E (bnd R (pN B n w)) h' := by
  have TS := c.1.2.2.2.1.2.2
  unfold Tset at TS
  exact cqX_s c (fun a s y => f a s (fun z => by rcases y with y | y; { have := (rdN_n y).2.2.2; omega }; { omega })) s (fun q' e => bnd_le hB c.2.2.1 e)
def frS (X : Int → Int → Prop) (T N : Int) (h h' : AH) : Prop := ∀ b s, ¬ (b = 441 ∧ 2 ≤ s ∧ s ≤ 18) → ¬ (b = 445 ∧ 0 ≤ s) → ¬ (b = T ∧ s = 0) → ¬ (T + 1 ≤ b ∧ b ≤ T + 4 ∧ N ≤ s) → ¬ (b = T + 5 ∧ 3 * N ≤ s) → ¬ X b s → h' b s = h b s
theorem frS_r {X : Int → Int → Prop} {T N : Int} {h : AH} : frS X T N h h := fun _ _ _ _ _ _ _ _ => rfl
theorem frS_t {X : Int → Int → Prop} {T N N' : Int} {h h1 h2 : AH} (le : N ≤ N') (x : frS X T N h h1) (y : frS X T N' h1 h2) : frS X T N h h2 := fun b s y1 y2 y3 y4 y5 y6 => (y b s y1 y2 y3 (by omega) (by omega) y6).trans (x b s y1 y2 y3 y4 y5 y6)
theorem frS_T {X : Int → Int → Prop} {T N : Int} {h h' : AH} (f : frT T N h h') (hN : 0 ≤ N) : frS X T N h h' := fun b s y1 y2 y3 y4 y5 y6 => f b s (by omega) (by omega) y3 y4 y5
theorem frS_o {X : Int → Int → Prop} {T N : Int} {h h' : AH} (f : ∀ b s, ¬ (b = 441 ∧ 2 ≤ s ∧ s ≤ 18) → ¬ X b s → h' b s = h b s) : frS X T N h h' := fun b s y1 _ _ _ _ y6 => f b s y1 y6
theorem frS_w {X Y : Int → Int → Prop} {T N : Int} {h h' : AH} (f : frS X T N h h') (g : ∀ b s, X b s → Y b s) : frS Y T N h h' := fun b s y1 y2 y3 y4 y5 y6 => f b s y1 y2 y3 y4 y5 (fun z => y6 (g b s z))
theorem frDx_S {X : Int → Int → Prop} {a T N : Int} {h h' : AH} (f : frDx a T N h h') (g : ∀ s, 0 ≤ s → s < 3 → X a s) : frS X T N h h' := fun b s y1 y2 y3 y4 y5 y6 => f b s y1 y2 y3 y4 y5 (fun z => y6 (by rw [z.1]; exact g s z.2.1 z.2.2))
/-- a term at node v -/
def rtX (h : AH) (T : Int) (E : EV) (v : Int) (t : TR) (N : Int) : Prop := 0 ≤ v ∧ v + sz t ≤ N ∧ rXc h T (rsE E t 0) v 0 (v + 1)
theorem rtX_f {X : Int → Int → Prop} {h h' : AH} {T v N N' : Int} {E : EV} {t : TR} (hT : Tset T) (r : rtX h T E v t N) (le : N ≤ N') (f : frS X T N h h') (nx : ∀ b s, T + 1 ≤ b → b ≤ T + 5 → ¬ X b s) : rtX h' T E v t N' := by
  obtain ⟨r1, r2, r3⟩ := r
  unfold Tset at hT
  exact ⟨r1, by omega, rXc_g r1 r2 (fun a s a0 a1 s0 s1 => f _ _ (by omega) (by omega) (by omega) (by omega) (by omega) (nx _ _ (by omega) (by omega))) (fun s s0 s1 => f _ _ (by omega) (by omega) (by omega) (by omega) (by omega) (nx _ _ (by omega) (by omega))) r3⟩
theorem trsX_S {X : Int → Int → Prop} {h h' : AH} {T a N N' : Int} {E : EV} {l : List TR} (x : trsX h T E a l N) (le : N ≤ N') (na : a ≠ 441 ∧ a ≠ 445 ∧ ¬ (T ≤ a ∧ a ≤ T + 5)) (hT : Tset T) (f : frS X T N h h') (nx : ∀ b s, (T + 1 ≤ b ∧ b ≤ T + 5 ∨ (b = a ∧ 0 ≤ s ∧ s < 3)) → ¬ X b s) : trsX h' T E a l N' := by
  unfold Tset at hT
  exact trsX_f x le (fun i i0 i1 => f _ _ (by omega) (by omega) (by omega) (by omega) (by omega) (nx _ _ (Or.inr ⟨rfl, i0, i1⟩))) (fun b s a0 a1 s0 s1 => f _ _ (by omega) (by omega) (by omega) (by omega) (by omega) (nx _ _ (Or.inl (by omega)))) (fun s s0 s1 => f _ _ (by omega) (by omega) (by omega) (by omega) (by omega) (nx _ _ (Or.inl (by omega))))
def bkX (z : Int) (h' : AH) : Prop := h' 441 6 = 1 ∧ h' 441 7 = z
def f8X (h' : AH) : Prop := 0 ≤ h' 441 8 ∧ h' 441 8 ≤ 6 ∧ FK h' ≤ 1000000
theorem f8X_c {B : Int → Int} {n A T : Int} {E : EV} {R : Int ⊕ Int} {h : AH} (c : cqX B n A T E R h) : f8X h := ⟨c.1.2.2.2.2.2.1.1, c.1.2.2.2.2.2.1.2, c.1.2.2.2.2.2.2.1⟩
theorem vX13_loop_j407 {h : AH} {B : Int → Int} {n : Int} {R : Int ⊕ Int} (s : Sx B n R h) : OK (gX13_loop_j407 h) (fun h' => (enX (bnd R (pE B n)) h h') ∧ (∀ a s, ¬ (a = 441 ∧ (s = 6 ∨ s = 7)) → h' a s = h a s)) := by
  unfold gX13_loop_j407
  refine OK_if (fun c1 => ?_) (fun c1 => ?_)
  · skip
    try simp (disch := omega) only [jst_eq, jst_ne, jst_ni, jI_i, jcmp_lt, jcmp_gt, w32_id, jcpy_out, Sum.elim_inl, Sum.elim_inr, jt2, jt3, jt4, jt5, jt6, jt7, jt8] at c1
    obtain ⟨q, nb, k⟩ := Sx_nb s c1
    have O := (chX_1 (tok_o B n q)).2.2.2.1
    rw [← nb.2.1.2.1] at O
    refine OK_jb (vX13_isEnd) (fun v56 r1 => ?_)
    try dsimp only [Sum.elim_inl, Sum.elim_inr, jt2, jt3, jt4, jt5, jt6, jt7, jt8] at r1
    have ev1 := r1
    clear r1
    try simp (disch := omega) only [jst_eq, jst_ne, jst_ni, jI_i, jcmp_lt, jcmp_gt, w32_id, jcpy_out, Sum.elim_inl, Sum.elim_inr, jt2, jt3, jt4, jt5, jt6, jt7, jt8] at ev1
    refine OK_if (fun c2 => ?_) (fun c2 => ?_)
    · skip
      try simp (disch := omega) only [jst_eq, jst_ne, jst_ni, jI_i, jcmp_lt, jcmp_gt, w32_id, jcpy_out, Sum.elim_inl, Sum.elim_inr, jt2, jt3, jt4, jt5, jt6, jt7, jt8] at c2
      have g : ¬ tO B n q = 0 := fun z => by { rw [if_pos (O.mp z)] at ev1; omega }
      refine OK_jb (vX13_no (B := B) (n := n) (r := R) (by (first | assumption | omega | ((try dsimp only [jt2, jt3, jt4]); first | omega | (simp (disch := omega) only [jst_eq, jst_ne, jst_ni, jst_o, jI_i, jcpy_out, w32_id, jdiv_nn, jshr_k, jand_255] <;> first | done | omega | assumption)) | (intros; simp (disch := omega) only [jst_eq, jst_ne, jst_ni, jst_o, jI_i, jcpy_out, w32_id, jdiv_nn, *] <;> first | done | omega) | (intros; simp (disch := omega) only [jst_eq, jst_ne, jst_ni, jst_o, jI_i, jcpy_out, w32_id, jdiv_nn] at * <;> first | done | omega | assumption) | (intros; first | rfl | (exfalso; omega) | ((repeat' apply And.intro) <;> first | assumption | rfl | omega | trivial))))) (fun h59 r2 => ?_)
      try dsimp only [Sum.elim_inl, Sum.elim_inr, jt2, jt3, jt4, jt5, jt6, jt7, jt8] at r2
      obtain ⟨nb2, fr2⟩ := r2
      try simp (disch := omega) only [jst_eq, jst_ne, jst_ni, jI_i, jcmp_lt, jcmp_gt, w32_id, jcpy_out, Sum.elim_inl, Sum.elim_inr, jt2, jt3, jt4, jt5, jt6, jt7, jt8] at nb2
      try simp (disch := omega) only [jst_eq, jst_ne, jst_ni, jI_i, jcmp_lt, jcmp_gt, w32_id, jcpy_out, Sum.elim_inl, Sum.elim_inr, jt2, jt3, jt4, jt5, jt6, jt7, jt8] at fr2
      refine OK_some ?_
      try dsimp only [Sum.elim_inl, Sum.elim_inr, jt2, jt3, jt4, jt5, jt6, jt7, jt8]
      try dsimp only [Sum.elim_inl, Sum.elim_inr, jt2, jt3, jt4, jt5, jt6, jt7, jt8]
      refine ⟨?_, ?_⟩
      · (rcases k with k | k; { rw [k.1] at nb2 ⊢; exact nb2 }; { rw [k.1] at nb2 ⊢; show enX (pE B n q) _ _; unfold pE; rw [if_neg g]; exact nb2 }) -- o2 e1.1
      · (first | assumption | omega | ((try dsimp only [jt2, jt3, jt4]); first | omega | (simp (disch := omega) only [jst_eq, jst_ne, jst_ni, jst_o, jI_i, jcpy_out, w32_id, jdiv_nn, jshr_k, jand_255] <;> first | done | omega | assumption)) | (intros; simp (disch := omega) only [jst_eq, jst_ne, jst_ni, jst_o, jI_i, jcpy_out, w32_id, jdiv_nn, *] <;> first | done | omega) | (intros; simp (disch := omega) only [jst_eq, jst_ne, jst_ni, jst_o, jI_i, jcpy_out, w32_id, jdiv_nn] at * <;> first | done | omega | assumption) | (intros; first | rfl | (exfalso; omega) | ((repeat' apply And.intro) <;> first | assumption | rfl | omega | trivial))) -- o3 e1.2
    · skip
      try simp (disch := omega) only [jst_eq, jst_ne, jst_ni, jI_i, jcmp_lt, jcmp_gt, w32_id, jcpy_out, Sum.elim_inl, Sum.elim_inr, jt2, jt3, jt4, jt5, jt6, jt7, jt8] at c2
      have g : tO B n q = 0 := O.mpr (Classical.byContradiction fun z => c2 (by rw [ev1, if_neg z]))
      refine OK_some ?_
      try dsimp only [Sum.elim_inl, Sum.elim_inr, jt2, jt3, jt4, jt5, jt6, jt7, jt8]
      try dsimp only [Sum.elim_inl, Sum.elim_inr, jt2, jt3, jt4, jt5, jt6, jt7, jt8]
      refine ⟨?_, ?_⟩
      · (have k2 := k.resolve_left (fun z => by omega); rw [k2.1]; show enX (pE B n q) _ _; unfold pE; rw [if_pos g]; exact ⟨c1, rfl⟩) -- o4 e2.1
      · (first | assumption | omega | ((try dsimp only [jt2, jt3, jt4]); first | omega | (simp (disch := omega) only [jst_eq, jst_ne, jst_ni, jst_o, jI_i, jcpy_out, w32_id, jdiv_nn, jshr_k, jand_255] <;> first | done | omega | assumption)) | (intros; simp (disch := omega) only [jst_eq, jst_ne, jst_ni, jst_o, jI_i, jcpy_out, w32_id, jdiv_nn, *] <;> first | done | omega) | (intros; simp (disch := omega) only [jst_eq, jst_ne, jst_ni, jst_o, jI_i, jcpy_out, w32_id, jdiv_nn] at * <;> first | done | omega | assumption) | (intros; first | rfl | (exfalso; omega) | ((repeat' apply And.intro) <;> first | assumption | rfl | omega | trivial))) -- o5 e2.2
  · skip
    try simp (disch := omega) only [jst_eq, jst_ne, jst_ni, jI_i, jcmp_lt, jcmp_gt, w32_id, jcpy_out, Sum.elim_inl, Sum.elim_inr, jt2, jt3, jt4, jt5, jt6, jt7, jt8] at c1
    refine OK_some ?_
    try dsimp only [Sum.elim_inl, Sum.elim_inr, jt2, jt3, jt4, jt5, jt6, jt7, jt8]
    try dsimp only [Sum.elim_inl, Sum.elim_inr, jt2, jt3, jt4, jt5, jt6, jt7, jt8]
    refine ⟨?_, ?_⟩
    · (obtain ⟨x, y⟩ := Sx_br s c1; rw [y]; exact ⟨x, rfl⟩) -- o6 e3.1
    · (first | assumption | omega | ((try dsimp only [jt2, jt3, jt4]); first | omega | (simp (disch := omega) only [jst_eq, jst_ne, jst_ni, jst_o, jI_i, jcpy_out, w32_id, jdiv_nn, jshr_k, jand_255] <;> first | done | omega | assumption)) | (intros; simp (disch := omega) only [jst_eq, jst_ne, jst_ni, jst_o, jI_i, jcpy_out, w32_id, jdiv_nn, *] <;> first | done | omega) | (intros; simp (disch := omega) only [jst_eq, jst_ne, jst_ni, jst_o, jI_i, jcpy_out, w32_id, jdiv_nn] at * <;> first | done | omega | assumption) | (intros; first | rfl | (exfalso; omega) | ((repeat' apply And.intro) <;> first | assumption | rfl | omega | trivial))) -- o7 e3.2
/-- the last term of a loop -/
def pGv (B : Int → Int) (n q9 : Int) : Int ⊕ TR := bS (pT B n false 13 q9) fun x10 => bS (pE B n x10.2) fun _ => .inr x10.1
def gvX (T a1 K : Int) (E : EV) (P : Int ⊕ TR) (h' : AH) : Prop := match P with
  | .inl z => bkX z h'
  | .inr g => h' 441 6 = 0 ∧ FK h' = min K (keyE E (-1) g) ∧ rtX h' T E (h' a1 7) g 2100
theorem gv_1 {B : Int → Int} {n A T a1 K v : Int} {E : EV} {R9 : Int ⊕ Int} {h48 h52 g53 h' : AH} (F : ∀ a s, ¬ (a = a1 ∧ s = 7) → g53 a s = h52 a s) (V : g53 a1 7 = v) (la : isLo a1) (eT : T = a1 + 5) (d1 : cqX B n A T E (sR (bdT R9 (pT B n false 13))) h52) (d3 : tdG B n T E (-1) R9 h48 v h52 (bdT R9 (pT B n false 13))) (k48 : FK h48 = K) (en : enX (bnd (sR (bdT R9 (pT B n false 13))) (pE B n)) g53 h') (fr : ∀ a s, ¬ (a = 441 ∧ (s = 6 ∨ s = 7)) → h' a s = g53 a s) : gvX T a1 K E (bS R9 (pGv B n)) h' := by
  have la : a1 = 378 ∨ a1 = 391 := la
  cases R9 with
  | inl z => exact en
  | inr q9 =>
    show gvX T a1 K E (pGv B n q9) h'
    unfold pGv
    have eb : bdT (.inr q9) (pT B n false 13) = pT B n false 13 q9 := rfl
    rw [eb] at d1 d3 en
    cases e : pT B n false 13 q9 with
    | inl z => rw [e] at en; exact en
    | inr x =>
      obtain ⟨g, q⟩ := x
      rw [e] at en d3
      show gvX T a1 K E (bS (pE B n q) fun _ => .inr g) h'
      have en2 : enX (pE B n q) g53 h' := en
      cases e2 : pE B n q with
      | inl z => rw [e2] at en2; exact en2
      | inr q2 =>
        rw [e2] at en2
        obtain ⟨n1, n2⟩ := en2
        subst n2
        obtain ⟨⟨g1, g2, g3, g4⟩, g5, g6, ⟨g7, g8⟩, _⟩ := d3
        refine ⟨n1, by rw [FK_fr (F _ _ (by omega)) (F _ _ (by omega)), g6, k48], ?_⟩
        rw [V]
        exact ⟨g2, g4, rXc_g g2 (Int.le_refl _) (fun a s a0 a1 s0 s1 => F _ _ (by omega)) (fun s s0 s1 => F _ _ (by omega)) g5⟩
theorem vX13_loop_j384 (a1 : Int) {h : AH} {B : Int → Int} {n A T K : Int} {E : EV} {R : Int ⊕ Int} (hB : ∀ i, 0 ≤ i → i < n → 0 ≤ B i ∧ B i < 256) (lo : isLo a1 ∧ T = a1 + 5) (c : cqX B n A T E R h) (z : ∀ q, R = .inr q → h 441 16 = 0 ∧ FK h = K) : OK (gX13_loop_j384 a1 h) (fun h' => (gvX T a1 K E (bS (bnd R (pN B n 144941)) (pGv B n)) h') ∧ (f8X h') ∧ (frS (fun b s => b = a1 ∧ s = 7) T (h T 0) h h')) := by
  have LA : a1 = 378 ∨ a1 = 391 := lo.1
  have TS : Tset T := c.1.2.2.2.1.2.2
  have t0 := c.2.2.2.choose_spec.2.2.1
  unfold gX13_loop_j384
  refine OK_jb (vX13_wordB (B := B) (n := n) (A := A) (w := 144941) (r := R) _ (by exact c.1.1) (by (first | assumption | omega | ((try dsimp only [jt2, jt3, jt4]); first | omega | (simp (disch := omega) only [jst_eq, jst_ne, jst_ni, jst_o, jI_i, jcpy_out, w32_id, jdiv_nn, jshr_k, jand_255] <;> first | done | omega | assumption)) | (intros; simp (disch := omega) only [jst_eq, jst_ne, jst_ni, jst_o, jI_i, jcpy_out, w32_id, jdiv_nn, *] <;> first | done | omega) | (intros; simp (disch := omega) only [jst_eq, jst_ne, jst_ni, jst_o, jI_i, jcpy_out, w32_id, jdiv_nn] at * <;> first | done | omega | assumption) | (intros; first | rfl | (exfalso; omega) | ((repeat' apply And.intro) <;> first | assumption | rfl | omega | trivial)))) (by exact c.2.2.1) (by exact nm_give c.1.2.2.1)) (fun h48 r1 => ?_)
  try dsimp only [Sum.elim_inl, Sum.elim_inr, jt2, jt3, jt4, jt5, jt6, jt7, jt8] at r1
  obtain ⟨sx1, fr1, bk1, br1⟩ := r1
  try simp (disch := omega) only [jst_eq, jst_ne, jst_ni, jI_i, jcmp_lt, jcmp_gt, w32_id, jcpy_out, Sum.elim_inl, Sum.elim_inr, jt2, jt3, jt4, jt5, jt6, jt7, jt8] at sx1
  try simp (disch := omega) only [jst_eq, jst_ne, jst_ni, jI_i, jcmp_lt, jcmp_gt, w32_id, jcpy_out, Sum.elim_inl, Sum.elim_inr, jt2, jt3, jt4, jt5, jt6, jt7, jt8] at fr1
  try simp (disch := omega) only [jst_eq, jst_ne, jst_ni, jI_i, jcmp_lt, jcmp_gt, w32_id, jcpy_out, Sum.elim_inl, Sum.elim_inr, jt2, jt3, jt4, jt5, jt6, jt7, jt8] at bk1
  try simp (disch := omega) only [jst_eq, jst_ne, jst_ni, jI_i, jcmp_lt, jcmp_gt, w32_id, jcpy_out, Sum.elim_inl, Sum.elim_inr, jt2, jt3, jt4, jt5, jt6, jt7, jt8] at br1
  have C48 := cqX_n hB c fr1 sx1
  have Z48 : h48 441 6 = 0 → h48 441 16 = 0 ∧ FK h48 = K := fun b => by { obtain ⟨q, e⟩ : ∃ q, R = .inr q := (by cases eRR : R with | inl y => (have := br1 ⟨y, eRR⟩; omega) | inr q => first | exact ⟨q, rfl⟩ | exact ⟨q, eRR⟩); have zz := z q e; rw [fr1 _ _ (by omega), FK_fr (fr1 _ _ (by omega)) (fr1 _ _ (by omega))]; exact zz }
  refine OK_if (fun c1 => ?_) (fun c1 => ?_)
  · skip
    try simp (disch := omega) only [jst_eq, jst_ne, jst_ni, jI_i, jcmp_lt, jcmp_gt, w32_id, jcpy_out, Sum.elim_inl, Sum.elim_inr, jt2, jt3, jt4, jt5, jt6, jt7, jt8] at c1
    have Z1 := Z48 c1
    refine OK_jb2 (vX13_toldC (B := B) (n := n) (A := A) (T := T) (E := E) (R := bnd R (pN B n 144941)) _ (by (first | assumption | omega | ((try dsimp only [jt2, jt3, jt4]); first | omega | (simp (disch := omega) only [jst_eq, jst_ne, jst_ni, jst_o, jI_i, jcpy_out, w32_id, jdiv_nn, jshr_k, jand_255] <;> first | done | omega | assumption)) | (intros; simp (disch := omega) only [jst_eq, jst_ne, jst_ni, jst_o, jI_i, jcpy_out, w32_id, jdiv_nn, *] <;> first | done | omega) | (intros; simp (disch := omega) only [jst_eq, jst_ne, jst_ni, jst_o, jI_i, jcpy_out, w32_id, jdiv_nn] at * <;> first | done | omega | assumption) | (intros; first | rfl | (exfalso; omega) | ((repeat' apply And.intro) <;> first | assumption | rfl | omega | trivial)))) (by exact C48) (by (first | assumption | omega | ((try dsimp only [jt2, jt3, jt4]); first | omega | (simp (disch := omega) only [jst_eq, jst_ne, jst_ni, jst_o, jI_i, jcpy_out, w32_id, jdiv_nn, jshr_k, jand_255] <;> first | done | omega | assumption)) | (intros; simp (disch := omega) only [jst_eq, jst_ne, jst_ni, jst_o, jI_i, jcpy_out, w32_id, jdiv_nn, *] <;> first | done | omega) | (intros; simp (disch := omega) only [jst_eq, jst_ne, jst_ni, jst_o, jI_i, jcpy_out, w32_id, jdiv_nn] at * <;> first | done | omega | assumption) | (intros; first | rfl | (exfalso; omega) | ((repeat' apply And.intro) <;> first | assumption | rfl | omega | trivial))))) (fun v51 h52 r2 => ?_)
    try dsimp only [Sum.elim_inl, Sum.elim_inr, jt2, jt3, jt4, jt5, jt6, jt7, jt8] at r2
    obtain ⟨fr2, td2⟩ := r2
    try simp (disch := omega) only [jst_eq, jst_ne, jst_ni, jI_i, jcmp_lt, jcmp_gt, w32_id, jcpy_out, Sum.elim_inl, Sum.elim_inr, jt2, jt3, jt4, jt5, jt6, jt7, jt8] at fr2
    try simp (disch := omega) only [jst_eq, jst_ne, jst_ni, jI_i, jcmp_lt, jcmp_gt, w32_id, jcpy_out, Sum.elim_inl, Sum.elim_inr, jt2, jt3, jt4, jt5, jt6, jt7, jt8] at td2
    obtain ⟨d1, d2, d3⟩ := td2
    refine OK_jl ?_
    have F53 : ∀ a s, ¬ (a = a1 ∧ s = 7) → jst h52 a1 7 v51 a s = h52 a s := fun a s y => jst_o y
    have V53 : jst h52 a1 7 v51 a1 7 = v51 := jst_eq
    generalize jst h52 a1 7 v51 = g53 at *
    have S53 : Sx B n (sR (bdT (bnd R (pN B n 144941)) (pT B n false 13))) g53 := Sx_fr d1.2.2.1 (fun s s0 s1 => F53 _ _ (by omega))
    refine OK_mono (vX13_loop_j407 (B := B) (n := n) (by exact S53)) (fun r r3 => ?_)
    try dsimp only [Sum.elim_inl, Sum.elim_inr, jt2, jt3, jt4, jt5, jt6, jt7, jt8] at r3
    obtain ⟨en3, fr3⟩ := r3
    try simp (disch := omega) only [jst_eq, jst_ne, jst_ni, jI_i, jcmp_lt, jcmp_gt, w32_id, jcpy_out, Sum.elim_inl, Sum.elim_inr, jt2, jt3, jt4, jt5, jt6, jt7, jt8] at en3
    try simp (disch := omega) only [jst_eq, jst_ne, jst_ni, jI_i, jcmp_lt, jcmp_gt, w32_id, jcpy_out, Sum.elim_inl, Sum.elim_inr, jt2, jt3, jt4, jt5, jt6, jt7, jt8] at fr3
    try dsimp only [Sum.elim_inl, Sum.elim_inr, jt2, jt3, jt4, jt5, jt6, jt7, jt8]
    try dsimp only [Sum.elim_inl, Sum.elim_inr, jt2, jt3, jt4, jt5, jt6, jt7, jt8]
    refine ⟨?_, ?_, ?_⟩
    · exact gv_1 F53 V53 lo.1 lo.2 d1 d3 Z1.2 en3 fr3 -- o9 e1.1
    · (have f := f8X_c d1; unfold f8X at f ⊢; rw [fr3 _ _ (by omega), FK_fr (fr3 _ _ (by omega)) (fr3 _ _ (by omega)), F53 _ _ (by omega), FK_fr (F53 _ _ (by omega)) (F53 _ _ (by omega))]; exact f) -- o10 e1.2
    · exact fun b s y1 y2 y3 y4 y5 y6 => (by have E48 : h48 T 0 = h T 0 := fr1 T 0 (by omega); rw [fr3 b s (by omega), F53 b s y6, fr2 b s (by omega) (by omega) (by omega) (by omega) (by omega)]; exact fr1 b s (by omega)) -- o11 e1.3
  · skip
    try simp (disch := omega) only [jst_eq, jst_ne, jst_ni, jI_i, jcmp_lt, jcmp_gt, w32_id, jcpy_out, Sum.elim_inl, Sum.elim_inr, jt2, jt3, jt4, jt5, jt6, jt7, jt8] at c1
    refine OK_mono (vX13_loop_j407 (B := B) (n := n) (by exact sx1)) (fun r r4 => ?_)
    try dsimp only [Sum.elim_inl, Sum.elim_inr, jt2, jt3, jt4, jt5, jt6, jt7, jt8] at r4
    obtain ⟨en4, fr4⟩ := r4
    try simp (disch := omega) only [jst_eq, jst_ne, jst_ni, jI_i, jcmp_lt, jcmp_gt, w32_id, jcpy_out, Sum.elim_inl, Sum.elim_inr, jt2, jt3, jt4, jt5, jt6, jt7, jt8] at en4
    try simp (disch := omega) only [jst_eq, jst_ne, jst_ni, jI_i, jcmp_lt, jcmp_gt, w32_id, jcpy_out, Sum.elim_inl, Sum.elim_inr, jt2, jt3, jt4, jt5, jt6, jt7, jt8] at fr4
    try dsimp only [Sum.elim_inl, Sum.elim_inr, jt2, jt3, jt4, jt5, jt6, jt7, jt8]
    try dsimp only [Sum.elim_inl, Sum.elim_inr, jt2, jt3, jt4, jt5, jt6, jt7, jt8]
    refine ⟨?_, ?_, ?_⟩
    · (obtain ⟨x, y⟩ := Sx_br sx1 c1; rw [y] at en4 ⊢; exact en4) -- o13 e2.1
    · (have f := f8X_c C48; unfold f8X at f ⊢; rw [fr4 _ _ (by omega), FK_fr (fr4 _ _ (by omega)) (fr4 _ _ (by omega))]; exact f) -- o14 e2.2
    · exact fun b s y1 y2 y3 y4 y5 y6 => (by rw [fr4 b s (by omega)]; exact fr1 b s (by omega)) -- o15 e2.3
theorem vX13_loop_j364 (a1 : Int) (a3 : Int) (a4 : Int) (a5 : Int) {h : AH} {B : Int → Int} {n A T K : Int} {E : EV} {R : Int ⊕ Int} (hB : ∀ i, 0 ≤ i → i < n → 0 ≤ B i ∧ B i < 256) (lo : isLo a1 ∧ T = a1 + 5) (c : cqX B n A T E R h) (z : ∀ q, R = .inr q → h 441 16 = 0 ∧ FK h = K) (pl : h 441 6 = 0 → 0 ≤ a4 ∧ a4 ≤ 2001) : OK (gX13_loop_j364 a1 a3 a4 a5 h) (fun h' => (gvX T a1 (min K (if a5 = a3 then 1000000 else a4 * 8 + 4)) E (bS (bnd R (pN B n 144941)) (pGv B n)) h') ∧ (f8X h') ∧ (frS (fun b s => b = a1 ∧ s = 7) T (h T 0) h h')) := by
  have LA : a1 = 378 ∨ a1 = 391 := lo.1
  have TS : Tset T := c.1.2.2.2.1.2.2
  have f8 := f8X_c c
  unfold gX13_loop_j364
  refine OK_if (fun c1 => ?_) (fun c1 => ?_)
  · skip
    try simp (disch := omega) only [jst_eq, jst_ne, jst_ni, jI_i, jcmp_lt, jcmp_gt, w32_id, jcpy_out, Sum.elim_inl, Sum.elim_inr, jt2, jt3, jt4, jt5, jt6, jt7, jt8] at c1
    have P1 := pl c1
    refine OK_if (fun c2 => ?_) (fun c2 => ?_)
    · skip
      try simp (disch := omega) only [jst_eq, jst_ne, jst_ni, jI_i, jcmp_lt, jcmp_gt, w32_id, jcpy_out, Sum.elim_inl, Sum.elim_inr, jt2, jt3, jt4, jt5, jt6, jt7, jt8] at c2
      refine OK_mono (vX13_loop_j384 (B := B) (n := n) (A := A) (T := T) (K := min K (if a5 = a3 then 1000000 else a4 * 8 + 4)) (E := E) (R := R) _ (by (first | assumption | omega | ((try dsimp only [jt2, jt3, jt4]); first | omega | (simp (disch := omega) only [jst_eq, jst_ne, jst_ni, jst_o, jI_i, jcpy_out, w32_id, jdiv_nn, jshr_k, jand_255] <;> first | done | omega | assumption)) | (intros; simp (disch := omega) only [jst_eq, jst_ne, jst_ni, jst_o, jI_i, jcpy_out, w32_id, jdiv_nn, *] <;> first | done | omega) | (intros; simp (disch := omega) only [jst_eq, jst_ne, jst_ni, jst_o, jI_i, jcpy_out, w32_id, jdiv_nn] at * <;> first | done | omega | assumption) | (intros; first | rfl | (exfalso; omega) | ((repeat' apply And.intro) <;> first | assumption | rfl | omega | trivial)))) (by (first | assumption | omega | ((try dsimp only [jt2, jt3, jt4]); first | omega | (simp (disch := omega) only [jst_eq, jst_ne, jst_ni, jst_o, jI_i, jcpy_out, w32_id, jdiv_nn, jshr_k, jand_255] <;> first | done | omega | assumption)) | (intros; simp (disch := omega) only [jst_eq, jst_ne, jst_ni, jst_o, jI_i, jcpy_out, w32_id, jdiv_nn, *] <;> first | done | omega) | (intros; simp (disch := omega) only [jst_eq, jst_ne, jst_ni, jst_o, jI_i, jcpy_out, w32_id, jdiv_nn] at * <;> first | done | omega | assumption) | (intros; first | rfl | (exfalso; omega) | ((repeat' apply And.intro) <;> first | assumption | rfl | omega | trivial)))) (by (first | assumption | omega | ((try dsimp only [jt2, jt3, jt4]); first | omega | (simp (disch := omega) only [jst_eq, jst_ne, jst_ni, jst_o, jI_i, jcpy_out, w32_id, jdiv_nn, jshr_k, jand_255] <;> first | done | omega | assumption)) | (intros; simp (disch := omega) only [jst_eq, jst_ne, jst_ni, jst_o, jI_i, jcpy_out, w32_id, jdiv_nn, *] <;> first | done | omega) | (intros; simp (disch := omega) only [jst_eq, jst_ne, jst_ni, jst_o, jI_i, jcpy_out, w32_id, jdiv_nn] at * <;> first | done | omega | assumption) | (intros; first | rfl | (exfalso; omega) | ((repeat' apply And.intro) <;> first | assumption | rfl | omega | trivial)))) (by (intro q e; rw [if_pos c2]; have := f8.2.2; have Z1 := z q e; exact ⟨Z1.1, by omega⟩))) (fun r r1 => ?_)
      try dsimp only [Sum.elim_inl, Sum.elim_inr, jt2, jt3, jt4, jt5, jt6, jt7, jt8] at r1
      obtain ⟨gv1, f81, fr1⟩ := r1
      try simp (disch := omega) only [jst_eq, jst_ne, jst_ni, jI_i, jcmp_lt, jcmp_gt, w32_id, jcpy_out, Sum.elim_inl, Sum.elim_inr, jt2, jt3, jt4, jt5, jt6, jt7, jt8] at gv1
      try simp (disch := omega) only [jst_eq, jst_ne, jst_ni, jI_i, jcmp_lt, jcmp_gt, w32_id, jcpy_out, Sum.elim_inl, Sum.elim_inr, jt2, jt3, jt4, jt5, jt6, jt7, jt8] at f81
      try simp (disch := omega) only [jst_eq, jst_ne, jst_ni, jI_i, jcmp_lt, jcmp_gt, w32_id, jcpy_out, Sum.elim_inl, Sum.elim_inr, jt2, jt3, jt4, jt5, jt6, jt7, jt8] at fr1
      try dsimp only [Sum.elim_inl, Sum.elim_inr, jt2, jt3, jt4, jt5, jt6, jt7, jt8]
      try dsimp only [Sum.elim_inl, Sum.elim_inr, jt2, jt3, jt4, jt5, jt6, jt7, jt8]
      refine ⟨?_, ?_, ?_⟩
      · (first | assumption | omega | ((try dsimp only [jt2, jt3, jt4]); first | omega | (simp (disch := omega) only [jst_eq, jst_ne, jst_ni, jst_o, jI_i, jcpy_out, w32_id, jdiv_nn, jshr_k, jand_255] <;> first | done | omega | assumption)) | (intros; simp (disch := omega) only [jst_eq, jst_ne, jst_ni, jst_o, jI_i, jcpy_out, w32_id, jdiv_nn, *] <;> first | done | omega) | (intros; simp (disch := omega) only [jst_eq, jst_ne, jst_ni, jst_o, jI_i, jcpy_out, w32_id, jdiv_nn] at * <;> first | done | omega | assumption) | (intros; first | rfl | (exfalso; omega) | ((repeat' apply And.intro) <;> first | assumption | rfl | omega | trivial))) -- o5 e1.1
      · (first | assumption | omega | ((try dsimp only [jt2, jt3, jt4]); first | omega | (simp (disch := omega) only [jst_eq, jst_ne, jst_ni, jst_o, jI_i, jcpy_out, w32_id, jdiv_nn, jshr_k, jand_255] <;> first | done | omega | assumption)) | (intros; simp (disch := omega) only [jst_eq, jst_ne, jst_ni, jst_o, jI_i, jcpy_out, w32_id, jdiv_nn, *] <;> first | done | omega) | (intros; simp (disch := omega) only [jst_eq, jst_ne, jst_ni, jst_o, jI_i, jcpy_out, w32_id, jdiv_nn] at * <;> first | done | omega | assumption) | (intros; first | rfl | (exfalso; omega) | ((repeat' apply And.intro) <;> first | assumption | rfl | omega | trivial))) -- o6 e1.2
      · (first | assumption | omega | ((try dsimp only [jt2, jt3, jt4]); first | omega | (simp (disch := omega) only [jst_eq, jst_ne, jst_ni, jst_o, jI_i, jcpy_out, w32_id, jdiv_nn, jshr_k, jand_255] <;> first | done | omega | assumption)) | (intros; simp (disch := omega) only [jst_eq, jst_ne, jst_ni, jst_o, jI_i, jcpy_out, w32_id, jdiv_nn, *] <;> first | done | omega) | (intros; simp (disch := omega) only [jst_eq, jst_ne, jst_ni, jst_o, jI_i, jcpy_out, w32_id, jdiv_nn] at * <;> first | done | omega | assumption) | (intros; first | rfl | (exfalso; omega) | ((repeat' apply And.intro) <;> first | assumption | rfl | omega | trivial))) -- o7 e1.3
    · skip
      try simp (disch := omega) only [jst_eq, jst_ne, jst_ni, jI_i, jcmp_lt, jcmp_gt, w32_id, jcpy_out, Sum.elim_inl, Sum.elim_inr, jt2, jt3, jt4, jt5, jt6, jt7, jt8] at c2
      refine OK_jb (vX13_err _ _ (by exact ⟨f8.1, f8.2.1⟩) (by (first | assumption | omega | ((try dsimp only [jt2, jt3, jt4]); first | omega | (simp (disch := omega) only [jst_eq, jst_ne, jst_ni, jst_o, jI_i, jcpy_out, w32_id, jdiv_nn, jshr_k, jand_255] <;> first | done | omega | assumption)) | (intros; simp (disch := omega) only [jst_eq, jst_ne, jst_ni, jst_o, jI_i, jcpy_out, w32_id, jdiv_nn, *] <;> first | done | omega) | (intros; simp (disch := omega) only [jst_eq, jst_ne, jst_ni, jst_o, jI_i, jcpy_out, w32_id, jdiv_nn] at * <;> first | done | omega | assumption) | (intros; first | rfl | (exfalso; omega) | ((repeat' apply And.intro) <;> first | assumption | rfl | omega | trivial))))) (fun h46 r2 => ?_)
      try dsimp only [Sum.elim_inl, Sum.elim_inr, jt2, jt3, jt4, jt5, jt6, jt7, jt8] at r2
      obtain ⟨f2, k2, fr2⟩ := r2
      try simp (disch := omega) only [jst_eq, jst_ne, jst_ni, jI_i, jcmp_lt, jcmp_gt, w32_id, jcpy_out, Sum.elim_inl, Sum.elim_inr, jt2, jt3, jt4, jt5, jt6, jt7, jt8] at f2
      try simp (disch := omega) only [jst_eq, jst_ne, jst_ni, jI_i, jcmp_lt, jcmp_gt, w32_id, jcpy_out, Sum.elim_inl, Sum.elim_inr, jt2, jt3, jt4, jt5, jt6, jt7, jt8] at k2
      try simp (disch := omega) only [jst_eq, jst_ne, jst_ni, jI_i, jcmp_lt, jcmp_gt, w32_id, jcpy_out, Sum.elim_inl, Sum.elim_inr, jt2, jt3, jt4, jt5, jt6, jt7, jt8] at fr2
      have C46 : cqX B n A T E R h46 := cqX_e c TS fr2 f2 (by have := f8.2.2; omega)
      refine OK_mono (vX13_loop_j384 (B := B) (n := n) (A := A) (T := T) (K := min K (if a5 = a3 then 1000000 else a4 * 8 + 4)) (E := E) (R := R) _ (by (first | assumption | omega | ((try dsimp only [jt2, jt3, jt4]); first | omega | (simp (disch := omega) only [jst_eq, jst_ne, jst_ni, jst_o, jI_i, jcpy_out, w32_id, jdiv_nn, jshr_k, jand_255] <;> first | done | omega | assumption)) | (intros; simp (disch := omega) only [jst_eq, jst_ne, jst_ni, jst_o, jI_i, jcpy_out, w32_id, jdiv_nn, *] <;> first | done | omega) | (intros; simp (disch := omega) only [jst_eq, jst_ne, jst_ni, jst_o, jI_i, jcpy_out, w32_id, jdiv_nn] at * <;> first | done | omega | assumption) | (intros; first | rfl | (exfalso; omega) | ((repeat' apply And.intro) <;> first | assumption | rfl | omega | trivial)))) (by (first | assumption | omega | ((try dsimp only [jt2, jt3, jt4]); first | omega | (simp (disch := omega) only [jst_eq, jst_ne, jst_ni, jst_o, jI_i, jcpy_out, w32_id, jdiv_nn, jshr_k, jand_255] <;> first | done | omega | assumption)) | (intros; simp (disch := omega) only [jst_eq, jst_ne, jst_ni, jst_o, jI_i, jcpy_out, w32_id, jdiv_nn, *] <;> first | done | omega) | (intros; simp (disch := omega) only [jst_eq, jst_ne, jst_ni, jst_o, jI_i, jcpy_out, w32_id, jdiv_nn] at * <;> first | done | omega | assumption) | (intros; first | rfl | (exfalso; omega) | ((repeat' apply And.intro) <;> first | assumption | rfl | omega | trivial)))) (by exact C46) (by (intro q e; have Z1 := z q e; rw [if_neg c2, fr2 _ _ (by omega), k2]; exact ⟨Z1.1, by omega⟩))) (fun r r3 => ?_)
      try dsimp only [Sum.elim_inl, Sum.elim_inr, jt2, jt3, jt4, jt5, jt6, jt7, jt8] at r3
      obtain ⟨gv3, f83, fr3⟩ := r3
      try simp (disch := omega) only [jst_eq, jst_ne, jst_ni, jI_i, jcmp_lt, jcmp_gt, w32_id, jcpy_out, Sum.elim_inl, Sum.elim_inr, jt2, jt3, jt4, jt5, jt6, jt7, jt8] at gv3
      try simp (disch := omega) only [jst_eq, jst_ne, jst_ni, jI_i, jcmp_lt, jcmp_gt, w32_id, jcpy_out, Sum.elim_inl, Sum.elim_inr, jt2, jt3, jt4, jt5, jt6, jt7, jt8] at f83
      try simp (disch := omega) only [jst_eq, jst_ne, jst_ni, jI_i, jcmp_lt, jcmp_gt, w32_id, jcpy_out, Sum.elim_inl, Sum.elim_inr, jt2, jt3, jt4, jt5, jt6, jt7, jt8] at fr3
      try dsimp only [Sum.elim_inl, Sum.elim_inr, jt2, jt3, jt4, jt5, jt6, jt7, jt8]
      try dsimp only [Sum.elim_inl, Sum.elim_inr, jt2, jt3, jt4, jt5, jt6, jt7, jt8]
      refine ⟨?_, ?_, ?_⟩
      · (first | assumption | omega | ((try dsimp only [jt2, jt3, jt4]); first | omega | (simp (disch := omega) only [jst_eq, jst_ne, jst_ni, jst_o, jI_i, jcpy_out, w32_id, jdiv_nn, jshr_k, jand_255] <;> first | done | omega | assumption)) | (intros; simp (disch := omega) only [jst_eq, jst_ne, jst_ni, jst_o, jI_i, jcpy_out, w32_id, jdiv_nn, *] <;> first | done | omega) | (intros; simp (disch := omega) only [jst_eq, jst_ne, jst_ni, jst_o, jI_i, jcpy_out, w32_id, jdiv_nn] at * <;> first | done | omega | assumption) | (intros; first | rfl | (exfalso; omega) | ((repeat' apply And.intro) <;> first | assumption | rfl | omega | trivial))) -- o14 e2.1
      · (first | assumption | omega | ((try dsimp only [jt2, jt3, jt4]); first | omega | (simp (disch := omega) only [jst_eq, jst_ne, jst_ni, jst_o, jI_i, jcpy_out, w32_id, jdiv_nn, jshr_k, jand_255] <;> first | done | omega | assumption)) | (intros; simp (disch := omega) only [jst_eq, jst_ne, jst_ni, jst_o, jI_i, jcpy_out, w32_id, jdiv_nn, *] <;> first | done | omega) | (intros; simp (disch := omega) only [jst_eq, jst_ne, jst_ni, jst_o, jI_i, jcpy_out, w32_id, jdiv_nn] at * <;> first | done | omega | assumption) | (intros; first | rfl | (exfalso; omega) | ((repeat' apply And.intro) <;> first | assumption | rfl | omega | trivial))) -- o15 e2.2
      · exact frS_t (N' := h46 T 0) (by rw [fr2 T 0 (by omega)]; exact Int.le_refl _) (frS_o (fun b s y1 y2 => fr2 b s (by omega))) fr3 -- o16 e2.3
  · skip
    try simp (disch := omega) only [jst_eq, jst_ne, jst_ni, jI_i, jcmp_lt, jcmp_gt, w32_id, jcpy_out, Sum.elim_inl, Sum.elim_inr, jt2, jt3, jt4, jt5, jt6, jt7, jt8] at c1
    refine OK_mono (vX13_loop_j384 (B := B) (n := n) (A := A) (T := T) (K := min K (if a5 = a3 then 1000000 else a4 * 8 + 4)) (E := E) (R := R) _ (by (first | assumption | omega | ((try dsimp only [jt2, jt3, jt4]); first | omega | (simp (disch := omega) only [jst_eq, jst_ne, jst_ni, jst_o, jI_i, jcpy_out, w32_id, jdiv_nn, jshr_k, jand_255] <;> first | done | omega | assumption)) | (intros; simp (disch := omega) only [jst_eq, jst_ne, jst_ni, jst_o, jI_i, jcpy_out, w32_id, jdiv_nn, *] <;> first | done | omega) | (intros; simp (disch := omega) only [jst_eq, jst_ne, jst_ni, jst_o, jI_i, jcpy_out, w32_id, jdiv_nn] at * <;> first | done | omega | assumption) | (intros; first | rfl | (exfalso; omega) | ((repeat' apply And.intro) <;> first | assumption | rfl | omega | trivial)))) (by (first | assumption | omega | ((try dsimp only [jt2, jt3, jt4]); first | omega | (simp (disch := omega) only [jst_eq, jst_ne, jst_ni, jst_o, jI_i, jcpy_out, w32_id, jdiv_nn, jshr_k, jand_255] <;> first | done | omega | assumption)) | (intros; simp (disch := omega) only [jst_eq, jst_ne, jst_ni, jst_o, jI_i, jcpy_out, w32_id, jdiv_nn, *] <;> first | done | omega) | (intros; simp (disch := omega) only [jst_eq, jst_ne, jst_ni, jst_o, jI_i, jcpy_out, w32_id, jdiv_nn] at * <;> first | done | omega | assumption) | (intros; first | rfl | (exfalso; omega) | ((repeat' apply And.intro) <;> first | assumption | rfl | omega | trivial)))) (by (first | assumption | omega | ((try dsimp only [jt2, jt3, jt4]); first | omega | (simp (disch := omega) only [jst_eq, jst_ne, jst_ni, jst_o, jI_i, jcpy_out, w32_id, jdiv_nn, jshr_k, jand_255] <;> first | done | omega | assumption)) | (intros; simp (disch := omega) only [jst_eq, jst_ne, jst_ni, jst_o, jI_i, jcpy_out, w32_id, jdiv_nn, *] <;> first | done | omega) | (intros; simp (disch := omega) only [jst_eq, jst_ne, jst_ni, jst_o, jI_i, jcpy_out, w32_id, jdiv_nn] at * <;> first | done | omega | assumption) | (intros; first | rfl | (exfalso; omega) | ((repeat' apply And.intro) <;> first | assumption | rfl | omega | trivial)))) (by (intro q e; have s := c.2.2.1; rw [e] at s; exact absurd (Sx_inr s).1.1 c1))) (fun r r4 => ?_)
    try dsimp only [Sum.elim_inl, Sum.elim_inr, jt2, jt3, jt4, jt5, jt6, jt7, jt8] at r4
    obtain ⟨gv4, f84, fr4⟩ := r4
    try simp (disch := omega) only [jst_eq, jst_ne, jst_ni, jI_i, jcmp_lt, jcmp_gt, w32_id, jcpy_out, Sum.elim_inl, Sum.elim_inr, jt2, jt3, jt4, jt5, jt6, jt7, jt8] at gv4
    try simp (disch := omega) only [jst_eq, jst_ne, jst_ni, jI_i, jcmp_lt, jcmp_gt, w32_id, jcpy_out, Sum.elim_inl, Sum.elim_inr, jt2, jt3, jt4, jt5, jt6, jt7, jt8] at f84
    try simp (disch := omega) only [jst_eq, jst_ne, jst_ni, jI_i, jcmp_lt, jcmp_gt, w32_id, jcpy_out, Sum.elim_inl, Sum.elim_inr, jt2, jt3, jt4, jt5, jt6, jt7, jt8] at fr4
    try dsimp only [Sum.elim_inl, Sum.elim_inr, jt2, jt3, jt4, jt5, jt6, jt7, jt8]
    try dsimp only [Sum.elim_inl, Sum.elim_inr, jt2, jt3, jt4, jt5, jt6, jt7, jt8]
    refine ⟨?_, ?_, ?_⟩
    · (first | assumption | omega | ((try dsimp only [jt2, jt3, jt4]); first | omega | (simp (disch := omega) only [jst_eq, jst_ne, jst_ni, jst_o, jI_i, jcpy_out, w32_id, jdiv_nn, jshr_k, jand_255] <;> first | done | omega | assumption)) | (intros; simp (disch := omega) only [jst_eq, jst_ne, jst_ni, jst_o, jI_i, jcpy_out, w32_id, jdiv_nn, *] <;> first | done | omega) | (intros; simp (disch := omega) only [jst_eq, jst_ne, jst_ni, jst_o, jI_i, jcpy_out, w32_id, jdiv_nn] at * <;> first | done | omega | assumption) | (intros; first | rfl | (exfalso; omega) | ((repeat' apply And.intro) <;> first | assumption | rfl | omega | trivial))) -- o21 e3.1
    · (first | assumption | omega | ((try dsimp only [jt2, jt3, jt4]); first | omega | (simp (disch := omega) only [jst_eq, jst_ne, jst_ni, jst_o, jI_i, jcpy_out, w32_id, jdiv_nn, jshr_k, jand_255] <;> first | done | omega | assumption)) | (intros; simp (disch := omega) only [jst_eq, jst_ne, jst_ni, jst_o, jI_i, jcpy_out, w32_id, jdiv_nn, *] <;> first | done | omega) | (intros; simp (disch := omega) only [jst_eq, jst_ne, jst_ni, jst_o, jI_i, jcpy_out, w32_id, jdiv_nn] at * <;> first | done | omega | assumption) | (intros; first | rfl | (exfalso; omega) | ((repeat' apply And.intro) <;> first | assumption | rfl | omega | trivial))) -- o22 e3.2
    · (first | assumption | omega | ((try dsimp only [jt2, jt3, jt4]); first | omega | (simp (disch := omega) only [jst_eq, jst_ne, jst_ni, jst_o, jI_i, jcpy_out, w32_id, jdiv_nn, jshr_k, jand_255] <;> first | done | omega | assumption)) | (intros; simp (disch := omega) only [jst_eq, jst_ne, jst_ni, jst_o, jI_i, jcpy_out, w32_id, jdiv_nn, *] <;> first | done | omega) | (intros; simp (disch := omega) only [jst_eq, jst_ne, jst_ni, jst_o, jI_i, jcpy_out, w32_id, jdiv_nn] at * <;> first | done | omega | assumption) | (intros; first | rfl | (exfalso; omega) | ((repeat' apply And.intro) <;> first | assumption | rfl | omega | trivial))) -- o23 e3.3
def sRt (W : Int ⊕ (List TR × Int)) : Int ⊕ Int := match W with | .inl z => .inl z | .inr x => .inr x.2
def pDo (B : Int → Int) (n : Int) (ks : List Int) (ts : List TR) (c : TR) (q6 : Int) : Int ⊕ LPt := bS (pN B n 123 q6) fun q7 => pLo6 B n ks ts c (tS B n q6) q7
theorem pLo6_w {B : Int → Int} {n dp q7 : Int} {ks : List Int} {ts : List TR} {c : TR} : pLo6 B n ks ts c dp q7 = bS (pTs B n q7) fun x8 => bS (bS (pN B n 144941 x8.2) (pGv B n)) fun g => .inr (ks, ts, c, dp, x8.1, g) := by
  unfold pLo6
  cases pTs B n q7 with
  | inl z => rfl
  | inr x8 =>
    show bS (pN B n 144941 x8.2) _ = bS (bS (pN B n 144941 x8.2) (pGv B n)) _
    cases pN B n 144941 x8.2 with
    | inl z => rfl
    | inr q9 =>
      show bS (pT B n false 13 q9) _ = bS (pGv B n q9) _
      unfold pGv
      cases pT B n false 13 q9 with
      | inl z => rfl
      | inr x10 =>
        show bS (pE B n x10.2) _ = bS (bS (pE B n x10.2) _) _
        cases pE B n x10.2 <;> rfl
theorem pDo_w {B : Int → Int} {n : Int} {R : Int ⊕ Int} {ks : List Int} {ts : List TR} {c : TR} : bS R (pDo B n ks ts c) = bS (bS (bnd R (pN B n 123)) (pTs B n)) fun x8 => bS (bS (pN B n 144941 x8.2) (pGv B n)) fun g => .inr (ks, ts, c, plc B n R, x8.1, g) := by
  cases R with
  | inl z => rfl
  | inr q6 =>
    show bS (pN B n 123 q6) _ = bS (bS (pN B n 123 q6) (pTs B n)) _
    cases pN B n 123 q6 with
    | inl z => rfl
    | inr q7 => exact pLo6_w
def doX (T a1 K : Int) (E : EV) (sk : List Int) (cnt : Int) (P : Int ⊕ LPt) (h' : AH) : Prop := match P with
  | .inl z => bkX z h'
  | .inr p => h' 441 6 = 0 ∧ FK h' = min K (min (min (fkG E sk p.2.2.2.2.1 0) (keyE E (-1) p.2.2.2.2.2)) (if (p.2.2.2.2.1.length : Int) = cnt then 1000000 else p.2.2.2.1 * 8 + 4)) ∧ trsX h' T E (a1 + 4) p.2.2.2.2.1 2100 ∧ rtX h' T E (h' a1 7) p.2.2.2.2.2 2100
def okGg (B : Int → Int) (n A T a K : Int) (E : EV) (sk : List Int) (W : Int ⊕ (List TR × Int)) (y : Int) (h' : AH) : Prop := match W with | .inl _ => True | .inr (l, q) => (l.length : Int) = y ∧ okD B n A T a K E sk (.inr q) l h'
theorem do_fin {B : Int → Int} {n A T a1 K K2 cnt y x30 : Int} {E : EV} {sk : List Int} {R : Int ⊕ Int} {W : Int ⊕ (List TR × Int)} {ks : List Int} {ts : List TR} {c : TR} {h40 h' : AH} (ew : bS (bnd R (pN B n 123)) (pTs B n) = W) (la : isLo a1) (eT : T = a1 + 5) (ok : okGg B n A T (a1 + 4) K E sk W y h40) (xp : ∀ q, R = .inr q → x30 = tS B n q) (hk : ∀ x, W = .inr x → K2 = FK h40) (gv : gvX T a1 (min K2 (if y = cnt then 1000000 else x30 * 8 + 4)) E (bS (bnd (sRt W) (pN B n 144941)) (pGv B n)) h') (fr : frS (fun b s => b = a1 ∧ s = 7) T (h40 T 0) h40 h') (tN : h40 T 0 ≤ 2100) : doX T a1 K E sk cnt (bS R (pDo B n ks ts c)) h' := by
  have la : a1 = 378 ∨ a1 = 391 := la
  have TS : Tset T := by unfold Tset; omega
  rw [pDo_w, ew]
  cases W with
  | inl z => exact gv
  | inr x =>
    obtain ⟨l, q⟩ := x
    obtain ⟨ll, o1, o2, o3, o4⟩ := ok
    show doX T a1 K E sk cnt (bS (bS (pN B n 144941 q) (pGv B n)) fun g => .inr (ks, ts, c, plc B n R, l, g)) h'
    have gv2 : gvX T a1 (min K2 (if y = cnt then 1000000 else x30 * 8 + 4)) E (bS (pN B n 144941 q) (pGv B n)) h' := gv
    cases e : bS (pN B n 144941 q) (pGv B n) with
    | inl z => rw [e] at gv2; exact gv2
    | inr g =>
      rw [e] at gv2
      obtain ⟨g1, g2, g3⟩ := gv2
      obtain ⟨q6, e6⟩ : ∃ q6, R = .inr q6 := by
        cases R with
        | inl z => cases ew
        | inr q6 => exact ⟨q6, rfl⟩
      have ep : plc B n R = x30 := by rw [e6, xp q6 e6]; rfl
      refine ⟨g1, ?_, trsX_S o2 tN (by omega) TS fr (fun b s z => by omega), g3⟩
      show FK h' = min K (min (min (fkG E sk l 0) (keyE E (-1) g)) (if (l.length : Int) = cnt then 1000000 else plc B n R * 8 + 4))
      rw [g2, hk _ rfl, o3, ll, ep]
      omega
theorem l286_c {B : Int → Int} {n A T a K y : Int} {E : EV} {sk : List Int} {W : Int ⊕ (List TR × Int)} {h : AH} (ok : okGo B n A T a K E sk W y h) : cqX B n A T E (sRt W) h ∧ (∀ q, sRt W = .inr q → h 441 16 = 0) ∧ okGg B n A T a K E sk W y h := by
  cases W with
  | inl z => exact ⟨ok, (fun q e => by cases e), trivial⟩
  | inr x => obtain ⟨l, q⟩ := x; exact ⟨ok.2.1, fun _ _ => ok.2.2.2.2, ok⟩
theorem cqX_b {B : Int → Int} {n A T : Int} {E : EV} {R : Int ⊕ Int} {h : AH} (c : cqX B n A T E R h) : 0 ≤ h T 0 ∧ h T 0 ≤ 2100 := by
  obtain ⟨_, _, _, u, u0, u1, u2, u3, _⟩ := c
  omega
theorem vX13_loop_j270 (a1 : Int) (a3 : Int) {h : AH} {B : Int → Int} {n A T K : Int} {E : EV} {sk : List Int} {R : Int ⊕ Int} {ks : List Int} {ts : List TR} {c : TR} (hB : ∀ i, 0 ≤ i → i < n → 0 ≤ B i ∧ B i < 256) (lo : isLo a1 ∧ T = a1 + 5) (cc : cqX B n A T E R h) (z : ∀ q, R = .inr q → h 441 16 = 0 ∧ FK h = K) (kd : h a1 2 = (sk.length : Int) ∧ sk.length ≤ 3 ∧ ∀ k, 0 ≤ k → k < (sk.length : Int) → h 446 k = kL sk k) : OK (gX13_loop_j270 a1 a3 h) (fun h' => (doX T a1 K E sk a3 (bS R (pDo B n ks ts c)) h') ∧ (f8X h') ∧ (frS (fun b s => (b = a1 ∧ s = 7) ∨ (b = a1 + 4 ∧ 0 ≤ s ∧ s < 3)) T (h T 0) h h')) := by
  have LA : a1 = 378 ∨ a1 = 391 := lo.1
  have TS : Tset T := cc.1.2.2.2.1.2.2
  have t0 := cc.2.2.2.choose_spec.2.2.1
  have f8 := f8X_c cc
  have n2 := cc.1.1.2.2.2.1
  unfold gX13_loop_j270
  refine OK_jlx (fun x30 ex30 => ?_)
  try simp (disch := omega) only [jst_eq, jst_ne, jst_ni, jI_i, jcmp_lt, jcmp_gt, w32_id, jcpy_out, Sum.elim_inl, Sum.elim_inr, jt2, jt3, jt4, jt5, jt6, jt7, jt8] at ex30
  refine OK_jb (vX13_wordB (B := B) (n := n) (A := A) (w := 123) (r := R) _ (by exact cc.1.1) (by (first | assumption | omega | ((try dsimp only [jt2, jt3, jt4]); first | omega | (simp (disch := omega) only [jst_eq, jst_ne, jst_ni, jst_o, jI_i, jcpy_out, w32_id, jdiv_nn, jshr_k, jand_255] <;> first | done | omega | assumption)) | (intros; simp (disch := omega) only [jst_eq, jst_ne, jst_ni, jst_o, jI_i, jcpy_out, w32_id, jdiv_nn, *] <;> first | done | omega) | (intros; simp (disch := omega) only [jst_eq, jst_ne, jst_ni, jst_o, jI_i, jcpy_out, w32_id, jdiv_nn] at * <;> first | done | omega | assumption) | (intros; first | rfl | (exfalso; omega) | ((repeat' apply And.intro) <;> first | assumption | rfl | omega | trivial)))) (by exact cc.2.2.1) (by exact nm_do cc.1.2.2.1)) (fun h32 r1 => ?_)
  try dsimp only [Sum.elim_inl, Sum.elim_inr, jt2, jt3, jt4, jt5, jt6, jt7, jt8] at r1
  obtain ⟨sx1, fr1, bk1, br1⟩ := r1
  try simp (disch := omega) only [jst_eq, jst_ne, jst_ni, jI_i, jcmp_lt, jcmp_gt, w32_id, jcpy_out, Sum.elim_inl, Sum.elim_inr, jt2, jt3, jt4, jt5, jt6, jt7, jt8] at sx1
  try simp (disch := omega) only [jst_eq, jst_ne, jst_ni, jI_i, jcmp_lt, jcmp_gt, w32_id, jcpy_out, Sum.elim_inl, Sum.elim_inr, jt2, jt3, jt4, jt5, jt6, jt7, jt8] at fr1
  try simp (disch := omega) only [jst_eq, jst_ne, jst_ni, jI_i, jcmp_lt, jcmp_gt, w32_id, jcpy_out, Sum.elim_inl, Sum.elim_inr, jt2, jt3, jt4, jt5, jt6, jt7, jt8] at bk1
  try simp (disch := omega) only [jst_eq, jst_ne, jst_ni, jI_i, jcmp_lt, jcmp_gt, w32_id, jcpy_out, Sum.elim_inl, Sum.elim_inr, jt2, jt3, jt4, jt5, jt6, jt7, jt8] at br1
  have C32 := cqX_n hB cc fr1 sx1
  have Z32 : h32 441 6 = 0 → h32 441 16 = 0 ∧ FK h32 = min K 1000000 := fun b => by { obtain ⟨q, e⟩ : ∃ q, R = .inr q := (by cases eRR : R with | inl y => (have := br1 ⟨y, eRR⟩; omega) | inr q => first | exact ⟨q, rfl⟩ | exact ⟨q, eRR⟩); have zz := z q e; rw [fr1 _ _ (by omega), FK_fr (fr1 _ _ (by omega)) (fr1 _ _ (by omega))]; have := f8.2.2; exact ⟨zz.1, by omega⟩ }
  have XP : ∀ q, R = .inr q → x30 = tS B n q := fun q e => by { have s := cc.2.2.1; rw [e] at s; rw [ex30]; exact (Sx_inr s).1.2.1.1 }
  have XR : h32 441 6 = 0 → ∃ q, R = .inr q := fun b => by { cases eRR : R with | inl y => (have := br1 ⟨y, eRR⟩; omega) | inr q => first | exact ⟨q, rfl⟩ | exact ⟨q, eRR⟩ }
  have XB : (∃ q, R = .inr q) → 0 ≤ x30 ∧ x30 ≤ 2001 := fun b => by { obtain ⟨q, e⟩ := b; have s := cc.2.2.1; rw [e] at s; have nb := (Sx_inr s).1; have := tS_r (B := B) nb.2.2.2; have := nb.2.2.1; rw [XP q e]; omega }
  refine OK_jb (vX13_loop_l286 (B := B) (n := n) (A := A) (T := T) (K := K) (E := E) (sk := sk) (R0 := bnd R (pN B n 123)) _ _ _ _ (by (first | assumption | omega | ((try dsimp only [jt2, jt3, jt4]); first | omega | (simp (disch := omega) only [jst_eq, jst_ne, jst_ni, jst_o, jI_i, jcpy_out, w32_id, jdiv_nn, jshr_k, jand_255] <;> first | done | omega | assumption)) | (intros; simp (disch := omega) only [jst_eq, jst_ne, jst_ni, jst_o, jI_i, jcpy_out, w32_id, jdiv_nn, *] <;> first | done | omega) | (intros; simp (disch := omega) only [jst_eq, jst_ne, jst_ni, jst_o, jI_i, jcpy_out, w32_id, jdiv_nn] at * <;> first | done | omega | assumption) | (intros; first | rfl | (exfalso; omega) | ((repeat' apply And.intro) <;> first | assumption | rfl | omega | trivial)))) (by (first | assumption | omega | ((try dsimp only [jt2, jt3, jt4]); first | omega | (simp (disch := omega) only [jst_eq, jst_ne, jst_ni, jst_o, jI_i, jcpy_out, w32_id, jdiv_nn, jshr_k, jand_255] <;> first | done | omega | assumption)) | (intros; simp (disch := omega) only [jst_eq, jst_ne, jst_ni, jst_o, jI_i, jcpy_out, w32_id, jdiv_nn, *] <;> first | done | omega) | (intros; simp (disch := omega) only [jst_eq, jst_ne, jst_ni, jst_o, jI_i, jcpy_out, w32_id, jdiv_nn] at * <;> first | done | omega | assumption) | (intros; first | rfl | (exfalso; omega) | ((repeat' apply And.intro) <;> first | assumption | rfl | omega | trivial)))) (by exact C32) (by (rw [fr1 _ _ (by omega)]; exact ⟨kd.1, kd.2.1, fun k k0 k1 => by rw [fr1 _ _ (by omega)]; exact kd.2.2 k k0 k1⟩)) (by exact Z32) (by (first | assumption | omega | ((try dsimp only [jt2, jt3, jt4]); first | omega | (simp (disch := omega) only [jst_eq, jst_ne, jst_ni, jst_o, jI_i, jcpy_out, w32_id, jdiv_nn, jshr_k, jand_255] <;> first | done | omega | assumption)) | (intros; simp (disch := omega) only [jst_eq, jst_ne, jst_ni, jst_o, jI_i, jcpy_out, w32_id, jdiv_nn, *] <;> first | done | omega) | (intros; simp (disch := omega) only [jst_eq, jst_ne, jst_ni, jst_o, jI_i, jcpy_out, w32_id, jdiv_nn] at * <;> first | done | omega | assumption) | (intros; first | rfl | (exfalso; omega) | ((repeat' apply And.intro) <;> first | assumption | rfl | omega | trivial))))) (fun o33 r2 => ?_)
  rcases o33 with o35 | o36
  · skip
    have r3 := r2; clear r2
    dsimp only [Sum.elim_inl, Sum.elim_inr] at r3
    try dsimp only [Sum.elim_inl, Sum.elim_inr, jt2, jt3, jt4, jt5, jt6, jt7, jt8] at r3
    obtain ⟨bz2, f82, fr2⟩ := r3
    try simp (disch := omega) only [jst_eq, jst_ne, jst_ni, jI_i, jcmp_lt, jcmp_gt, w32_id, jcpy_out, Sum.elim_inl, Sum.elim_inr, jt2, jt3, jt4, jt5, jt6, jt7, jt8] at bz2
    try simp (disch := omega) only [jst_eq, jst_ne, jst_ni, jI_i, jcmp_lt, jcmp_gt, w32_id, jcpy_out, Sum.elim_inl, Sum.elim_inr, jt2, jt3, jt4, jt5, jt6, jt7, jt8] at f82
    try simp (disch := omega) only [jst_eq, jst_ne, jst_ni, jI_i, jcmp_lt, jcmp_gt, w32_id, jcpy_out, Sum.elim_inl, Sum.elim_inr, jt2, jt3, jt4, jt5, jt6, jt7, jt8] at fr2
    refine OK_jml ?_
    refine OK_some ?_
    try dsimp only [Sum.elim_inl, Sum.elim_inr, jt2, jt3, jt4, jt5, jt6, jt7, jt8]
    try dsimp only [Sum.elim_inl, Sum.elim_inr, jt2, jt3, jt4, jt5, jt6, jt7, jt8]
    refine ⟨?_, ?_, ?_⟩
    · (obtain ⟨z, e, x, y⟩ := bz2; rw [pDo_w, e]; exact ⟨x, y⟩) -- o11 e1.1
    · exact f82 -- o12 e1.2
    · exact fun b s y1 y2 y3 y4 y5 y6 => (by rw [fr2 b s y1 y2 y3 (by rw [fr1 T 0 (by omega)]; exact y4) (by rw [fr1 T 0 (by omega)]; exact y5) (fun w => y6 (Or.inr w))]; exact fr1 b s (by omega)) -- o13 e1.3
  · skip
    have r4 := r2; clear r2
    dsimp only [Sum.elim_inl, Sum.elim_inr] at r4
    refine OK_jmr ?_
    rcases o36 with o37 | o38
    · skip
      have r5 := r4; clear r4
      dsimp only [Sum.elim_inl, Sum.elim_inr] at r5
      refine OK_jml ?_
      obtain ⟨y39, h40⟩ := o37
      refine OK_jt2 ?_
      try dsimp only [Sum.elim_inl, Sum.elim_inr, jt2, jt3, jt4, jt5, jt6, jt7, jt8] at r5
      obtain ⟨ok3, fr3, y03⟩ := r5
      try simp (disch := omega) only [jst_eq, jst_ne, jst_ni, jI_i, jcmp_lt, jcmp_gt, w32_id, jcpy_out, Sum.elim_inl, Sum.elim_inr, jt2, jt3, jt4, jt5, jt6, jt7, jt8] at ok3
      try simp (disch := omega) only [jst_eq, jst_ne, jst_ni, jI_i, jcmp_lt, jcmp_gt, w32_id, jcpy_out, Sum.elim_inl, Sum.elim_inr, jt2, jt3, jt4, jt5, jt6, jt7, jt8] at fr3
      try simp (disch := omega) only [jst_eq, jst_ne, jst_ni, jI_i, jcmp_lt, jcmp_gt, w32_id, jcpy_out, Sum.elim_inl, Sum.elim_inr, jt2, jt3, jt4, jt5, jt6, jt7, jt8] at y03
      obtain ⟨KK, eKK⟩ : ∃ x, FK h40 = x := ⟨_, rfl⟩
      obtain ⟨C40, Z40, OK40⟩ := l286_c ok3
      have B40 := cqX_b C40
      refine OK_mono (vX13_loop_j364 (B := B) (n := n) (A := A) (T := T) (K := KK) (E := E) (R := sRt (bS (bnd R (pN B n 123)) (pTs B n))) _ _ _ _ (by (first | assumption | omega | ((try dsimp only [jt2, jt3, jt4]); first | omega | (simp (disch := omega) only [jst_eq, jst_ne, jst_ni, jst_o, jI_i, jcpy_out, w32_id, jdiv_nn, jshr_k, jand_255] <;> first | done | omega | assumption)) | (intros; simp (disch := omega) only [jst_eq, jst_ne, jst_ni, jst_o, jI_i, jcpy_out, w32_id, jdiv_nn, *] <;> first | done | omega) | (intros; simp (disch := omega) only [jst_eq, jst_ne, jst_ni, jst_o, jI_i, jcpy_out, w32_id, jdiv_nn] at * <;> first | done | omega | assumption) | (intros; first | rfl | (exfalso; omega) | ((repeat' apply And.intro) <;> first | assumption | rfl | omega | trivial)))) (by (first | assumption | omega | ((try dsimp only [jt2, jt3, jt4]); first | omega | (simp (disch := omega) only [jst_eq, jst_ne, jst_ni, jst_o, jI_i, jcpy_out, w32_id, jdiv_nn, jshr_k, jand_255] <;> first | done | omega | assumption)) | (intros; simp (disch := omega) only [jst_eq, jst_ne, jst_ni, jst_o, jI_i, jcpy_out, w32_id, jdiv_nn, *] <;> first | done | omega) | (intros; simp (disch := omega) only [jst_eq, jst_ne, jst_ni, jst_o, jI_i, jcpy_out, w32_id, jdiv_nn] at * <;> first | done | omega | assumption) | (intros; first | rfl | (exfalso; omega) | ((repeat' apply And.intro) <;> first | assumption | rfl | omega | trivial)))) (by exact C40) (by exact fun q e => ⟨Z40 q e, eKK⟩) (by exact fun b => XB (XR y03.2.1))) (fun r r6 => ?_)
      try dsimp only [Sum.elim_inl, Sum.elim_inr, jt2, jt3, jt4, jt5, jt6, jt7, jt8] at r6
      obtain ⟨gv4, f84, fr4⟩ := r6
      try simp (disch := omega) only [jst_eq, jst_ne, jst_ni, jI_i, jcmp_lt, jcmp_gt, w32_id, jcpy_out, Sum.elim_inl, Sum.elim_inr, jt2, jt3, jt4, jt5, jt6, jt7, jt8] at gv4
      try simp (disch := omega) only [jst_eq, jst_ne, jst_ni, jI_i, jcmp_lt, jcmp_gt, w32_id, jcpy_out, Sum.elim_inl, Sum.elim_inr, jt2, jt3, jt4, jt5, jt6, jt7, jt8] at f84
      try simp (disch := omega) only [jst_eq, jst_ne, jst_ni, jI_i, jcmp_lt, jcmp_gt, w32_id, jcpy_out, Sum.elim_inl, Sum.elim_inr, jt2, jt3, jt4, jt5, jt6, jt7, jt8] at fr4
      try dsimp only [Sum.elim_inl, Sum.elim_inr, jt2, jt3, jt4, jt5, jt6, jt7, jt8]
      try dsimp only [Sum.elim_inl, Sum.elim_inr, jt2, jt3, jt4, jt5, jt6, jt7, jt8]
      refine ⟨?_, ?_, ?_⟩
      · exact do_fin (A := A) rfl lo.1 lo.2 OK40 XP (fun _ _ => eKK.symm) gv4 fr4 B40.2 -- o19 e2.1
      · (first | assumption | omega | ((try dsimp only [jt2, jt3, jt4]); first | omega | (simp (disch := omega) only [jst_eq, jst_ne, jst_ni, jst_o, jI_i, jcpy_out, w32_id, jdiv_nn, jshr_k, jand_255] <;> first | done | omega | assumption)) | (intros; simp (disch := omega) only [jst_eq, jst_ne, jst_ni, jst_o, jI_i, jcpy_out, w32_id, jdiv_nn, *] <;> first | done | omega) | (intros; simp (disch := omega) only [jst_eq, jst_ne, jst_ni, jst_o, jI_i, jcpy_out, w32_id, jdiv_nn] at * <;> first | done | omega | assumption) | (intros; first | rfl | (exfalso; omega) | ((repeat' apply And.intro) <;> first | assumption | rfl | omega | trivial))) -- o20 e2.2
      · exact frS_t (N' := h32 T 0) (by rw [fr1 T 0 (by omega)]; exact Int.le_refl _) (frS_o (fun b s y1 _ => fr1 b s (by omega))) (frS_t (N' := h40 T 0) y03.2.2 (frDx_S fr3 (fun s s0 s1 => Or.inr ⟨rfl, s0, s1⟩)) (frS_w fr4 (fun b s y => Or.inl y))) -- o21 e2.3
    · skip
      have r7 := r4; clear r4
      dsimp only [Sum.elim_inl, Sum.elim_inr] at r7
      refine OK_jmr ?_
      obtain ⟨y41, h42⟩ := o38
      refine OK_jt2 ?_
      try dsimp only [Sum.elim_inl, Sum.elim_inr, jt2, jt3, jt4, jt5, jt6, jt7, jt8] at r7
      have bz5 := r7
      clear r7
      try simp (disch := omega) only [jst_eq, jst_ne, jst_ni, jI_i, jcmp_lt, jcmp_gt, w32_id, jcpy_out, Sum.elim_inl, Sum.elim_inr, jt2, jt3, jt4, jt5, jt6, jt7, jt8] at bz5
      obtain ⟨KK, eKK⟩ : ∃ x, FK h42 = x := ⟨_, rfl⟩
      obtain ⟨e42, n42⟩ := bz5
      have eR := (Sx_br sx1 n42).2
      have eW : bS (bnd R (pN B n 123)) (pTs B n) = .inl (h32 441 7) := by { rw [eR]; rfl }
      have C42 : cqX B n A T E (sRt (bS (bnd R (pN B n 123)) (pTs B n))) h42 := by { rw [eW, e42]; rw [eR] at C32; exact C32 }
      refine OK_mono (vX13_loop_j364 (B := B) (n := n) (A := A) (T := T) (K := KK) (E := E) (R := sRt (bS (bnd R (pN B n 123)) (pTs B n))) _ _ _ _ (by (first | assumption | omega | ((try dsimp only [jt2, jt3, jt4]); first | omega | (simp (disch := omega) only [jst_eq, jst_ne, jst_ni, jst_o, jI_i, jcpy_out, w32_id, jdiv_nn, jshr_k, jand_255] <;> first | done | omega | assumption)) | (intros; simp (disch := omega) only [jst_eq, jst_ne, jst_ni, jst_o, jI_i, jcpy_out, w32_id, jdiv_nn, *] <;> first | done | omega) | (intros; simp (disch := omega) only [jst_eq, jst_ne, jst_ni, jst_o, jI_i, jcpy_out, w32_id, jdiv_nn] at * <;> first | done | omega | assumption) | (intros; first | rfl | (exfalso; omega) | ((repeat' apply And.intro) <;> first | assumption | rfl | omega | trivial)))) (by (first | assumption | omega | ((try dsimp only [jt2, jt3, jt4]); first | omega | (simp (disch := omega) only [jst_eq, jst_ne, jst_ni, jst_o, jI_i, jcpy_out, w32_id, jdiv_nn, jshr_k, jand_255] <;> first | done | omega | assumption)) | (intros; simp (disch := omega) only [jst_eq, jst_ne, jst_ni, jst_o, jI_i, jcpy_out, w32_id, jdiv_nn, *] <;> first | done | omega) | (intros; simp (disch := omega) only [jst_eq, jst_ne, jst_ni, jst_o, jI_i, jcpy_out, w32_id, jdiv_nn] at * <;> first | done | omega | assumption) | (intros; first | rfl | (exfalso; omega) | ((repeat' apply And.intro) <;> first | assumption | rfl | omega | trivial)))) (by exact C42) (by exact fun q e => (by rw [eW] at e; cases e)) (by exact fun b => (by rw [e42] at b; exact absurd b n42))) (fun r r8 => ?_)
      try dsimp only [Sum.elim_inl, Sum.elim_inr, jt2, jt3, jt4, jt5, jt6, jt7, jt8] at r8
      obtain ⟨gv6, f86, fr6⟩ := r8
      try simp (disch := omega) only [jst_eq, jst_ne, jst_ni, jI_i, jcmp_lt, jcmp_gt, w32_id, jcpy_out, Sum.elim_inl, Sum.elim_inr, jt2, jt3, jt4, jt5, jt6, jt7, jt8] at gv6
      try simp (disch := omega) only [jst_eq, jst_ne, jst_ni, jI_i, jcmp_lt, jcmp_gt, w32_id, jcpy_out, Sum.elim_inl, Sum.elim_inr, jt2, jt3, jt4, jt5, jt6, jt7, jt8] at f86
      try simp (disch := omega) only [jst_eq, jst_ne, jst_ni, jI_i, jcmp_lt, jcmp_gt, w32_id, jcpy_out, Sum.elim_inl, Sum.elim_inr, jt2, jt3, jt4, jt5, jt6, jt7, jt8] at fr6
      try dsimp only [Sum.elim_inl, Sum.elim_inr, jt2, jt3, jt4, jt5, jt6, jt7, jt8]
      try dsimp only [Sum.elim_inl, Sum.elim_inr, jt2, jt3, jt4, jt5, jt6, jt7, jt8]
      refine ⟨?_, ?_, ?_⟩
      · exact do_fin (A := A) (y := y41) eW lo.1 lo.2 trivial XP (fun x e => by cases e) (by rw [eW] at gv6; exact gv6) fr6 (cqX_b C42).2 -- o27 e3.1
      · (first | assumption | omega | ((try dsimp only [jt2, jt3, jt4]); first | omega | (simp (disch := omega) only [jst_eq, jst_ne, jst_ni, jst_o, jI_i, jcpy_out, w32_id, jdiv_nn, jshr_k, jand_255] <;> first | done | omega | assumption)) | (intros; simp (disch := omega) only [jst_eq, jst_ne, jst_ni, jst_o, jI_i, jcpy_out, w32_id, jdiv_nn, *] <;> first | done | omega) | (intros; simp (disch := omega) only [jst_eq, jst_ne, jst_ni, jst_o, jI_i, jcpy_out, w32_id, jdiv_nn] at * <;> first | done | omega | assumption) | (intros; first | rfl | (exfalso; omega) | ((repeat' apply And.intro) <;> first | assumption | rfl | omega | trivial))) -- o28 e3.2
      · exact frS_t (N' := h32 T 0) (by rw [fr1 T 0 (by omega)]; exact Int.le_refl _) (frS_o (fun b s y1 _ => fr1 b s (by omega))) (frS_w (by rw [e42] at fr6; exact fr6) (fun b s y => Or.inl y)) -- o29 e3.3

