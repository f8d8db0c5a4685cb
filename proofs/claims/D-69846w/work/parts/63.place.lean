/-! x: the table of functions: a place for one -/
theorem vX5_points {h : AH} : OK (gX5_points h) (fun v => v = h (h 200 16) 18) := by unfold gX5_points; exact OK_some rfl
def eqV (pts : Int) (x u : Int → Int) : Prop := ∀ p, 0 ≤ p → p < pts → x p = u p
theorem vX5_isFresh_l2 (i1 : Int) (a20 : Int) {h : AH} {pts : Int} {x u : Int → Int} (b : h (h 200 16) 18 = pts ∧ 0 ≤ pts ∧ pts ≤ 256 ∧ 0 ≤ i1 ∧ i1 < 121) (cc : ∀ p, 0 ≤ p → p < pts → h 312 (256 * i1 + p) = x p ∧ h 320 p = u p) (z : a20 = 0) : OK (gX5_isFresh_l2 i1 a20 h) (Sum.elim (fun _ => ¬ eqV pts x u) (fun _ => eqV pts x u)) := by
  unfold gX5_isFresh_l2
  refine OK_jit (I := (fun (a2 : Int) => (0 ≤ a2 ∧ a2 ≤ pts) ∧ (∀ p, 0 ≤ p → p < a2 → x p = u p))) (m := (fun (a2 : Int) => (pts - a2).toNat)) ?_ ?_
  · intro a2 hs
    try dsimp only at hs
    obtain ⟨q0, q1⟩ := hs
    unfold gX5_isFresh_b2
    have e31 : w32 (i1 * 256) = 256 * i1 := by { rw [w32_id (by omega) (by omega)]; omega }
    have iw : a2 < 256 → w32 (w32 (i1 * 256) + a2) = 256 * i1 + a2 := fun y => by { rw [e31, w32_id (by omega) (by omega)] }
    refine OK_jb (vX5_points) (fun v6 r1 => ?_)
    try dsimp only [Sum.elim_inl, Sum.elim_inr, jt2, jt3, jt4, jt5, jt6, jt7, jt8] at r1
    have pp1 := r1
    clear r1
    try simp (disch := omega) only [jst_eq, jst_ne, jst_ni, jI_i, jcmp_lt, jcmp_gt, w32_id, jcpy_out, Sum.elim_inl, Sum.elim_inr, jt2, jt3, jt4, jt5, jt6, jt7, jt8] at pp1
    refine OK_if (fun c1 => ?_) (fun c1 => ?_)
    · skip
      try simp (disch := omega) only [jst_eq, jst_ne, jst_ni, jI_i, jcmp_lt, jcmp_gt, w32_id, jcpy_out, Sum.elim_inl, Sum.elim_inr, jt2, jt3, jt4, jt5, jt6, jt7, jt8] at c1
      refine OK_ir ?_
      (intro p p0 p1; exact q1 p p0 (by omega)) -- o1 e1
    · skip
      try simp (disch := omega) only [jst_eq, jst_ne, jst_ni, jI_i, jcmp_lt, jcmp_gt, w32_id, jcpy_out, Sum.elim_inl, Sum.elim_inr, jt2, jt3, jt4, jt5, jt6, jt7, jt8] at c1
      have iw2 := iw (by omega)
      have ck := cc a2 q0.1 (by omega)
      have im : i1 * 256 = 256 * i1 := Int.mul_comm _ _
      refine OK_jg (by (first | assumption | omega | ((try dsimp only [jt2, jt3, jt4]); first | omega | (simp (disch := omega) only [jst_eq, jst_ne, jst_ni, jst_o, jI_i, jcpy_out, w32_id, jdiv_nn, jshr_k, jand_255] <;> first | done | omega | assumption)) | (intros; simp (disch := omega) only [jst_eq, jst_ne, jst_ni, jst_o, jI_i, jcpy_out, w32_id, jdiv_nn, *] <;> first | done | omega) | (intros; simp (disch := omega) only [jst_eq, jst_ne, jst_ni, jst_o, jI_i, jcpy_out, w32_id, jdiv_nn] at * <;> first | done | omega | assumption) | (intros; first | rfl | (exfalso; omega) | ((repeat' apply And.intro) <;> first | assumption | rfl | omega | trivial)))) ?_ -- o2
      refine OK_jg (by (first | assumption | omega | ((try dsimp only [jt2, jt3, jt4]); first | omega | (simp (disch := omega) only [jst_eq, jst_ne, jst_ni, jst_o, jI_i, jcpy_out, w32_id, jdiv_nn, jshr_k, jand_255] <;> first | done | omega | assumption)) | (intros; simp (disch := omega) only [jst_eq, jst_ne, jst_ni, jst_o, jI_i, jcpy_out, w32_id, jdiv_nn, *] <;> first | done | omega) | (intros; simp (disch := omega) only [jst_eq, jst_ne, jst_ni, jst_o, jI_i, jcpy_out, w32_id, jdiv_nn] at * <;> first | done | omega | assumption) | (intros; first | rfl | (exfalso; omega) | ((repeat' apply And.intro) <;> first | assumption | rfl | omega | trivial)))) ?_ -- o3
      refine OK_if (fun c2 => ?_) (fun c2 => ?_)
      · skip
        try simp (disch := omega) only [jst_eq, jst_ne, jst_ni, jI_i, jcmp_lt, jcmp_gt, w32_id, jcpy_out, Sum.elim_inl, Sum.elim_inr, jt2, jt3, jt4, jt5, jt6, jt7, jt8] at c2
        have cx : x a2 = u a2 := by { rw [← ck.1, ← ck.2, ← im]; exact c2 }
        refine OK_jlx (fun x9 ex9 => ?_)
        try simp (disch := omega) only [jst_eq, jst_ne, jst_ni, jI_i, jcmp_lt, jcmp_gt, w32_id, jcpy_out, Sum.elim_inl, Sum.elim_inr, jt2, jt3, jt4, jt5, jt6, jt7, jt8] at ex9
        refine OK_il ?_ ?_
        · try dsimp only [Sum.elim_inl, Sum.elim_inr, jt2, jt3, jt4, jt5, jt6, jt7, jt8]
          refine ⟨?_, ?_⟩
          · (first | assumption | omega | ((try dsimp only [jt2, jt3, jt4]); first | omega | (simp (disch := omega) only [jst_eq, jst_ne, jst_ni, jst_o, jI_i, jcpy_out, w32_id, jdiv_nn, jshr_k, jand_255] <;> first | done | omega | assumption)) | (intros; simp (disch := omega) only [jst_eq, jst_ne, jst_ni, jst_o, jI_i, jcpy_out, w32_id, jdiv_nn, *] <;> first | done | omega) | (intros; simp (disch := omega) only [jst_eq, jst_ne, jst_ni, jst_o, jI_i, jcpy_out, w32_id, jdiv_nn] at * <;> first | done | omega | assumption) | (intros; first | rfl | (exfalso; omega) | ((repeat' apply And.intro) <;> first | assumption | rfl | omega | trivial))) -- o4 e2i.1
          · (intro p p0 p1; by_cases y : p = a2; { rw [y]; exact cx }; { exact q1 p p0 (by omega) }) -- o5 e2i.2
        · (first | assumption | omega | ((try dsimp only [jt2, jt3, jt4]); first | omega | (simp (disch := omega) only [jst_eq, jst_ne, jst_ni, jst_o, jI_i, jcpy_out, w32_id, jdiv_nn, jshr_k, jand_255] <;> first | done | omega | assumption)) | (intros; simp (disch := omega) only [jst_eq, jst_ne, jst_ni, jst_o, jI_i, jcpy_out, w32_id, jdiv_nn, *] <;> first | done | omega) | (intros; simp (disch := omega) only [jst_eq, jst_ne, jst_ni, jst_o, jI_i, jcpy_out, w32_id, jdiv_nn] at * <;> first | done | omega | assumption) | (intros; first | rfl | (exfalso; omega) | ((repeat' apply And.intro) <;> first | assumption | rfl | omega | trivial))) -- o6 e2m
      · skip
        try simp (disch := omega) only [jst_eq, jst_ne, jst_ni, jI_i, jcmp_lt, jcmp_gt, w32_id, jcpy_out, Sum.elim_inl, Sum.elim_inr, jt2, jt3, jt4, jt5, jt6, jt7, jt8] at c2
        have cx : ¬ x a2 = u a2 := by { rw [← ck.1, ← ck.2, ← im]; exact c2 }
        refine OK_ir ?_
        (intro y; exact cx (y a2 q0.1 (by omega))) -- o7 e3
  · try dsimp only [Sum.elim_inl, Sum.elim_inr, jt2, jt3, jt4, jt5, jt6, jt7, jt8]
    refine ⟨?_, ?_⟩
    · (first | assumption | omega | ((try dsimp only [jt2, jt3, jt4]); first | omega | (simp (disch := omega) only [jst_eq, jst_ne, jst_ni, jst_o, jI_i, jcpy_out, w32_id, jdiv_nn, jshr_k, jand_255] <;> first | done | omega | assumption)) | (intros; simp (disch := omega) only [jst_eq, jst_ne, jst_ni, jst_o, jI_i, jcpy_out, w32_id, jdiv_nn, *] <;> first | done | omega) | (intros; simp (disch := omega) only [jst_eq, jst_ne, jst_ni, jst_o, jI_i, jcpy_out, w32_id, jdiv_nn] at * <;> first | done | omega | assumption) | (intros; first | rfl | (exfalso; omega) | ((repeat' apply And.intro) <;> first | assumption | rfl | omega | trivial))) -- o8 init.1
    · (first | assumption | omega | ((try dsimp only [jt2, jt3, jt4]); first | omega | (simp (disch := omega) only [jst_eq, jst_ne, jst_ni, jst_o, jI_i, jcpy_out, w32_id, jdiv_nn, jshr_k, jand_255] <;> first | done | omega | assumption)) | (intros; simp (disch := omega) only [jst_eq, jst_ne, jst_ni, jst_o, jI_i, jcpy_out, w32_id, jdiv_nn, *] <;> first | done | omega) | (intros; simp (disch := omega) only [jst_eq, jst_ne, jst_ni, jst_o, jI_i, jcpy_out, w32_id, jdiv_nn] at * <;> first | done | omega | assumption) | (intros; first | rfl | (exfalso; omega) | ((repeat' apply And.intro) <;> first | assumption | rfl | omega | trivial))) -- o9 init.2
theorem vX5_isFresh (a1 : Int) {h : AH} {pts : Int} {x u : Int → Int} (b : h (h 200 16) 18 = pts ∧ 0 ≤ pts ∧ pts ≤ 256 ∧ 0 ≤ a1 ∧ a1 < 121) (cc : ∀ p, 0 ≤ p → p < pts → h 312 (256 * a1 + p) = x p ∧ h 320 p = u p) : OK (gX5_isFresh a1 h) (fun v => (v = 0 ∧ ¬ eqV pts x u) ∨ (v = 1 ∧ eqV pts x u)) := by
  unfold gX5_isFresh
  refine OK_jb (vX5_isFresh_l2 (pts := pts) (x := x) (u := u) _ _ (by (first | assumption | omega | ((try dsimp only [jt2, jt3, jt4]); first | omega | (simp (disch := omega) only [jst_eq, jst_ne, jst_ni, jst_o, jI_i, jcpy_out, w32_id, jdiv_nn, jshr_k, jand_255] <;> first | done | omega | assumption)) | (intros; simp (disch := omega) only [jst_eq, jst_ne, jst_ni, jst_o, jI_i, jcpy_out, w32_id, jdiv_nn, *] <;> first | done | omega) | (intros; simp (disch := omega) only [jst_eq, jst_ne, jst_ni, jst_o, jI_i, jcpy_out, w32_id, jdiv_nn] at * <;> first | done | omega | assumption) | (intros; first | rfl | (exfalso; omega) | ((repeat' apply And.intro) <;> first | assumption | rfl | omega | trivial)))) (by (first | assumption | omega | ((try dsimp only [jt2, jt3, jt4]); first | omega | (simp (disch := omega) only [jst_eq, jst_ne, jst_ni, jst_o, jI_i, jcpy_out, w32_id, jdiv_nn, jshr_k, jand_255] <;> first | done | omega | assumption)) | (intros; simp (disch := omega) only [jst_eq, jst_ne, jst_ni, jst_o, jI_i, jcpy_out, w32_id, jdiv_nn, *] <;> first | done | omega) | (intros; simp (disch := omega) only [jst_eq, jst_ne, jst_ni, jst_o, jI_i, jcpy_out, w32_id, jdiv_nn] at * <;> first | done | omega | assumption) | (intros; first | rfl | (exfalso; omega) | ((repeat' apply And.intro) <;> first | assumption | rfl | omega | trivial)))) (by (first | assumption | omega | ((try dsimp only [jt2, jt3, jt4]); first | omega | (simp (disch := omega) only [jst_eq, jst_ne, jst_ni, jst_o, jI_i, jcpy_out, w32_id, jdiv_nn, jshr_k, jand_255] <;> first | done | omega | assumption)) | (intros; simp (disch := omega) only [jst_eq, jst_ne, jst_ni, jst_o, jI_i, jcpy_out, w32_id, jdiv_nn, *] <;> first | done | omega) | (intros; simp (disch := omega) only [jst_eq, jst_ne, jst_ni, jst_o, jI_i, jcpy_out, w32_id, jdiv_nn] at * <;> first | done | omega | assumption) | (intros; first | rfl | (exfalso; omega) | ((repeat' apply And.intro) <;> first | assumption | rfl | omega | trivial))))) (fun o1 r1 => ?_)
  rcases o1 with o3 | o4
  · skip
    have r2 := r1; clear r1
    dsimp only [Sum.elim_inl, Sum.elim_inr] at r2
    try dsimp only [Sum.elim_inl, Sum.elim_inr, jt2, jt3, jt4, jt5, jt6, jt7, jt8] at r2
    have ne1 := r2
    clear r2
    try simp (disch := omega) only [jst_eq, jst_ne, jst_ni, jI_i, jcmp_lt, jcmp_gt, w32_id, jcpy_out, Sum.elim_inl, Sum.elim_inr, jt2, jt3, jt4, jt5, jt6, jt7, jt8] at ne1
    refine OK_jml ?_
    refine OK_some ?_
    try dsimp only [Sum.elim_inl, Sum.elim_inr, jt2, jt3, jt4, jt5, jt6, jt7, jt8]
    exact Or.inl ⟨rfl, ne1⟩ -- o4 e1
  · skip
    have r3 := r1; clear r1
    dsimp only [Sum.elim_inl, Sum.elim_inr] at r3
    try dsimp only [Sum.elim_inl, Sum.elim_inr, jt2, jt3, jt4, jt5, jt6, jt7, jt8] at r3
    have al2 := r3
    clear r3
    try simp (disch := omega) only [jst_eq, jst_ne, jst_ni, jI_i, jcmp_lt, jcmp_gt, w32_id, jcpy_out, Sum.elim_inl, Sum.elim_inr, jt2, jt3, jt4, jt5, jt6, jt7, jt8] at al2
    refine OK_jmr ?_
    refine OK_some ?_
    try dsimp only [Sum.elim_inl, Sum.elim_inr, jt2, jt3, jt4, jt5, jt6, jt7, jt8]
    exact Or.inr ⟨rfl, al2⟩ -- o5 e2
def hsT (u : Int → Int) (k : Int) : Nat → Int
  | 0 => k
  | m + 1 => w32 (w32 (hsT u k m * 31) + u m)
theorem hsT_eq {x u : Int → Int} {k : Int} : ∀ m : Nat, (∀ p, 0 ≤ p → p < (m : Int) → x p = u p) → hsT x k m = hsT u k m
  | 0, _ => rfl
  | m + 1, e => by
    show w32 (w32 (hsT x k m * 31) + x m) = w32 (w32 (hsT u k m * 31) + u m)
    rw [hsT_eq m (fun p p0 p1 => e p p0 (by omega)), e m (by omega) (by omega)]
theorem hsT_e {x u : Int → Int} {k pts : Int} (e : eqV pts x u) (p0 : 0 ≤ pts) : hsT x k pts.toNat = hsT u k pts.toNat := hsT_eq _ (fun p a b => e p a (by omega))
def up1 {α : Type} (f : Int → α) (n : Int) (x : α) : Int → α := fun a => if a = n then x else f a
theorem up1_e {α : Type} {f : Int → α} {n : Int} {x : α} : up1 f n x n = x := if_pos rfl
theorem up1_o {α : Type} {f : Int → α} {n a : Int} {x : α} (h : a ≠ n) : up1 f n x a = f a := if_neg h
/-- x's table of functions -/
def tbX (h : AH) (N : Int) (kd wt hd : Int → Int) (op vl : Int → Int → Int) (pts : Int) : Prop := isX4 (h 200 16) ∧ h (h 200 16) 18 = pts ∧ 0 ≤ pts ∧ pts ≤ 256 ∧ h 307 0 = N ∧ 0 ≤ N ∧ N ≤ 120 ∧ ∀ a, 0 ≤ a → a < N → h 308 a = kd a ∧ h 309 a = wt a ∧ h 310 a = hd a ∧ (∀ k, 0 ≤ k → k < 3 → h 311 (3 * a + k) = op a k) ∧ (∀ p, 0 ≤ p → p < pts → h 312 (256 * a + p) = vl a p) ∧ h 313 a = hsT (vl a) (kd a) pts.toNat
def frP (N pts : Int) (h h' : AH) : Prop := ∀ a s, ¬ (a = 307 ∧ s = 0) → ¬ ((a = 308 ∨ a = 309 ∨ a = 310 ∨ a = 313 ∨ a = 315) ∧ s = N) → ¬ (a = 311 ∧ 3 * N ≤ s ∧ s < 3 * N + 3) → ¬ (a = 312 ∧ 256 * N ≤ s ∧ s < 256 * N + pts) → h' a s = h a s
def op3 (a b c : Int) (k : Int) : Int := if k = 0 then a else if k = 1 then b else c
theorem tbX_add {h h' : AH} {N pts k w d a b c : Int} {kd wt hd : Int → Int} {op vl : Int → Int → Int} {u : Int → Int} (t : tbX h N kd wt hd op vl pts) (n : N < 120) (f : frP N pts h h') (e0 : h' 307 0 = N + 1) (e1 : h' 308 N = k) (e2 : h' 309 N = w) (e3 : h' 310 N = d) (e4 : ∀ i, 0 ≤ i → i < 3 → h' 311 (3 * N + i) = op3 a b c i) (e5 : ∀ p, 0 ≤ p → p < pts → h' 312 (256 * N + p) = u p) (e6 : h' 313 N = hsT u k pts.toNat) : tbX h' (N + 1) (up1 kd N k) (up1 wt N w) (up1 hd N d) (up1 op N (op3 a b c)) (up1 vl N u) pts := by
  obtain ⟨t1, t2, t3, t4, t5, t6, t7, t8⟩ := t
  have x4 : h 200 16 = 271 ∨ h 200 16 = 289 := t1
  have e16 : h' 200 16 = h 200 16 := f _ _ (by omega) (by omega) (by omega) (by omega)
  refine ⟨by rw [e16]; exact t1, by rw [e16, f _ _ (by omega) (by omega) (by omega) (by omega)]; exact t2, t3, t4, e0, by omega, by omega, fun x x0 x1 => ?_⟩
  by_cases y : x = N
  · rw [y, up1_e, up1_e, up1_e, up1_e, up1_e]
    exact ⟨e1, e2, e3, e4, e5, e6⟩
  · rw [up1_o y, up1_o y, up1_o y, up1_o y, up1_o y]
    obtain ⟨c1, c2, c3, c4, c5, c6⟩ := t8 x x0 (by omega)
    refine ⟨?_, ?_, ?_, fun i i0 i1 => ?_, fun p p0 p1 => ?_, ?_⟩
    · rw [f _ _ (by omega) (by omega) (by omega) (by omega)]; exact c1
    · rw [f _ _ (by omega) (by omega) (by omega) (by omega)]; exact c2
    · rw [f _ _ (by omega) (by omega) (by omega) (by omega)]; exact c3
    · rw [f _ _ (by omega) (by omega) (by omega) (by omega)]; exact c4 i i0 i1
    · rw [f _ _ (by omega) (by omega) (by omega) (by omega)]; exact c5 p p0 p1
    · rw [f _ _ (by omega) (by omega) (by omega) (by omega)]; exact c6
theorem vX5_place_l6 (i1 : Int) (i2 : Int) (i3 : Int) (i4 : Int) (i5 : Int) (i6 : Int) (a70 : Int) (a80 : Int) {h : AH} {pts : Int} {u : Int → Int} (b : h (h 200 16) 18 = pts ∧ 0 ≤ pts ∧ pts ≤ 256) (cc : ∀ p, 0 ≤ p → p < pts → h 320 p = u p) (z : a70 = i1 ∧ a80 = 0) : OK (gX5_place_l6 i1 i2 i3 i4 i5 i6 a70 a80 h) (fun v => v = hsT u i1 pts.toNat) := by
  unfold gX5_place_l6
  refine OK_jit (I := (fun (s : Int × Int) => jt2 s fun a7 a8 => (0 ≤ a8 ∧ a8 ≤ pts) ∧ (a7 = hsT u i1 a8.toNat))) (m := (fun (s : Int × Int) => jt2 s fun a7 a8 => (pts - a8).toNat)) ?_ ?_
  · intro s hs
    obtain ⟨a7, a8⟩ := s
    dsimp only [Sum.elim_inl, Sum.elim_inr, jt2, jt3, jt4, jt5, jt6, jt7, jt8] at hs
    obtain ⟨q0, q1⟩ := hs
    unfold gX5_place_b6
    refine OK_jt2 ?_
    refine OK_jb (vX5_points) (fun v21 r1 => ?_)
    try dsimp only [Sum.elim_inl, Sum.elim_inr, jt2, jt3, jt4, jt5, jt6, jt7, jt8] at r1
    have pp1 := r1
    clear r1
    try simp (disch := omega) only [jst_eq, jst_ne, jst_ni, jI_i, jcmp_lt, jcmp_gt, w32_id, jcpy_out, Sum.elim_inl, Sum.elim_inr, jt2, jt3, jt4, jt5, jt6, jt7, jt8] at pp1
    refine OK_if (fun c1 => ?_) (fun c1 => ?_)
    · skip
      try simp (disch := omega) only [jst_eq, jst_ne, jst_ni, jI_i, jcmp_lt, jcmp_gt, w32_id, jcpy_out, Sum.elim_inl, Sum.elim_inr, jt2, jt3, jt4, jt5, jt6, jt7, jt8] at c1
      refine OK_ir ?_
      (rw [q1, show a8 = pts by omega]) -- o1 e1
    · skip
      try simp (disch := omega) only [jst_eq, jst_ne, jst_ni, jI_i, jcmp_lt, jcmp_gt, w32_id, jcpy_out, Sum.elim_inl, Sum.elim_inr, jt2, jt3, jt4, jt5, jt6, jt7, jt8] at c1
      have st : hsT u i1 (a8 + 1).toNat = w32 (w32 (hsT u i1 a8.toNat * 31) + u a8) := by { rw [show (a8 + 1).toNat = a8.toNat + 1 by omega]; show w32 (w32 (hsT u i1 a8.toNat * 31) + u ((a8.toNat : Nat) : Int)) = _; rw [show ((a8.toNat : Nat) : Int) = a8 by omega] }
      refine OK_jg (by (first | assumption | omega | ((try dsimp only [jt2, jt3, jt4]); first | omega | (simp (disch := omega) only [jst_eq, jst_ne, jst_ni, jst_o, jI_i, jcpy_out, w32_id, jdiv_nn, jshr_k, jand_255] <;> first | done | omega | assumption)) | (intros; simp (disch := omega) only [jst_eq, jst_ne, jst_ni, jst_o, jI_i, jcpy_out, w32_id, jdiv_nn, *] <;> first | done | omega) | (intros; simp (disch := omega) only [jst_eq, jst_ne, jst_ni, jst_o, jI_i, jcpy_out, w32_id, jdiv_nn] at * <;> first | done | omega | assumption) | (intros; first | rfl | (exfalso; omega) | ((repeat' apply And.intro) <;> first | assumption | rfl | omega | trivial)))) ?_ -- o2
      refine OK_jlx (fun x23 ex23 => ?_)
      try simp (disch := omega) only [jst_eq, jst_ne, jst_ni, jI_i, jcmp_lt, jcmp_gt, w32_id, jcpy_out, Sum.elim_inl, Sum.elim_inr, jt2, jt3, jt4, jt5, jt6, jt7, jt8] at ex23
      refine OK_jlx (fun x24 ex24 => ?_)
      try simp (disch := omega) only [jst_eq, jst_ne, jst_ni, jI_i, jcmp_lt, jcmp_gt, w32_id, jcpy_out, Sum.elim_inl, Sum.elim_inr, jt2, jt3, jt4, jt5, jt6, jt7, jt8] at ex24
      refine OK_il ?_ ?_
      · try dsimp only [Sum.elim_inl, Sum.elim_inr, jt2, jt3, jt4, jt5, jt6, jt7, jt8]
        refine ⟨?_, ?_⟩
        · (first | assumption | omega | ((try dsimp only [jt2, jt3, jt4]); first | omega | (simp (disch := omega) only [jst_eq, jst_ne, jst_ni, jst_o, jI_i, jcpy_out, w32_id, jdiv_nn, jshr_k, jand_255] <;> first | done | omega | assumption)) | (intros; simp (disch := omega) only [jst_eq, jst_ne, jst_ni, jst_o, jI_i, jcpy_out, w32_id, jdiv_nn, *] <;> first | done | omega) | (intros; simp (disch := omega) only [jst_eq, jst_ne, jst_ni, jst_o, jI_i, jcpy_out, w32_id, jdiv_nn] at * <;> first | done | omega | assumption) | (intros; first | rfl | (exfalso; omega) | ((repeat' apply And.intro) <;> first | assumption | rfl | omega | trivial))) -- o3 e2i.1
        · (rw [show x24 = a8 + 1 by omega, st, ex23, q1, cc a8 q0.1 (by omega)]) -- o4 e2i.2
      · (first | assumption | omega | ((try dsimp only [jt2, jt3, jt4]); first | omega | (simp (disch := omega) only [jst_eq, jst_ne, jst_ni, jst_o, jI_i, jcpy_out, w32_id, jdiv_nn, jshr_k, jand_255] <;> first | done | omega | assumption)) | (intros; simp (disch := omega) only [jst_eq, jst_ne, jst_ni, jst_o, jI_i, jcpy_out, w32_id, jdiv_nn, *] <;> first | done | omega) | (intros; simp (disch := omega) only [jst_eq, jst_ne, jst_ni, jst_o, jI_i, jcpy_out, w32_id, jdiv_nn] at * <;> first | done | omega | assumption) | (intros; first | rfl | (exfalso; omega) | ((repeat' apply And.intro) <;> first | assumption | rfl | omega | trivial))) -- o5 e2m
  · try dsimp only [Sum.elim_inl, Sum.elim_inr, jt2, jt3, jt4, jt5, jt6, jt7, jt8]
    refine ⟨?_, ?_⟩
    · (first | assumption | omega | ((try dsimp only [jt2, jt3, jt4]); first | omega | (simp (disch := omega) only [jst_eq, jst_ne, jst_ni, jst_o, jI_i, jcpy_out, w32_id, jdiv_nn, jshr_k, jand_255] <;> first | done | omega | assumption)) | (intros; simp (disch := omega) only [jst_eq, jst_ne, jst_ni, jst_o, jI_i, jcpy_out, w32_id, jdiv_nn, *] <;> first | done | omega) | (intros; simp (disch := omega) only [jst_eq, jst_ne, jst_ni, jst_o, jI_i, jcpy_out, w32_id, jdiv_nn] at * <;> first | done | omega | assumption) | (intros; first | rfl | (exfalso; omega) | ((repeat' apply And.intro) <;> first | assumption | rfl | omega | trivial))) -- o6 init.1
    · (rw [z.1, z.2]; rfl) -- o7 init.2
theorem vX5_place_l39 (i1 : Int) (i2 : Int) (i3 : Int) (i4 : Int) (i5 : Int) (i6 : Int) (i7 : Int) (a80 : Int) {h : AH} {N pts : Int} {kd wt hd : Int → Int} {op vl : Int → Int → Int} {u : Int → Int} (t : tbX h N kd wt hd op vl pts) (cc : ∀ p, 0 ≤ p → p < pts → h 320 p = u p) (hs : i7 = hsT u i1 pts.toNat) (z : a80 = 0) : OK (gX5_place_l39 i1 i2 i3 i4 i5 i6 i7 a80 h) (Sum.elim (fun o => 0 ≤ o ∧ o < N ∧ kd o = i1 ∧ eqV pts (vl o) u) (fun _ => ∀ o, 0 ≤ o → o < N → ¬ (kd o = i1 ∧ eqV pts (vl o) u))) := by
  unfold gX5_place_l39
  refine OK_jit (I := (fun (a8 : Int) => (0 ≤ a8 ∧ a8 ≤ N) ∧ (∀ o, 0 ≤ o → o < a8 → ¬ (kd o = i1 ∧ eqV pts (vl o) u)))) (m := (fun (a8 : Int) => (N - a8).toNat)) ?_ ?_
  · intro a8 hs
    try dsimp only at hs
    obtain ⟨q0, q1⟩ := hs
    unfold gX5_place_b39
    obtain ⟨t1, t2, t3, t4, t5, t6, t7, t8⟩ := t
    refine OK_if (fun c1 => ?_) (fun c1 => ?_)
    · skip
      try simp (disch := omega) only [jst_eq, jst_ne, jst_ni, jI_i, jcmp_lt, jcmp_gt, w32_id, jcpy_out, Sum.elim_inl, Sum.elim_inr, jt2, jt3, jt4, jt5, jt6, jt7, jt8] at c1
      refine OK_ir ?_
      exact fun o o0 o1 => q1 o o0 (by omega) -- o1 e1
    · skip
      try simp (disch := omega) only [jst_eq, jst_ne, jst_ni, jI_i, jcmp_lt, jcmp_gt, w32_id, jcpy_out, Sum.elim_inl, Sum.elim_inr, jt2, jt3, jt4, jt5, jt6, jt7, jt8] at c1
      have T8 := t8 a8 q0.1 (by omega)
      refine OK_jg (by (first | assumption | omega | ((try dsimp only [jt2, jt3, jt4]); first | omega | (simp (disch := omega) only [jst_eq, jst_ne, jst_ni, jst_o, jI_i, jcpy_out, w32_id, jdiv_nn, jshr_k, jand_255] <;> first | done | omega | assumption)) | (intros; simp (disch := omega) only [jst_eq, jst_ne, jst_ni, jst_o, jI_i, jcpy_out, w32_id, jdiv_nn, *] <;> first | done | omega) | (intros; simp (disch := omega) only [jst_eq, jst_ne, jst_ni, jst_o, jI_i, jcpy_out, w32_id, jdiv_nn] at * <;> first | done | omega | assumption) | (intros; first | rfl | (exfalso; omega) | ((repeat' apply And.intro) <;> first | assumption | rfl | omega | trivial)))) ?_ -- o2
      refine OK_if (fun c2 => ?_) (fun c2 => ?_)
      · skip
        try simp (disch := omega) only [jst_eq, jst_ne, jst_ni, jI_i, jcmp_lt, jcmp_gt, w32_id, jcpy_out, Sum.elim_inl, Sum.elim_inr, jt2, jt3, jt4, jt5, jt6, jt7, jt8] at c2
        refine OK_if (fun c3 => ?_) (fun c3 => ?_)
        · skip
          try simp (disch := omega) only [jst_eq, jst_ne, jst_ni, jI_i, jcmp_lt, jcmp_gt, w32_id, jcpy_out, Sum.elim_inl, Sum.elim_inr, jt2, jt3, jt4, jt5, jt6, jt7, jt8] at c3
          refine OK_jb (vX5_isFresh (pts := pts) (x := vl a8) (u := u) _ (by exact ⟨t2, t3, t4, q0.1, by omega⟩) (by exact fun p p0 p1 => ⟨T8.2.2.2.2.1 p p0 p1, cc p p0 p1⟩)) (fun v29 r1 => ?_)
          try dsimp only [Sum.elim_inl, Sum.elim_inr, jt2, jt3, jt4, jt5, jt6, jt7, jt8] at r1
          have fv1 := r1
          clear r1
          try simp (disch := omega) only [jst_eq, jst_ne, jst_ni, jI_i, jcmp_lt, jcmp_gt, w32_id, jcpy_out, Sum.elim_inl, Sum.elim_inr, jt2, jt3, jt4, jt5, jt6, jt7, jt8] at fv1
          have e29 : (v29 = 0 ∧ ¬ eqV pts (vl a8) u) ∨ (v29 = 1 ∧ eqV pts (vl a8) u) := by first | assumption | exact fv1
          refine OK_if (fun c4 => ?_) (fun c4 => ?_)
          · skip
            try simp (disch := omega) only [jst_eq, jst_ne, jst_ni, jI_i, jcmp_lt, jcmp_gt, w32_id, jcpy_out, Sum.elim_inl, Sum.elim_inr, jt2, jt3, jt4, jt5, jt6, jt7, jt8] at c4
            unfold gX5_place_j83_39
            refine OK_jlx (fun x31 ex31 => ?_)
            try simp (disch := omega) only [jst_eq, jst_ne, jst_ni, jI_i, jcmp_lt, jcmp_gt, w32_id, jcpy_out, Sum.elim_inl, Sum.elim_inr, jt2, jt3, jt4, jt5, jt6, jt7, jt8] at ex31
            refine OK_il ?_ ?_
            · try dsimp only [Sum.elim_inl, Sum.elim_inr, jt2, jt3, jt4, jt5, jt6, jt7, jt8]
              refine ⟨?_, ?_⟩
              · (first | assumption | omega | ((try dsimp only [jt2, jt3, jt4]); first | omega | (simp (disch := omega) only [jst_eq, jst_ne, jst_ni, jst_o, jI_i, jcpy_out, w32_id, jdiv_nn, jshr_k, jand_255] <;> first | done | omega | assumption)) | (intros; simp (disch := omega) only [jst_eq, jst_ne, jst_ni, jst_o, jI_i, jcpy_out, w32_id, jdiv_nn, *] <;> first | done | omega) | (intros; simp (disch := omega) only [jst_eq, jst_ne, jst_ni, jst_o, jI_i, jcpy_out, w32_id, jdiv_nn] at * <;> first | done | omega | assumption) | (intros; first | rfl | (exfalso; omega) | ((repeat' apply And.intro) <;> first | assumption | rfl | omega | trivial))) -- o5 e2i.1
              · (intro o o0 o1; by_cases y : o = a8; { rw [y]; rcases e29 with e | e; { exact fun k => e.2 k.2 }; { omega } }; { exact q1 o o0 (by omega) }) -- o6 e2i.2
            · (first | assumption | omega | ((try dsimp only [jt2, jt3, jt4]); first | omega | (simp (disch := omega) only [jst_eq, jst_ne, jst_ni, jst_o, jI_i, jcpy_out, w32_id, jdiv_nn, jshr_k, jand_255] <;> first | done | omega | assumption)) | (intros; simp (disch := omega) only [jst_eq, jst_ne, jst_ni, jst_o, jI_i, jcpy_out, w32_id, jdiv_nn, *] <;> first | done | omega) | (intros; simp (disch := omega) only [jst_eq, jst_ne, jst_ni, jst_o, jI_i, jcpy_out, w32_id, jdiv_nn] at * <;> first | done | omega | assumption) | (intros; first | rfl | (exfalso; omega) | ((repeat' apply And.intro) <;> first | assumption | rfl | omega | trivial))) -- o7 e2m
          · skip
            try simp (disch := omega) only [jst_eq, jst_ne, jst_ni, jI_i, jcmp_lt, jcmp_gt, w32_id, jcpy_out, Sum.elim_inl, Sum.elim_inr, jt2, jt3, jt4, jt5, jt6, jt7, jt8] at c4
            refine OK_ir ?_
            (refine ⟨q0.1, by omega, ?_, ?_⟩; { rw [← T8.1]; assumption }; { rcases e29 with e | e; { omega }; { exact e.2 } }) -- o8 e3
        · skip
          try simp (disch := omega) only [jst_eq, jst_ne, jst_ni, jI_i, jcmp_lt, jcmp_gt, w32_id, jcpy_out, Sum.elim_inl, Sum.elim_inr, jt2, jt3, jt4, jt5, jt6, jt7, jt8] at c3
          have hne : ¬ eqV pts (vl a8) u := fun y => by { have e := hsT_e (k := kd a8) y t3; have k1 := T8.1; have k6 := T8.2.2.2.2.2; have k7 : kd a8 = i1 := (by omega); rw [e, k7, ← hs] at k6; omega }
          unfold gX5_place_j83_39
          refine OK_jlx (fun x31 ex31 => ?_)
          try simp (disch := omega) only [jst_eq, jst_ne, jst_ni, jI_i, jcmp_lt, jcmp_gt, w32_id, jcpy_out, Sum.elim_inl, Sum.elim_inr, jt2, jt3, jt4, jt5, jt6, jt7, jt8] at ex31
          refine OK_il ?_ ?_
          · try dsimp only [Sum.elim_inl, Sum.elim_inr, jt2, jt3, jt4, jt5, jt6, jt7, jt8]
            refine ⟨?_, ?_⟩
            · (first | assumption | omega | ((try dsimp only [jt2, jt3, jt4]); first | omega | (simp (disch := omega) only [jst_eq, jst_ne, jst_ni, jst_o, jI_i, jcpy_out, w32_id, jdiv_nn, jshr_k, jand_255] <;> first | done | omega | assumption)) | (intros; simp (disch := omega) only [jst_eq, jst_ne, jst_ni, jst_o, jI_i, jcpy_out, w32_id, jdiv_nn, *] <;> first | done | omega) | (intros; simp (disch := omega) only [jst_eq, jst_ne, jst_ni, jst_o, jI_i, jcpy_out, w32_id, jdiv_nn] at * <;> first | done | omega | assumption) | (intros; first | rfl | (exfalso; omega) | ((repeat' apply And.intro) <;> first | assumption | rfl | omega | trivial))) -- o9 e4i.1
            · (intro o o0 o1; by_cases y : o = a8; { rw [y]; exact fun k => hne k.2 }; { exact q1 o o0 (by omega) }) -- o10 e4i.2
          · (first | assumption | omega | ((try dsimp only [jt2, jt3, jt4]); first | omega | (simp (disch := omega) only [jst_eq, jst_ne, jst_ni, jst_o, jI_i, jcpy_out, w32_id, jdiv_nn, jshr_k, jand_255] <;> first | done | omega | assumption)) | (intros; simp (disch := omega) only [jst_eq, jst_ne, jst_ni, jst_o, jI_i, jcpy_out, w32_id, jdiv_nn, *] <;> first | done | omega) | (intros; simp (disch := omega) only [jst_eq, jst_ne, jst_ni, jst_o, jI_i, jcpy_out, w32_id, jdiv_nn] at * <;> first | done | omega | assumption) | (intros; first | rfl | (exfalso; omega) | ((repeat' apply And.intro) <;> first | assumption | rfl | omega | trivial))) -- o11 e4m
      · skip
        try simp (disch := omega) only [jst_eq, jst_ne, jst_ni, jI_i, jcmp_lt, jcmp_gt, w32_id, jcpy_out, Sum.elim_inl, Sum.elim_inr, jt2, jt3, jt4, jt5, jt6, jt7, jt8] at c2
        unfold gX5_place_j83_39
        refine OK_jlx (fun x31 ex31 => ?_)
        try simp (disch := omega) only [jst_eq, jst_ne, jst_ni, jI_i, jcmp_lt, jcmp_gt, w32_id, jcpy_out, Sum.elim_inl, Sum.elim_inr, jt2, jt3, jt4, jt5, jt6, jt7, jt8] at ex31
        refine OK_il ?_ ?_
        · try dsimp only [Sum.elim_inl, Sum.elim_inr, jt2, jt3, jt4, jt5, jt6, jt7, jt8]
          refine ⟨?_, ?_⟩
          · (first | assumption | omega | ((try dsimp only [jt2, jt3, jt4]); first | omega | (simp (disch := omega) only [jst_eq, jst_ne, jst_ni, jst_o, jI_i, jcpy_out, w32_id, jdiv_nn, jshr_k, jand_255] <;> first | done | omega | assumption)) | (intros; simp (disch := omega) only [jst_eq, jst_ne, jst_ni, jst_o, jI_i, jcpy_out, w32_id, jdiv_nn, *] <;> first | done | omega) | (intros; simp (disch := omega) only [jst_eq, jst_ne, jst_ni, jst_o, jI_i, jcpy_out, w32_id, jdiv_nn] at * <;> first | done | omega | assumption) | (intros; first | rfl | (exfalso; omega) | ((repeat' apply And.intro) <;> first | assumption | rfl | omega | trivial))) -- o12 e5i.1
          · (intro o o0 o1; by_cases y : o = a8; { rw [y]; exact fun k => by have := T8.1; have := k.1; omega }; { exact q1 o o0 (by omega) }) -- o13 e5i.2
        · (first | assumption | omega | ((try dsimp only [jt2, jt3, jt4]); first | omega | (simp (disch := omega) only [jst_eq, jst_ne, jst_ni, jst_o, jI_i, jcpy_out, w32_id, jdiv_nn, jshr_k, jand_255] <;> first | done | omega | assumption)) | (intros; simp (disch := omega) only [jst_eq, jst_ne, jst_ni, jst_o, jI_i, jcpy_out, w32_id, jdiv_nn, *] <;> first | done | omega) | (intros; simp (disch := omega) only [jst_eq, jst_ne, jst_ni, jst_o, jI_i, jcpy_out, w32_id, jdiv_nn] at * <;> first | done | omega | assumption) | (intros; first | rfl | (exfalso; omega) | ((repeat' apply And.intro) <;> first | assumption | rfl | omega | trivial))) -- o14 e5m
  · try dsimp only [Sum.elim_inl, Sum.elim_inr, jt2, jt3, jt4, jt5, jt6, jt7, jt8]
    refine ⟨?_, ?_⟩
    · (have := t.2.2.2.2.2.1; omega) -- o15 init.1
    · (first | assumption | omega | ((try dsimp only [jt2, jt3, jt4]); first | omega | (simp (disch := omega) only [jst_eq, jst_ne, jst_ni, jst_o, jI_i, jcpy_out, w32_id, jdiv_nn, jshr_k, jand_255] <;> first | done | omega | assumption)) | (intros; simp (disch := omega) only [jst_eq, jst_ne, jst_ni, jst_o, jI_i, jcpy_out, w32_id, jdiv_nn, *] <;> first | done | omega) | (intros; simp (disch := omega) only [jst_eq, jst_ne, jst_ni, jst_o, jI_i, jcpy_out, w32_id, jdiv_nn] at * <;> first | done | omega | assumption) | (intros; first | rfl | (exfalso; omega) | ((repeat' apply And.intro) <;> first | assumption | rfl | omega | trivial))) -- o16 init.2

