/-! x: levels up to a price -/
def cnX (h : AH) (cn : Int → Int → Int) : Prop := ∀ q f, 0 ≤ q → q ≤ 12 → 0 ≤ f → f < 120 → h 321 (120 * q + f) = if 1 ≤ q ∧ q ≤ h 307 17 then cn q f else 0
def lenX (h : AH) : Prop := (h 316 (-2) = 103 ∧ h 316 (-1) = 172800) ∧ (h 317 (-2) = 103 ∧ h 317 (-1) = 1728000) ∧ (h 321 (-2) = 102 ∧ h 321 (-1) = 1560)
theorem lenX_S {h h' : AH} (l : lenX h) (f : fS h h') : lenX h' := by
  unfold lenX
  rw [f 316 _ (by omega) (by omega) (by omega) (by omega), f 316 _ (by omega) (by omega) (by omega) (by omega), f 317 _ (by omega) (by omega) (by omega) (by omega), f 317 _ (by omega) (by omega) (by omega) (by omega), f 321 _ (by omega) (by omega) (by omega) (by omega), f 321 _ (by omega) (by omega) (by omega) (by omega)]
  exact l
/-- x's search, where it stands: levels that are whole, whether the next one found no room -/
def GSx (h : AH) (E : EV) (W : Int → Int → Int → VW) (A : AD) (pts : Int) (M : Int → (Int → Int) → Prop) (cn : Int → Int → Int) (d : Nat) (fl : Int) : Prop := RSd E W pts A d fl ∧ h 307 7 = d ∧ h 307 8 = (if fl = 1 then (d : Int) + 1 else 13) ∧ (0 ≤ h 307 17 ∧ h 307 17 ≤ d) ∧ ((d = 0 ∧ fl = 0 ∧ h 307 0 = 0) ∨ ∃ T, XI h E W A pts M T ∧ eQ (LV E W pts A d) (d + 1) T ∧ (fl = 0 → T = LV E W pts A d) ∧ (∀ m : Nat, m ≤ d → h 314 m = (LV E W pts A m).1) ∧ cnX h cn)
theorem XI_f {h h' : AH} {E : EV} {W : Int → Int → Int → VW} {A : AD} {pts : Int} {M : Int → (Int → Int) → Prop} {T : TB} (f : ∀ a s, ¬ (a = 307 ∧ s ≠ 0) → ¬ (a = 314 ∨ a = 321) → h' a s = h a s) (x : XI h E W A pts M T) : XI h' E W A pts M T := by
  obtain ⟨x1, x2, x3, x4, x5⟩ := x
  refine ⟨x1, ?_, caX_f (fun a s y => f a s (by omega) (by omega)) x3, meX_f (fun s _ _ => f 315 s (by omega) (by omega)) x4, x5⟩
  unfold tX tbX at *
  obtain ⟨t1, t2, t3, t4, t5, t6, t7, t8⟩ := x2
  have xx : h 200 16 = 271 ∨ h 200 16 = 289 := t1
  have e16 : h' 200 16 = h 200 16 := f _ _ (by omega) (by omega)
  refine ⟨by rw [e16]; exact t1, by rw [e16, f _ _ (by omega) (by omega)]; exact t2, t3, t4, by rw [f _ _ (by omega) (by omega)]; exact t5, t6, t7, fun x x0 x1 => ?_⟩
  obtain ⟨c1, c2, c3, c4, c5, c6⟩ := t8 x x0 x1
  refine ⟨?_, ?_, ?_, fun i i0 i1 => ?_, fun p p0 p1 => ?_, ?_⟩
  · rw [f _ _ (by omega) (by omega)]; exact c1
  · rw [f _ _ (by omega) (by omega)]; exact c2
  · rw [f _ _ (by omega) (by omega)]; exact c3
  · rw [f _ _ (by omega) (by omega)]; exact c4 i i0 i1
  · rw [f _ _ (by omega) (by omega)]; exact c5 p p0 p1
  · rw [f _ _ (by omega) (by omega)]; exact c6
theorem vX5_begin {h : AH} (l : lenX h) : OK (gX5_begin h) (fun h' => ∀ a s, h' a s = if (a = 316 ∧ 0 ≤ s ∧ s < 172800) ∨ (a = 317 ∧ 0 ≤ s ∧ s < 1728000) ∨ (a = 321 ∧ 0 ≤ s ∧ s < 1560) ∨ (a = 314 ∧ s = 0) then 0 else h a s) := by
  obtain ⟨⟨l1, l2⟩, ⟨l3, l4⟩, l5, l6⟩ := l
  unfold gX5_begin
  refine OK_jb (vJ6_fill _ _ (by (first | ((rw [G2 _ _ (by omega)]; omega)) | ((rw [G4 _ _ (by omega), G2 _ _ (by omega)]; omega)) | ((refine ⟨?_, ?_⟩ <;> rw [G2 _ _ (by omega)] <;> omega)) | ((refine ⟨?_, ?_⟩ <;> rw [G4 _ _ (by omega), G2 _ _ (by omega)] <;> omega)) | (first | assumption | omega | ((try dsimp only [jt2, jt3, jt4]); first | omega | (simp (disch := omega) only [jst_eq, jst_ne, jst_ni, jst_o, jI_i, jcpy_out, w32_id, jdiv_nn, jshr_k, jand_255] <;> first | done | omega | assumption)) | (intros; simp (disch := omega) only [jst_eq, jst_ne, jst_ni, jst_o, jI_i, jcpy_out, w32_id, jdiv_nn, *] <;> first | done | omega) | (intros; simp (disch := omega) only [jst_eq, jst_ne, jst_ni, jst_o, jI_i, jcpy_out, w32_id, jdiv_nn] at * <;> first | done | omega | assumption) | (intros; first | rfl | (exfalso; omega) | ((repeat' apply And.intro) <;> first | assumption | rfl | omega | trivial))))) (by (first | ((rw [G2 _ _ (by omega)]; omega)) | ((rw [G4 _ _ (by omega), G2 _ _ (by omega)]; omega)) | ((refine ⟨?_, ?_⟩ <;> rw [G2 _ _ (by omega)] <;> omega)) | ((refine ⟨?_, ?_⟩ <;> rw [G4 _ _ (by omega), G2 _ _ (by omega)] <;> omega)) | (first | assumption | omega | ((try dsimp only [jt2, jt3, jt4]); first | omega | (simp (disch := omega) only [jst_eq, jst_ne, jst_ni, jst_o, jI_i, jcpy_out, w32_id, jdiv_nn, jshr_k, jand_255] <;> first | done | omega | assumption)) | (intros; simp (disch := omega) only [jst_eq, jst_ne, jst_ni, jst_o, jI_i, jcpy_out, w32_id, jdiv_nn, *] <;> first | done | omega) | (intros; simp (disch := omega) only [jst_eq, jst_ne, jst_ni, jst_o, jI_i, jcpy_out, w32_id, jdiv_nn] at * <;> first | done | omega | assumption) | (intros; first | rfl | (exfalso; omega) | ((repeat' apply And.intro) <;> first | assumption | rfl | omega | trivial))))) (by (first | ((rw [G2 _ _ (by omega)]; omega)) | ((rw [G4 _ _ (by omega), G2 _ _ (by omega)]; omega)) | ((refine ⟨?_, ?_⟩ <;> rw [G2 _ _ (by omega)] <;> omega)) | ((refine ⟨?_, ?_⟩ <;> rw [G4 _ _ (by omega), G2 _ _ (by omega)] <;> omega)) | (first | assumption | omega | ((try dsimp only [jt2, jt3, jt4]); first | omega | (simp (disch := omega) only [jst_eq, jst_ne, jst_ni, jst_o, jI_i, jcpy_out, w32_id, jdiv_nn, jshr_k, jand_255] <;> first | done | omega | assumption)) | (intros; simp (disch := omega) only [jst_eq, jst_ne, jst_ni, jst_o, jI_i, jcpy_out, w32_id, jdiv_nn, *] <;> first | done | omega) | (intros; simp (disch := omega) only [jst_eq, jst_ne, jst_ni, jst_o, jI_i, jcpy_out, w32_id, jdiv_nn] at * <;> first | done | omega | assumption) | (intros; first | rfl | (exfalso; omega) | ((repeat' apply And.intro) <;> first | assumption | rfl | omega | trivial)))))) (fun h2 r1 => ?_)
  try dsimp only [Sum.elim_inl, Sum.elim_inr, jt2, jt3, jt4, jt5, jt6, jt7, jt8] at r1
  have v1 := r1
  clear r1
  try simp (disch := omega) only [jst_eq, jst_ne, jst_ni, jI_i, jcmp_lt, jcmp_gt, w32_id, jcpy_out, Sum.elim_inl, Sum.elim_inr, jt2, jt3, jt4, jt5, jt6, jt7, jt8] at v1
  have G2 : ∀ a s, ¬ (a = 316 ∧ 0 ≤ s) → h2 a s = h a s := fun a s y => by { rw [v1, if_neg (by omega)] }
  refine OK_jb (vJ6_fill _ _ (by (first | ((rw [G2 _ _ (by omega)]; omega)) | ((rw [G4 _ _ (by omega), G2 _ _ (by omega)]; omega)) | ((refine ⟨?_, ?_⟩ <;> rw [G2 _ _ (by omega)] <;> omega)) | ((refine ⟨?_, ?_⟩ <;> rw [G4 _ _ (by omega), G2 _ _ (by omega)] <;> omega)) | (first | assumption | omega | ((try dsimp only [jt2, jt3, jt4]); first | omega | (simp (disch := omega) only [jst_eq, jst_ne, jst_ni, jst_o, jI_i, jcpy_out, w32_id, jdiv_nn, jshr_k, jand_255] <;> first | done | omega | assumption)) | (intros; simp (disch := omega) only [jst_eq, jst_ne, jst_ni, jst_o, jI_i, jcpy_out, w32_id, jdiv_nn, *] <;> first | done | omega) | (intros; simp (disch := omega) only [jst_eq, jst_ne, jst_ni, jst_o, jI_i, jcpy_out, w32_id, jdiv_nn] at * <;> first | done | omega | assumption) | (intros; first | rfl | (exfalso; omega) | ((repeat' apply And.intro) <;> first | assumption | rfl | omega | trivial))))) (by (first | ((rw [G2 _ _ (by omega)]; omega)) | ((rw [G4 _ _ (by omega), G2 _ _ (by omega)]; omega)) | ((refine ⟨?_, ?_⟩ <;> rw [G2 _ _ (by omega)] <;> omega)) | ((refine ⟨?_, ?_⟩ <;> rw [G4 _ _ (by omega), G2 _ _ (by omega)] <;> omega)) | (first | assumption | omega | ((try dsimp only [jt2, jt3, jt4]); first | omega | (simp (disch := omega) only [jst_eq, jst_ne, jst_ni, jst_o, jI_i, jcpy_out, w32_id, jdiv_nn, jshr_k, jand_255] <;> first | done | omega | assumption)) | (intros; simp (disch := omega) only [jst_eq, jst_ne, jst_ni, jst_o, jI_i, jcpy_out, w32_id, jdiv_nn, *] <;> first | done | omega) | (intros; simp (disch := omega) only [jst_eq, jst_ne, jst_ni, jst_o, jI_i, jcpy_out, w32_id, jdiv_nn] at * <;> first | done | omega | assumption) | (intros; first | rfl | (exfalso; omega) | ((repeat' apply And.intro) <;> first | assumption | rfl | omega | trivial))))) (by (first | ((rw [G2 _ _ (by omega)]; omega)) | ((rw [G4 _ _ (by omega), G2 _ _ (by omega)]; omega)) | ((refine ⟨?_, ?_⟩ <;> rw [G2 _ _ (by omega)] <;> omega)) | ((refine ⟨?_, ?_⟩ <;> rw [G4 _ _ (by omega), G2 _ _ (by omega)] <;> omega)) | (first | assumption | omega | ((try dsimp only [jt2, jt3, jt4]); first | omega | (simp (disch := omega) only [jst_eq, jst_ne, jst_ni, jst_o, jI_i, jcpy_out, w32_id, jdiv_nn, jshr_k, jand_255] <;> first | done | omega | assumption)) | (intros; simp (disch := omega) only [jst_eq, jst_ne, jst_ni, jst_o, jI_i, jcpy_out, w32_id, jdiv_nn, *] <;> first | done | omega) | (intros; simp (disch := omega) only [jst_eq, jst_ne, jst_ni, jst_o, jI_i, jcpy_out, w32_id, jdiv_nn] at * <;> first | done | omega | assumption) | (intros; first | rfl | (exfalso; omega) | ((repeat' apply And.intro) <;> first | assumption | rfl | omega | trivial)))))) (fun h4 r2 => ?_)
  try dsimp only [Sum.elim_inl, Sum.elim_inr, jt2, jt3, jt4, jt5, jt6, jt7, jt8] at r2
  have v2 := r2
  clear r2
  try simp (disch := omega) only [jst_eq, jst_ne, jst_ni, jI_i, jcmp_lt, jcmp_gt, w32_id, jcpy_out, Sum.elim_inl, Sum.elim_inr, jt2, jt3, jt4, jt5, jt6, jt7, jt8] at v2
  have G4 : ∀ a s, ¬ (a = 317 ∧ 0 ≤ s) → h4 a s = h2 a s := fun a s y => by { rw [v2, if_neg (by omega)] }
  refine OK_jb (vJ6_fill_2 _ _ (by (first | ((rw [G2 _ _ (by omega)]; omega)) | ((rw [G4 _ _ (by omega), G2 _ _ (by omega)]; omega)) | ((refine ⟨?_, ?_⟩ <;> rw [G2 _ _ (by omega)] <;> omega)) | ((refine ⟨?_, ?_⟩ <;> rw [G4 _ _ (by omega), G2 _ _ (by omega)] <;> omega)) | (first | assumption | omega | ((try dsimp only [jt2, jt3, jt4]); first | omega | (simp (disch := omega) only [jst_eq, jst_ne, jst_ni, jst_o, jI_i, jcpy_out, w32_id, jdiv_nn, jshr_k, jand_255] <;> first | done | omega | assumption)) | (intros; simp (disch := omega) only [jst_eq, jst_ne, jst_ni, jst_o, jI_i, jcpy_out, w32_id, jdiv_nn, *] <;> first | done | omega) | (intros; simp (disch := omega) only [jst_eq, jst_ne, jst_ni, jst_o, jI_i, jcpy_out, w32_id, jdiv_nn] at * <;> first | done | omega | assumption) | (intros; first | rfl | (exfalso; omega) | ((repeat' apply And.intro) <;> first | assumption | rfl | omega | trivial))))) (by (first | ((rw [G2 _ _ (by omega)]; omega)) | ((rw [G4 _ _ (by omega), G2 _ _ (by omega)]; omega)) | ((refine ⟨?_, ?_⟩ <;> rw [G2 _ _ (by omega)] <;> omega)) | ((refine ⟨?_, ?_⟩ <;> rw [G4 _ _ (by omega), G2 _ _ (by omega)] <;> omega)) | (first | assumption | omega | ((try dsimp only [jt2, jt3, jt4]); first | omega | (simp (disch := omega) only [jst_eq, jst_ne, jst_ni, jst_o, jI_i, jcpy_out, w32_id, jdiv_nn, jshr_k, jand_255] <;> first | done | omega | assumption)) | (intros; simp (disch := omega) only [jst_eq, jst_ne, jst_ni, jst_o, jI_i, jcpy_out, w32_id, jdiv_nn, *] <;> first | done | omega) | (intros; simp (disch := omega) only [jst_eq, jst_ne, jst_ni, jst_o, jI_i, jcpy_out, w32_id, jdiv_nn] at * <;> first | done | omega | assumption) | (intros; first | rfl | (exfalso; omega) | ((repeat' apply And.intro) <;> first | assumption | rfl | omega | trivial))))) (by (first | ((rw [G2 _ _ (by omega)]; omega)) | ((rw [G4 _ _ (by omega), G2 _ _ (by omega)]; omega)) | ((refine ⟨?_, ?_⟩ <;> rw [G2 _ _ (by omega)] <;> omega)) | ((refine ⟨?_, ?_⟩ <;> rw [G4 _ _ (by omega), G2 _ _ (by omega)] <;> omega)) | (first | assumption | omega | ((try dsimp only [jt2, jt3, jt4]); first | omega | (simp (disch := omega) only [jst_eq, jst_ne, jst_ni, jst_o, jI_i, jcpy_out, w32_id, jdiv_nn, jshr_k, jand_255] <;> first | done | omega | assumption)) | (intros; simp (disch := omega) only [jst_eq, jst_ne, jst_ni, jst_o, jI_i, jcpy_out, w32_id, jdiv_nn, *] <;> first | done | omega) | (intros; simp (disch := omega) only [jst_eq, jst_ne, jst_ni, jst_o, jI_i, jcpy_out, w32_id, jdiv_nn] at * <;> first | done | omega | assumption) | (intros; first | rfl | (exfalso; omega) | ((repeat' apply And.intro) <;> first | assumption | rfl | omega | trivial)))))) (fun h6 r3 => ?_)
  try dsimp only [Sum.elim_inl, Sum.elim_inr, jt2, jt3, jt4, jt5, jt6, jt7, jt8] at r3
  have v3 := r3
  clear r3
  try simp (disch := omega) only [jst_eq, jst_ne, jst_ni, jI_i, jcmp_lt, jcmp_gt, w32_id, jcpy_out, Sum.elim_inl, Sum.elim_inr, jt2, jt3, jt4, jt5, jt6, jt7, jt8] at v3
  have G6 : ∀ a s, ¬ (a = 321 ∧ 0 ≤ s) → h6 a s = h4 a s := fun a s y => by { rw [v3, if_neg (by omega)] }
  refine OK_jl ?_
  refine OK_some ?_
  try dsimp only [Sum.elim_inl, Sum.elim_inr, jt2, jt3, jt4, jt5, jt6, jt7, jt8]
  (intro a s; have z0 : ji2b 0 = 0 := (by decide); have e4 : h2 317 (-1) = 1728000 := (by rw [G2 _ _ (by omega)]; exact l4); have e6 : h4 321 (-1) = 1560 := (by rw [G4 _ _ (by omega), G2 _ _ (by omega)]; exact l6); by_cases y : a = 314 ∧ s = 0; { rw [y.1, y.2, jst_eq, if_pos (by omega)] }; { rw [jst_o y, v3, e6]; by_cases y3 : a = 321 ∧ 0 ≤ s ∧ s < 1560; { rw [if_pos y3, if_pos (by omega)] }; { rw [if_neg y3, v2, e4]; by_cases y2 : a = 317 ∧ 0 ≤ s ∧ s < 1728000; { rw [if_pos y2, if_pos (by omega)]; exact z0 }; { rw [if_neg y2, v1, l2]; by_cases y1 : a = 316 ∧ 0 ≤ s ∧ s < 172800; { rw [if_pos y1, if_pos (by omega)]; exact z0 }; { rw [if_neg y1, if_neg (by omega)] } } } }) -- o10 e1
def okG (h : AH) (E : EV) (W : Int → Int → Int → VW) (A : AD) (pts : Int) (M : Int → (Int → Int) → Prop) (cn : Int → Int → Int) (d : Nat) : Prop := (RSd E W pts A (d + 1) 0 ∧ h 307 7 = (d : Int) + 1 ∧ h 307 8 = 13 ∧ (0 ≤ h 307 17 ∧ h 307 17 ≤ (d : Int) + 1)) ∧ XI h E W A pts M (LV E W pts A (d + 1)) ∧ (∀ m : Nat, m ≤ d + 1 → h 314 m = (LV E W pts A m).1) ∧ cnX h cn
def flG (h : AH) (E : EV) (W : Int → Int → Int → VW) (A : AD) (pts : Int) (M : Int → (Int → Int) → Prop) (cn : Int → Int → Int) (d : Nat) : Prop := RSd E W pts A d 1 ∧ h 307 7 = d ∧ (0 ≤ h 307 17 ∧ h 307 17 ≤ d) ∧ ∃ T, XI h E W A pts M T ∧ eQ (LV E W pts A d) (d + 1) T ∧ (∀ m : Nat, m ≤ d → h 314 m = (LV E W pts A m).1) ∧ cnX h cn
theorem vX5_grow_j32_0 (a1 : Int) {h : AH} {E : EV} {Rf : Int → TR} {W : Int → Int → Int → VW} {f : Int → Int → Int → Int} {A : AD} {pts wh : Int} {rv : Int → Int} {M : Int → (Int → Int) → Prop} {cn : Int → Int → Int} {d : Nat} (g : seX h E Rf W f A pts wh rv) (va : VA E A pts) (rs : RSd E W pts A d 0 ∧ d < 12 ∧ h 307 7 = d ∧ h 307 8 = 13 ∧ (0 ≤ h 307 17 ∧ h 307 17 ≤ d)) (xi : XI h E W A pts M (LV E W pts A d)) (up : (∀ m : Nat, m ≤ d → h 314 m = (LV E W pts A m).1) ∧ cnX h cn) : OK (gX5_grow_j32_0 a1 h) (Sum.elim (fun h' => (okG h' E W A pts M cn d) ∧ (fS h h' ∧ b10 h')) (Sum.elim (fun r => jt2 r fun x h' => (flG h' E W A pts M cn d) ∧ (fS h h' ∧ b10 h' ∧ x = (d : Int) + 1)) (fun h' => False))) := by
  have pg := PG_LV g.1.2.1.2.1 (wOK_ty g.1.2.1.2.2.1) va (by have := g.2.1.2.1; omega) g.2.2.2.1.2.1 rs.1.1 rs.2.1
  have r7 := rs.2.2.1
  have w14 : w32 ((d : Int) + 1) = d + 1 := w32_id (by omega) (by omega)
  unfold gX5_grow_j32_0
  refine OK_jlx (fun x14 ex14 => ?_)
  try simp (disch := omega) only [jst_eq, jst_ne, jst_ni, jI_i, jcmp_lt, jcmp_gt, w32_id, jcpy_out, Sum.elim_inl, Sum.elim_inr, jt2, jt3, jt4, jt5, jt6, jt7, jt8] at ex14
  have x14e : x14 = (d : Int) + 1 := by { first | omega | (rw [ex14, r7]; exact w14) | (rw [ex14, w14]) }
  subst x14e
  refine OK_jb2 (vX5_growOnce (E := E) (Rf := Rf) (W := W) (f := f) (A := A) (pts := pts) (wh := wh) (rv := rv) (M := M) (T0 := LV E W pts A d) _ (by exact g) (by exact xi) (by exact pg)) (fun v16 h17 r1 => ?_)
  try dsimp only [Sum.elim_inl, Sum.elim_inr, jt2, jt3, jt4, jt5, jt6, jt7, jt8] at r1
  have gr1 := r1
  clear r1
  try simp (disch := omega) only [jst_eq, jst_ne, jst_ni, jI_i, jcmp_lt, jcmp_gt, w32_id, jcpy_out, Sum.elim_inl, Sum.elim_inr, jt2, jt3, jt4, jt5, jt6, jt7, jt8] at gr1
  have LE : levT E W pts A (LV E W pts A d) ((d : Int) + 1) = LV E W pts A (d + 1) := rfl
  refine OK_if (fun c1 => ?_) (fun c1 => ?_)
  · skip
    try simp (disch := omega) only [jst_eq, jst_ne, jst_ni, jI_i, jcmp_lt, jcmp_gt, w32_id, jcpy_out, Sum.elim_inl, Sum.elim_inr, jt2, jt3, jt4, jt5, jt6, jt7, jt8] at c1
    have GR : flX h h17 E W A pts M (LV E W pts A d) ((d : Int) + 1) (LV E W pts A (d + 1)) := by { rcases gr1 with r | r; { exact r.2 }; { omega } }
    obtain ⟨f1, ⟨T, f2, f3⟩, f4, f5⟩ := GR
    refine OK_some ?_
    try dsimp only [Sum.elim_inl, Sum.elim_inr, jt2, jt3, jt4, jt5, jt6, jt7, jt8]
    try dsimp only [Sum.elim_inl, Sum.elim_inr, jt2, jt3, jt4, jt5, jt6, jt7, jt8]
    refine ⟨?_, ?_⟩
    · exact ⟨⟨rs.1.1, rs.1.2.1, Or.inr ⟨rfl, rs.2.1, f1⟩⟩, by rw [f4 _ _ (by omega) (by omega) (by omega) (by omega)]; exact r7, by rw [f4 _ _ (by omega) (by omega) (by omega) (by omega)]; exact rs.2.2.2.2, T, f3, f2, fun m l => by rw [f4 _ _ (by omega) (by omega) (by omega) (by omega)]; exact up.1 m l, fun q f a b c e => by rw [f4 _ _ (by omega) (by omega) (by omega) (by omega), f4 307 _ (by omega) (by omega) (by omega) (by omega)]; exact up.2 q f a b c e⟩ -- o4 e1.1
    · exact ⟨fG_S f4, f5, rfl⟩ -- o5 e1.2
  · skip
    try simp (disch := omega) only [jst_eq, jst_ne, jst_ni, jI_i, jcmp_lt, jcmp_gt, w32_id, jcpy_out, Sum.elim_inl, Sum.elim_inr, jt2, jt3, jt4, jt5, jt6, jt7, jt8] at c1
    have GR : okX h h17 E W A pts M (LV E W pts A (d + 1)) := by { rcases gr1 with r | r; { exact absurd r.1 c1 }; { exact r.2 } }
    obtain ⟨f3, f4, f5⟩ := GR
    have X0 := XI_h f3
    refine OK_jg (by (first | assumption | omega | ((try dsimp only [jt2, jt3, jt4]); first | omega | (simp (disch := omega) only [jst_eq, jst_ne, jst_ni, jst_o, jI_i, jcpy_out, w32_id, jdiv_nn, jshr_k, jand_255] <;> first | done | omega | assumption)) | (intros; simp (disch := omega) only [jst_eq, jst_ne, jst_ni, jst_o, jI_i, jcpy_out, w32_id, jdiv_nn, *] <;> first | done | omega) | (intros; simp (disch := omega) only [jst_eq, jst_ne, jst_ni, jst_o, jI_i, jcpy_out, w32_id, jdiv_nn] at * <;> first | done | omega | assumption) | (intros; first | rfl | (exfalso; omega) | ((repeat' apply And.intro) <;> first | assumption | rfl | omega | trivial)))) ?_ -- o6
    refine OK_jl ?_
    refine OK_jl ?_
    have F20 : ∀ a s, ¬ (a = 314 ∧ s = (d : Int) + 1) → ¬ (a = 307 ∧ s = 7) → jst (jst h17 314 ((d : Int) + 1) (h17 307 0)) 307 7 ((d : Int) + 1) a s = h17 a s := fun a s y1 y2 => by { rw [jst_o (by omega), jst_o (by omega)] }
    have K1 : jst (jst h17 314 ((d : Int) + 1) (h17 307 0)) 307 7 ((d : Int) + 1) 314 ((d : Int) + 1) = (LV E W pts A (d + 1)).1 := by { rw [jst_o (by omega), jst_eq]; exact X0.1 }
    have K2 : jst (jst h17 314 ((d : Int) + 1) (h17 307 0)) 307 7 ((d : Int) + 1) 307 7 = (d : Int) + 1 := jst_eq
    generalize e20 : jst (jst h17 314 ((d : Int) + 1) (h17 307 0)) 307 7 ((d : Int) + 1) = hq at *
    have FS : fS h hq := fun a s y1 y2 y3 y4 => by { rw [F20 a s (by omega) (by omega)]; exact fG_S f4 a s y1 y2 y3 y4 }
    refine OK_some ?_
    try dsimp only [Sum.elim_inl, Sum.elim_inr, jt2, jt3, jt4, jt5, jt6, jt7, jt8]
    try dsimp only [Sum.elim_inl, Sum.elim_inr, jt2, jt3, jt4, jt5, jt6, jt7, jt8]
    refine ⟨?_, ?_⟩
    · (refine ⟨⟨⟨fun m l => ?_, by omega, Or.inl rfl⟩, ?_, ?_, ?_⟩, ?_, fun m l => ?_, fun q f a b c e => ?_⟩; { by_cases y : m ≤ d; { exact rs.1.1 m y }; { rw [show m = d + 1 by omega]; have := X0.2.2.1; omega } }; { exact K2 }; { rw [F20 _ _ (by omega) (by omega), f4 _ _ (by omega) (by omega) (by omega) (by omega)]; exact rs.2.2.2.1 }; { rw [F20 _ _ (by omega) (by omega), f4 _ _ (by omega) (by omega) (by omega) (by omega)]; have := rs.2.2.2.2; omega }; { exact XI_f (fun a s y1 y2 => F20 a s (by omega) (by omega)) f3 }; { by_cases y : m ≤ d; { rw [F20 _ _ (by omega) (by omega), f4 _ _ (by omega) (by omega) (by omega) (by omega)]; exact up.1 m y }; { have e : m = d + 1 := (by omega); subst e; exact K1 } }; { rw [F20 _ _ (by omega) (by omega), F20 307 _ (by omega) (by omega), f4 _ _ (by omega) (by omega) (by omega) (by omega), f4 307 _ (by omega) (by omega) (by omega) (by omega)]; exact up.2 q f a b c e }) -- o7 e2.1
    · exact ⟨FS, by unfold b10; rw [F20 _ _ (by omega) (by omega)]; exact f5⟩ -- o8 e2.2

