/-! x: a term becomes what is found -/
theorem trX_vw {h : AH} {T N : Int} : ∀ {R : TR} {d j : Int}, trX h T 0 N R d j → vwX h T N (-1) 0 R d j
  | .leaf i, d, j, t => ⟨t.1, t.2.1, Or.inr ⟨by have := t.1; omega, t.2.2.1, t.2.2.2.1⟩⟩
  | .branch b s r, d, j, t => ⟨by have := (trX_nd t).1; omega, t.1, t.2.1, trX_vw t.2.2.1, trX_vw t.2.2.2⟩
theorem txN_nh {cA hl hl' : Int → Int} {i : NI} {l : List (List Int)} (n : i.1 ≠ 3) : txN cA hl i l = txN cA hl' i l := by
  unfold txN
  rw [if_neg n, if_neg n]
theorem txK_nh {cA hl hl' : Int → Int} : ∀ {R : TR}, nhT R → txK cA hl R = txK cA hl' R
  | .leaf _, _ => rfl
  | .branch _ s r, n => by
    show txN cA hl (inf s) (txK cA hl s) :: txK cA hl r = txN cA hl' (inf s) (txK cA hl' s) :: txK cA hl' r
    rw [txK_nh (R := s) n.1, txK_nh (R := r) n.2, txN_nh (nhT_nd n.1)]
theorem txT_nh {cA hl hl' : Int → Int} {R : TR} (n : nhT R) : txT cA hl R = txT cA hl' R := by
  unfold txT
  rw [txK_nh n, txN_nh (nhT_nd n)]
/-- what is found: x -/
def fdX (h : AH) (cA : Int → Int) (R : TR) (pts kd n : Int) (kf vv : Int → Int) : Prop := h 200 23 = 1 ∧ trX h 330 0 2200 R (h 200 22) 0 ∧ (h 336 1 = ((txT cA (fun _ => 0) R).length : Nat) ∧ ∀ i : Nat, i < (txT cA (fun _ => 0) R).length → h 337 i = (txT cA (fun _ => 0) R).getD i 0) ∧ (h 200 26 = pts ∧ ∀ p, 0 ≤ p → p < pts → h 338 p = vv p) ∧ h 200 27 = kd ∧ h 200 29 = n ∧ ∀ k, 0 ≤ k → k < n → h 339 k = kf k
def fB (h h' : AH) : Prop := ∀ a s, ¬ (a = 200 ∧ (s = 9 ∨ s = 10 ∨ s = 22 ∨ s = 23 ∨ s = 26 ∨ s = 27 ∨ s = 29)) → ¬ (a = 269 ∧ 0 ≤ s) → ¬ (a = 323 ∧ 0 ≤ s) → ¬ (330 ≤ a ∧ a ≤ 339 ∧ 0 ≤ s) → h' a s = h a s
theorem fB_A {h h' : AH} (f : fB h h') : agX h h' := fun a s y => by
  unfold nA at y
  exact f a s (by omega) (by omega) (by omega) (by omega)
theorem akX_pk {h : AH} {E : EV} {Rf : Int → TR} {W : Int → Int → Int → VW} {K : AK} (x : akX h E Rf W K) : pkX h (kA K).1 (kA K).2.1 K.1.2.2.1 K.1.2.2.2 (kP K) := by
  obtain ⟨x1, x2, x3, x4, x5, x6, x7, x8, x9, x10⟩ := x
  refine ⟨x1.1.1, x1.2.1.1, x1.2.1.2.1, x1.2.1.2.2.1, fun k k0 k1 => ⟨x1.2.1.2.2.2 k k0 k1, x7.1 k k0 k1⟩, x1.2.2.1.1, x9, x6.1, x6.2, x1.2.2.1.2.2, x1.2.2.1.2.1, fun p k p0 p1 k0 k1 => ?_⟩
  rw [← x1.2.2.2.2]
  exact x7.2.1 p k p0 p1 k0 k1
theorem vX1_become (a1 : Int) {h : AH} {E : EV} {Rf : Int → TR} {W : Int → Int → Int → VW} {K : AK} {R : TR} (ak : akX h E Rf W K) (cA : ∀ a, 0 ≤ a → a < E.1.1 → E.1.2.1 a < 282429536481) (tr : trX h 324 0 2200 R a1 0) (nr : nrT R) (ty : tyT E (kA K).1 (kA K).2.1 (flT K.2.2.2.2 R) 0) (tl : tlT E.1.1 (flT K.2.2.2.2 R) ∧ nhT (flT K.2.2.2.2 R)) (dk : dpE E.1.2.2.2.1 (flT K.2.2.2.2 R) ≤ 100 ∧ dpT R ≤ 39 ∧ 12 * sz R ≤ 4200) : OK (gX1_become a1 h) (fun h' => (∃ hl, fdX h' E.1.2.1 (flT K.2.2.2.2 R) (kP K) (inf (flT K.2.2.2.2 R)).2.2.1 (kA K).1 (kA K).2.1 (fun p => (evT W (fun _ _ _ => 0) (pvA (kA K).1 (kA K).2.1 K.1.2.2.1 K.1.2.2.2 p) hl (flT K.2.2.2.2 R)).1)) ∧ (fB h h') ∧ (akX h' E Rf W K)) := by
  have LN := ak.2.2.2.2.2.2.2.2.2.1
  have OD := ak.2.2.2.2.2.2.2.2.2.2
  have C4 : capT h 324 2200 := ⟨(LN 325 (by decide) (by decide)).2.trans (by decide), (LN 326 (by decide) (by decide)).2.trans (by decide), (LN 327 (by decide) (by decide)).2.trans (by decide), (LN 328 (by decide) (by decide)).2.trans (by decide), (LN 329 (by decide) (by decide)).2.trans (by decide), by decide, by decide, by decide⟩
  have C0 : capT h 330 2200 := ⟨(LN 331 (by decide) (by decide)).2.trans (by decide), (LN 332 (by decide) (by decide)).2.trans (by decide), (LN 333 (by decide) (by decide)).2.trans (by decide), (LN 334 (by decide) (by decide)).2.trans (by decide), (LN 335 (by decide) (by decide)).2.trans (by decide), by decide, by decide, by decide⟩
  have L337 : h 337 (-1) = 4200 := (LN 337 (by decide) (by decide)).2.trans (by decide)
  have HL := ak.2.1.1.2.2.2.1
  have sp := sz_pos R
  have x40 : h 200 16 = 271 ∨ h 200 16 = 289 := ak.1.1.1
  have p256 := ak.1.2.2.1.2.2
  have pz := ak.2.2.2.2.2.1
  have A3 := ak.1.2.1
  have dpF := fl_dp (hl := K.2.2.2.2) R
  have szF := fl_sz (hl := K.2.2.2.2) R
  unfold gX1_become
  refine OK_jl ?_
  have F1 : ∀ a s, ¬ (a = 330 ∧ s = 0) → jst h 330 0 0 a s = h a s := fun a s y => jst_o y
  have K1 : jst h 330 0 0 330 0 = 0 := jst_eq
  generalize e1 : jst h 330 0 0 = g1 at *
  refine OK_jb2 (vX1_fill (M0 := 2200) (R := R) (hl := K.2.2.2.2) _ (by exact capT_fr C0 (fun a x0 x1 => F1 _ _ (by omega))) (by exact capT_fr C4 (fun a x0 x1 => F1 _ _ (by omega))) (by exact trX_fr (fun a s x0 x1 _ _ => F1 _ _ (by omega)) (fun s _ _ => F1 _ _ (by omega)) tr (Int.le_refl 0)) (by (intro c c0 c1; rw [F1 _ _ (by omega)]; exact (HL c c0 c1).1)) (by exact nr) (by omega) (by exact dk.2.1)) (fun v3 h4 r1 => ?_)
  try dsimp only [Sum.elim_inl, Sum.elim_inr, jt2, jt3, jt4, jt5, jt6, jt7, jt8] at r1
  have po1 := r1
  clear r1
  try simp (disch := omega) only [jst_eq, jst_ne, jst_ni, jI_i, jcmp_lt, jcmp_gt, w32_id, jcpy_out, Sum.elim_inl, Sum.elim_inr, jt2, jt3, jt4, jt5, jt6, jt7, jt8] at po1
  obtain ⟨q1, q2, q3, q4⟩ := po1
  rw [K1] at q1 q2 q4
  rw [szF] at q2 q4
  have F4 : ∀ a s, ¬ (330 ≤ a ∧ a ≤ 335 ∧ 0 ≤ s) → h4 a s = h a s := fun a s y => by { rw [q4 a s (by omega) (by omega) (by omega)]; exact F1 a s (by omega) }
  have T4 : trX h4 330 0 2200 (flT K.2.2.2.2 R) 0 0 := by { rw [q1] at q3; exact cX_tr q3 (by decide) (by decide) (by decide) (by omega) }
  rw [q1]
  refine OK_jl ?_
  refine OK_jl ?_
  refine OK_jl ?_
  have F7 : ∀ a s, ¬ (a = 200 ∧ (s = 22 ∨ s = 23)) → ¬ (a = 336 ∧ s = 1) → jst (jst (jst h4 200 22 0) 200 23 1) 336 1 0 a s = h4 a s := fun a s y1 y2 => by { rw [jst_o (by omega), jst_o (by omega), jst_o (by omega)] }
  have K22 : jst (jst (jst h4 200 22 0) 200 23 1) 336 1 0 200 22 = 0 := by { rw [jst_o (by omega), jst_o (by omega), jst_eq] }
  have K23 : jst (jst (jst h4 200 22 0) 200 23 1) 336 1 0 200 23 = 1 := by { rw [jst_o (by omega), jst_eq] }
  have K36 : jst (jst (jst h4 200 22 0) 200 23 1) 336 1 0 336 1 = 0 := jst_eq
  generalize e7 : jst (jst (jst h4 200 22 0) 200 23 1) 336 1 0 = g7 at *
  have G7 : fB h g7 := fun a s y1 y2 y3 y4 => by { rw [F7 a s (by omega) (by omega)]; exact F4 a s (by omega) }
  have A7 := akX_n ak (fB_A G7) (by unfold b10; rw [F7 _ _ (by omega) (by omega), F4 _ _ (by omega)]; exact ak.1.1.2.2.2.2)
  have T7 : trX g7 330 0 2200 (flT K.2.2.2.2 R) 0 0 := trX_fr (fun a s x0 x1 _ _ => F7 _ _ (by omega) (by omega)) (fun s _ _ => F7 _ _ (by omega) (by omega)) T4 (Int.le_refl 0)
  rw [K22]
  have H7 : ∀ c, 0 ≤ c → c ≤ 2 → 0 ≤ g7 270 c ∧ g7 270 c ≤ 15 := fun c c0 c1 => by { have z := A7.2.1.1.2.2.2.1 c c0 c1; omega }
  refine OK_jb (vX1_tell (E := E) (M := 2200) (R := flT K.2.2.2.2 R) _ _ _ (by exact ⟨capT_fr C0 (fun a x0 x1 => G7 _ _ (by omega) (by omega) (by omega) (by omega)), by unfold isX3; omega, by unfold isX6; omega, A7.1.1.2.1.1, A7.2.2.2.2.2.2.2.2.2.2, H7, cA⟩) (by exact T7) (by exact tl.1) (by (rw [dpF]; exact dk.2.1)) (by (rw [K36, szF, show (336 : Int) + 1 = 337 by decide, G7 _ _ (by omega) (by omega) (by omega) (by omega), L337]; omega))) (fun h9 r2 => ?_)
  try dsimp only [Sum.elim_inl, Sum.elim_inr, jt2, jt3, jt4, jt5, jt6, jt7, jt8] at r2
  have ab2 := r2
  clear r2
  try simp (disch := omega) only [jst_eq, jst_ne, jst_ni, jI_i, jcmp_lt, jcmp_gt, w32_id, jcpy_out, Sum.elim_inl, Sum.elim_inr, jt2, jt3, jt4, jt5, jt6, jt7, jt8] at ab2
  have AP := (by first | exact r2 | exact ap2 | exact po2 | assumption : apB 336 1 (336 + 1) (txT E.1.2.1 (g7 270) (flT K.2.2.2.2 R)) g7 h9)
  obtain ⟨b1, b2, b3⟩ := AP
  rw [K36] at b1 b2 b3
  rw [txT_nh (hl' := fun _ => 0) tl.2] at b1 b2 b3
  have F9 : ∀ a s, ¬ (a = 336 ∧ s = 1) → ¬ (a = 337 ∧ 0 ≤ s) → h9 a s = g7 a s := fun a s y1 y2 => b3 a s y1 (by omega)
  have G9 : fB h h9 := fun a s y1 y2 y3 y4 => by { rw [F9 a s (by omega) (by omega)]; exact G7 a s y1 y2 y3 y4 }
  have A9 := akX_n ak (fB_A G9) (by unfold b10; rw [F9 _ _ (by omega) (by omega), F7 _ _ (by omega) (by omega), F4 _ _ (by omega)]; exact ak.1.1.2.2.2.2)
  have T9 : trX h9 330 0 2200 (flT K.2.2.2.2 R) 0 0 := trX_fr (fun a s x0 x1 _ _ => F9 _ _ (by omega) (by omega)) (fun s _ _ => F9 _ _ (by omega) (by omega)) T7 (Int.le_refl 0)
  have K9 : h9 200 22 = 0 := by { rw [F9 _ _ (by omega) (by omega)]; exact K22 }
  rw [K9]
  refine OK_jb (vX1_answer (E := E) (Rf := Rf) (W := W) (f := fun _ _ _ => 0) (N := 2200) (n := (kA K).1) (wh := K.1.2.2.1) (pts := kP K) (kf := (kA K).2.1) (rv := K.1.2.2.2) (hl := h9 270) (R := flT K.2.2.2.2 R) _ _ (by exact ⟨akX_pk A9, A9.1.1.2.1, A9.1.1.2.2.1, ⟨by unfold isX3; omega, capT_fr C0 (fun a x0 x1 => G9 _ _ (by omega) (by omega) (by omega) (by omega))⟩, trX_vw T9, ty, A9.2.1.1.2.2.1, dk.1, fun c c0 c1 => by (have z := A9.2.1.1.2.2.2.1 c c0 c1; omega), A9.1.1.2.2.2.2.1, A9.1.1.2.2.2.2.2, by decide⟩) (by exact fun _ => rfl)) (fun h11 r3 => ?_)
  try dsimp only [Sum.elim_inl, Sum.elim_inr, jt2, jt3, jt4, jt5, jt6, jt7, jt8] at r3
  obtain ⟨an3, fs3, z93⟩ := r3
  try simp (disch := omega) only [jst_eq, jst_ne, jst_ni, jI_i, jcmp_lt, jcmp_gt, w32_id, jcpy_out, Sum.elim_inl, Sum.elim_inr, jt2, jt3, jt4, jt5, jt6, jt7, jt8] at an3
  try simp (disch := omega) only [jst_eq, jst_ne, jst_ni, jI_i, jcmp_lt, jcmp_gt, w32_id, jcpy_out, Sum.elim_inl, Sum.elim_inr, jt2, jt3, jt4, jt5, jt6, jt7, jt8] at fs3
  try simp (disch := omega) only [jst_eq, jst_ne, jst_ni, jI_i, jcmp_lt, jcmp_gt, w32_id, jcpy_out, Sum.elim_inl, Sum.elim_inr, jt2, jt3, jt4, jt5, jt6, jt7, jt8] at z93
  have F11 : ∀ a s, ¬ (a = 200 ∧ (s = 9 ∨ s = 10)) → ¬ (a = 269 ∧ 0 ≤ s) → ¬ (a = 323 ∧ 0 ≤ s) → h11 a s = h9 a s := fun a s y1 y2 y3 => fs3 a s y1 y2 (by omega)
  have G11 : fB h h11 := fun a s y1 y2 y3 y4 => by { rw [F11 a s (by omega) y2 y3]; exact G9 a s y1 y2 y3 y4 }
  have e16 : h11 200 16 = h 200 16 := G11 _ _ (by omega) (by omega) (by omega) (by omega)
  have P18 : h11 (h11 200 16) 18 = kP K := by { rw [e16, G11 _ _ (by omega) (by omega) (by omega) (by omega)]; exact pz.1 }
  rw [P18]
  refine OK_jg (by (first | (omega) | (first | assumption | omega | ((try dsimp only [jt2, jt3, jt4]); first | omega | (simp (disch := omega) only [jst_eq, jst_ne, jst_ni, jst_o, jI_i, jcpy_out, w32_id, jdiv_nn, jshr_k, jand_255] <;> first | done | omega | assumption)) | (intros; simp (disch := omega) only [jst_eq, jst_ne, jst_ni, jst_o, jI_i, jcpy_out, w32_id, jdiv_nn, *] <;> first | done | omega) | (intros; simp (disch := omega) only [jst_eq, jst_ne, jst_ni, jst_o, jI_i, jcpy_out, w32_id, jdiv_nn] at * <;> first | done | omega | assumption) | (intros; first | rfl | (exfalso; omega) | ((repeat' apply And.intro) <;> first | assumption | rfl | omega | trivial))))) ?_ -- o15
  refine OK_jl ?_
  have F12 : ∀ a s, ¬ (a = 338 ∧ 0 ≤ s) → jcpy h11 323 0 338 0 (kP K) a s = h11 a s := fun a s y => jcpy_out (by omega)
  have K12 : ∀ p, 0 ≤ p → p < kP K → jcpy h11 323 0 338 0 (kP K) 338 p = h11 323 p := fun p p0 p1 => by { rw [jcpy_in (by omega) (by omega)]; congr 1; omega }
  generalize e12 : jcpy h11 323 0 338 0 (kP K) = g12 at *
  have r16 : g12 200 16 = h 200 16 := by { rw [F12 _ _ (by omega)]; exact e16 }
  have r18 : g12 (g12 200 16) 18 = kP K := by { rw [r16, F12 _ _ (by omega), ← e16]; exact P18 }
  rw [r18]
  refine OK_jl ?_
  have F13 : ∀ a s, ¬ (a = 200 ∧ s = 26) → jst g12 200 26 (kP K) a s = g12 a s := fun a s y => jst_o y
  have K13 : jst g12 200 26 (kP K) 200 26 = kP K := jst_eq
  generalize e13 : jst g12 200 26 (kP K) = g13 at *
  have K22b : g13 200 22 = 0 := by { rw [F13 _ _ (by omega), F12 _ _ (by omega), F11 _ _ (by omega) (by omega) (by omega)]; exact K9 }
  have C13 : ∀ a s, ¬ (a = 200 ∧ (s = 9 ∨ s = 10 ∨ s = 26)) → ¬ (a = 269 ∧ 0 ≤ s) → ¬ (a = 323 ∧ 0 ≤ s) → ¬ (a = 338 ∧ 0 ≤ s) → g13 a s = h9 a s := fun a s y1 y2 y3 y4 => by { rw [F13 _ _ (by omega), F12 _ _ y4, F11 _ _ (by omega) y2 y3] }
  have kd13 : g13 333 0 = (inf (flT K.2.2.2.2 R)).2.2.1 := by { rw [C13 _ _ (by omega) (by omega) (by omega) (by omega)]; exact (trX_nd T9).2.2.2.2.1 }
  rw [K22b, kd13]
  refine OK_jg (by (first | (omega) | (first | assumption | omega | ((try dsimp only [jt2, jt3, jt4]); first | omega | (simp (disch := omega) only [jst_eq, jst_ne, jst_ni, jst_o, jI_i, jcpy_out, w32_id, jdiv_nn, jshr_k, jand_255] <;> first | done | omega | assumption)) | (intros; simp (disch := omega) only [jst_eq, jst_ne, jst_ni, jst_o, jI_i, jcpy_out, w32_id, jdiv_nn, *] <;> first | done | omega) | (intros; simp (disch := omega) only [jst_eq, jst_ne, jst_ni, jst_o, jI_i, jcpy_out, w32_id, jdiv_nn] at * <;> first | done | omega | assumption) | (intros; first | rfl | (exfalso; omega) | ((repeat' apply And.intro) <;> first | assumption | rfl | omega | trivial))))) ?_ -- o16
  refine OK_jl ?_
  have F14 : ∀ a s, ¬ (a = 200 ∧ s = 27) → jst g13 200 27 (inf (flT K.2.2.2.2 R)).2.2.1 a s = g13 a s := fun a s y => jst_o y
  have K14 : jst g13 200 27 (inf (flT K.2.2.2.2 R)).2.2.1 200 27 = (inf (flT K.2.2.2.2 R)).2.2.1 := jst_eq
  generalize e14 : jst g13 200 27 (inf (flT K.2.2.2.2 R)).2.2.1 = g14 at *
  have C14 : ∀ a s, ¬ (a = 200 ∧ (s = 9 ∨ s = 10 ∨ s = 26 ∨ s = 27)) → ¬ (a = 269 ∧ 0 ≤ s) → ¬ (a = 323 ∧ 0 ≤ s) → ¬ (a = 338 ∧ 0 ≤ s) → g14 a s = h9 a s := fun a s y1 y2 y3 y4 => by { rw [F14 _ _ (by omega)]; exact C13 a s (by omega) y2 y3 y4 }
  have s16 : g14 200 16 = h 200 16 := by { rw [C14 _ _ (by omega) (by omega) (by omega) (by omega)]; exact G9 _ _ (by omega) (by omega) (by omega) (by omega) }
  have s1 : g14 (g14 200 16) 1 = (kA K).1 := by { rw [s16, C14 _ _ (by omega) (by omega) (by omega) (by omega), G9 _ _ (by omega) (by omega) (by omega) (by omega)]; exact A3.1 }
  rw [s1]
  refine OK_jl ?_
  have F15 : ∀ a s, ¬ (a = 200 ∧ s = 29) → jst g14 200 29 (kA K).1 a s = g14 a s := fun a s y => jst_o y
  have K15 : jst g14 200 29 (kA K).1 200 29 = (kA K).1 := jst_eq
  generalize e15 : jst g14 200 29 (kA K).1 = g15 at *
  have C15 : ∀ a s, ¬ (a = 200 ∧ (s = 9 ∨ s = 10 ∨ s = 26 ∨ s = 27 ∨ s = 29)) → ¬ (a = 269 ∧ 0 ≤ s) → ¬ (a = 323 ∧ 0 ≤ s) → ¬ (a = 338 ∧ 0 ≤ s) → g15 a s = h9 a s := fun a s y1 y2 y3 y4 => by { rw [F15 _ _ (by omega)]; exact C14 a s (by omega) y2 y3 y4 }
  have t16 : g15 200 16 = h 200 16 := by { rw [F15 _ _ (by omega)]; exact s16 }
  rw [t16]
  refine OK_jg (by (first | (omega) | (first | assumption | omega | ((try dsimp only [jt2, jt3, jt4]); first | omega | (simp (disch := omega) only [jst_eq, jst_ne, jst_ni, jst_o, jI_i, jcpy_out, w32_id, jdiv_nn, jshr_k, jand_255] <;> first | done | omega | assumption)) | (intros; simp (disch := omega) only [jst_eq, jst_ne, jst_ni, jst_o, jI_i, jcpy_out, w32_id, jdiv_nn, *] <;> first | done | omega) | (intros; simp (disch := omega) only [jst_eq, jst_ne, jst_ni, jst_o, jI_i, jcpy_out, w32_id, jdiv_nn] at * <;> first | done | omega | assumption) | (intros; first | rfl | (exfalso; omega) | ((repeat' apply And.intro) <;> first | assumption | rfl | omega | trivial))))) ?_ -- o17
  refine OK_jl ?_
  have F16 : ∀ a s, ¬ (a = 339 ∧ 0 ≤ s) → jcpy g15 (h 200 16 + 1) 0 339 0 3 a s = g15 a s := fun a s y => jcpy_out (by omega)
  have K16 : ∀ k, 0 ≤ k → k < 3 → jcpy g15 (h 200 16 + 1) 0 339 0 3 339 k = g15 (h 200 16 + 1) k := fun p p0 p1 => by { rw [jcpy_in (by omega) (by omega)]; congr 1; omega }
  generalize e16b : jcpy g15 (h 200 16 + 1) 0 339 0 3 = g16 at *
  have C16 : ∀ a s, ¬ (a = 200 ∧ (s = 9 ∨ s = 10 ∨ s = 26 ∨ s = 27 ∨ s = 29)) → ¬ (a = 269 ∧ 0 ≤ s) → ¬ (a = 323 ∧ 0 ≤ s) → ¬ (a = 338 ∧ 0 ≤ s) → ¬ (a = 339 ∧ 0 ≤ s) → g16 a s = h9 a s := fun a s y1 y2 y3 y4 y5 => by { rw [F16 _ _ y5]; exact C15 a s y1 y2 y3 y4 }
  have FB : fB h g16 := fun a s y1 y2 y3 y4 => by { rw [C16 a s (by omega) y2 y3 (by omega) (by omega)]; exact G9 a s y1 y2 y3 y4 }
  have B16 : b10 g16 := by { unfold b10; rw [F16 _ _ (by omega), F15 _ _ (by omega), F14 _ _ (by omega), F13 _ _ (by omega), F12 _ _ (by omega)]; exact z93.2 }
  have K22c : g16 200 22 = 0 := by { rw [C16 _ _ (by omega) (by omega) (by omega) (by omega) (by omega)]; exact K9 }
  refine OK_some ?_
  try dsimp only [Sum.elim_inl, Sum.elim_inr, jt2, jt3, jt4, jt5, jt6, jt7, jt8]
  try dsimp only [Sum.elim_inl, Sum.elim_inr, jt2, jt3, jt4, jt5, jt6, jt7, jt8]
  refine ⟨?_, ?_, ?_⟩
  · (refine ⟨h9 270, ?_, ?_, ⟨?_, fun i il => ?_⟩, ⟨?_, fun p p0 p1 => ?_⟩, ?_, ?_, fun k k0 k1 => ?_⟩; { rw [C16 _ _ (by omega) (by omega) (by omega) (by omega) (by omega), F9 _ _ (by omega) (by omega)]; exact K23 }; { rw [K22c]; exact trX_fr (fun a s x0 x1 _ _ => C16 _ _ (by omega) (by omega) (by omega) (by omega) (by omega)) (fun s _ _ => C16 _ _ (by omega) (by omega) (by omega) (by omega) (by omega)) T9 (Int.le_refl 0) }; { rw [C16 _ _ (by omega) (by omega) (by omega) (by omega) (by omega), b1]; omega }; { rw [C16 _ _ (by omega) (by omega) (by omega) (by omega) (by omega)]; have z := b2 i il; rw [Int.zero_add] at z; exact z }; { rw [F16 _ _ (by omega), F15 _ _ (by omega), F14 _ _ (by omega)]; exact K13 }; { rw [F16 _ _ (by omega), F15 _ _ (by omega), F14 _ _ (by omega), F13 _ _ (by omega), K12 p p0 p1]; exact an3 p p0 p1 }; { rw [F16 _ _ (by omega), F15 _ _ (by omega)]; exact K14 }; { rw [F16 _ _ (by omega)]; exact K15 }; { rw [K16 k k0 (by omega), C15 _ _ (by omega) (by omega) (by omega) (by omega), G9 _ _ (by omega) (by omega) (by omega) (by omega)]; exact A3.2.2.2 k k0 k1 }) -- o18 e1.1
  · exact FB -- o19 e1.2
  · exact akX_n ak (fB_A FB) B16 -- o20 e1.3

