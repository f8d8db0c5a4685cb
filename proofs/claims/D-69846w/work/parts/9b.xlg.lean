/-! x: a loop's other terms are read -/
def frDx (a T N : Int) (h h' : AH) : Prop := ∀ b s, ¬ (b = 441 ∧ 2 ≤ s ∧ s ≤ 18) → ¬ (b = 445 ∧ 0 ≤ s) → ¬ (b = T ∧ s = 0) → ¬ (T + 1 ≤ b ∧ b ≤ T + 4 ∧ N ≤ s) → ¬ (b = T + 5 ∧ 3 * N ≤ s) → ¬ (b = a ∧ 0 ≤ s ∧ s < 3) → h' b s = h b s
theorem frDx_r {a T N : Int} {h : AH} : frDx a T N h h := fun _ _ _ _ _ _ _ _ => rfl
theorem frDx_t {a T N N' : Int} {h h1 h2 : AH} (le : N ≤ N') (x : frDx a T N h h1) (y : frDx a T N' h1 h2) : frDx a T N h h2 := fun b s y1 y2 y3 y4 y5 y6 => (y b s y1 y2 y3 (by omega) (by omega) y6).trans (x b s y1 y2 y3 y4 y5 y6)
theorem frDx_T {a T N : Int} {h h' : AH} (hN : 0 ≤ N) (f : frT T N h h') : frDx a T N h h' := fun b s y1 y2 y3 y4 y5 y6 => f b s (by omega) (by omega) y3 y4 y5
theorem frDx_o {a T N : Int} {h h' : AH} (f : ∀ b s, ¬ (b = 441 ∧ 2 ≤ s ∧ s ≤ 18) → ¬ (b = a ∧ 0 ≤ s ∧ s < 3) → h' b s = h b s) : frDx a T N h h' := fun b s y1 _ _ _ _ y6 => f b s y1 y6
theorem fkG_app {E : EV} {sk : List Int} {t : TR} : ∀ (l : List TR) (i : Int), fkG E sk (l ++ [t]) i = min (fkG E sk l i) (keyE E (wnG sk (i + (l.length : Int))) t)
  | [], i => by
    show min (keyE E (wnG sk i) t) 1000000 = min 1000000 (keyE E (wnG sk (i + 0)) t)
    rw [Int.add_zero]; omega
  | u :: l, i => by
    show min (keyE E (wnG sk i) u) (fkG E sk (l ++ [t]) (i + 1)) = min (min (keyE E (wnG sk i) u) (fkG E sk l (i + 1))) (keyE E (wnG sk (i + ((l.length + 1 : Nat) : Int))) t)
    rw [fkG_app l (i + 1), show i + ((l.length + 1 : Nat) : Int) = i + 1 + (l.length : Int) by omega]
    omega
/-- behind terms of a list, x's keeping -/
def okD (B : Int → Int) (n A T a K : Int) (E : EV) (sk : List Int) (R : Int ⊕ Int) (l : List TR) (h : AH) : Prop := cqX B n A T E R h ∧ trsX h T E a l (h T 0) ∧ FK h = min K (fkG E sk l 0) ∧ h 441 16 = 0
theorem okD_f {B : Int → Int} {n A T a K : Int} {E : EV} {sk : List Int} {R R' : Int ⊕ Int} {l : List TR} {h h' : AH} (o : okD B n A T a K E sk R l h) (ha : a ≠ 441) (hT : Tset T) (c : cqX B n A T E R' h') (f : ∀ b s, ¬ (b = 441 ∧ 2 ≤ s ∧ s ≤ 5) → h' b s = h b s) : okD B n A T a K E sk R' l h' := by
  unfold Tset at hT
  obtain ⟨o1, o2, o3, o4⟩ := o
  exact ⟨c, by rw [f T 0 (by omega)]; exact trsX_f o2 (Int.le_refl _) (fun i i0 i1 => f _ _ (by omega)) (fun b s a0 a1 s0 s1 => f _ _ (by omega)) (fun s s0 s1 => f _ _ (by omega)), by rw [FK_fr (f _ _ (by omega)) (f _ _ (by omega))]; exact o3, by rw [f _ _ (by omega)]; exact o4⟩
theorem cm_ex {B : Int → Int} {n : Int} {P : PR} {h : AH} (s : Sx B n (sR P) h) (b : h 441 6 = 0) (c : h 441 2 = 44) : ∃ t q, P = .inr (t, q) := by
  cases P with
  | inl z => have := Sx_sort (show Sx B n (.inl z) h from s) b; omega
  | inr x => exact ⟨x.1, x.2, rfl⟩
def ouD (B : Int → Int) (n A T a K : Int) (E : EV) (sk : List Int) (l : List TR) (P : PR) (h' : AH) : Prop := match P with | .inl z => cqX B n A T E (.inl z) h' | .inr (t, q) => ¬ comma B n q ∧ okD B n A T a K E sk (.inr q) (l ++ [t]) h'
theorem vX13_loop_j314_286 (a1 : Int) (a3 : Int) (a4 : Int) (a5 : Int) (t1 : Int) {h : AH} {B : Int → Int} {n A T K : Int} {E : EV} {sk : List Int} {l : List TR} {R1 : Int ⊕ Int} (hB : ∀ i, 0 ≤ i → i < n → 0 ≤ B i ∧ B i < 256) (lo : isLo a1 ∧ T = a1 + 5 ∧ (l.length : Int) = a5) (o : okD B n A T (a1 + 4) K E sk R1 l h) (b6 : h 441 6 = 0) (w : t1 = wnG sk a5) (a5b : a5 ≤ 2100) : OK (gX13_loop_j314_286 a1 a3 a4 a5 t1 h) (Sum.elim (fun r => jt2 r fun y h' => (y = a5 + 1) ∧ (∃ t q, bdT R1 (pT B n false 13) = .inr (t, q) ∧ comma B n q ∧ okD B n A T (a1 + 4) K E sk (nx B n q) (l ++ [t]) h' ∧ h' 441 6 = 0 ∧ h T 0 < h' T 0) ∧ (frDx (a1 + 4) T (h T 0) h h' ∧ h T 0 ≤ h' T 0)) (Sum.elim (fun h' => (∃ z, bdT R1 (pT B n false 13) = .inl z ∧ h' 441 6 = 1 ∧ h' 441 7 = z) ∧ (0 ≤ h' 441 8 ∧ h' 441 8 ≤ 6 ∧ FK h' ≤ 1000000) ∧ (frDx (a1 + 4) T (h T 0) h h' ∧ h T 0 ≤ h' T 0)) (Sum.elim (fun r => jt2 r fun y h' => (y = a5 + 1) ∧ (ouD B n A T (a1 + 4) K E sk l (bdT R1 (pT B n false 13)) h') ∧ (frDx (a1 + 4) T (h T 0) h h' ∧ h T 0 ≤ h' T 0)) (fun r => jt2 r fun y h' => (0 : Int) = 1)))) := by
  have c := o.1
  have z16 := o.2.2.2
  have LA : a1 = 378 ∨ a1 = 391 := lo.1
  have TS : Tset T := c.1.2.2.2.1.2.2
  have t0 := c.2.2.2.choose_spec.2.2.1
  have FA := fun t => fkG_app (E := E) (sk := sk) (t := t) l 0
  rw [Int.zero_add, lo.2.2, ← w] at FA
  unfold gX13_loop_j314_286
  refine OK_jb2 (vX13_toldC (B := B) (n := n) (A := A) (T := T) (E := E) (R := R1) _ (by (first | assumption | omega | ((try dsimp only [jt2, jt3, jt4]); first | omega | (simp (disch := omega) only [jst_eq, jst_ne, jst_ni, jst_o, jI_i, jcpy_out, w32_id, jdiv_nn, jshr_k, jand_255] <;> first | done | omega | assumption)) | (intros; simp (disch := omega) only [jst_eq, jst_ne, jst_ni, jst_o, jI_i, jcpy_out, w32_id, jdiv_nn, *] <;> first | done | omega) | (intros; simp (disch := omega) only [jst_eq, jst_ne, jst_ni, jst_o, jI_i, jcpy_out, w32_id, jdiv_nn] at * <;> first | done | omega | assumption) | (intros; first | rfl | (exfalso; omega) | ((repeat' apply And.intro) <;> first | assumption | rfl | omega | trivial)))) (by (first | assumption | omega | ((try dsimp only [jt2, jt3, jt4]); first | omega | (simp (disch := omega) only [jst_eq, jst_ne, jst_ni, jst_o, jI_i, jcpy_out, w32_id, jdiv_nn, jshr_k, jand_255] <;> first | done | omega | assumption)) | (intros; simp (disch := omega) only [jst_eq, jst_ne, jst_ni, jst_o, jI_i, jcpy_out, w32_id, jdiv_nn, *] <;> first | done | omega) | (intros; simp (disch := omega) only [jst_eq, jst_ne, jst_ni, jst_o, jI_i, jcpy_out, w32_id, jdiv_nn] at * <;> first | done | omega | assumption) | (intros; first | rfl | (exfalso; omega) | ((repeat' apply And.intro) <;> first | assumption | rfl | omega | trivial)))) (by (first | assumption | omega | ((try dsimp only [jt2, jt3, jt4]); first | omega | (simp (disch := omega) only [jst_eq, jst_ne, jst_ni, jst_o, jI_i, jcpy_out, w32_id, jdiv_nn, jshr_k, jand_255] <;> first | done | omega | assumption)) | (intros; simp (disch := omega) only [jst_eq, jst_ne, jst_ni, jst_o, jI_i, jcpy_out, w32_id, jdiv_nn, *] <;> first | done | omega) | (intros; simp (disch := omega) only [jst_eq, jst_ne, jst_ni, jst_o, jI_i, jcpy_out, w32_id, jdiv_nn] at * <;> first | done | omega | assumption) | (intros; first | rfl | (exfalso; omega) | ((repeat' apply And.intro) <;> first | assumption | rfl | omega | trivial))))) (fun v63 h64 r1 => ?_)
  try dsimp only [Sum.elim_inl, Sum.elim_inr, jt2, jt3, jt4, jt5, jt6, jt7, jt8] at r1
  obtain ⟨fr1, td1⟩ := r1
  try simp (disch := omega) only [jst_eq, jst_ne, jst_ni, jI_i, jcmp_lt, jcmp_gt, w32_id, jcpy_out, Sum.elim_inl, Sum.elim_inr, jt2, jt3, jt4, jt5, jt6, jt7, jt8] at fr1
  try simp (disch := omega) only [jst_eq, jst_ne, jst_ni, jI_i, jcmp_lt, jcmp_gt, w32_id, jcpy_out, Sum.elim_inl, Sum.elim_inr, jt2, jt3, jt4, jt5, jt6, jt7, jt8] at td1
  obtain ⟨d1, d2, d3⟩ := td1
  have F64 : frDx (a1 + 4) T (h T 0) h h64 := frDx_T t0 fr1
  have f64 := d1.1.2.2.2.2.2.1
  have fk64 := d1.1.2.2.2.2.2.2.1
  have GD : ∀ t q, bdT R1 (pT B n false 13) = .inr (t, q) → (rXc h64 T (rsE E t 0) v63 0 (v63 + 1) ∧ 0 ≤ v63 ∧ v63 + sz t ≤ h64 T 0) ∧ FK h64 = min K (fkG E sk (l ++ [t]) 0) ∧ h T 0 < h64 T 0 ∧ h64 441 16 = 0 := fun t q e => by { unfold tdG at d3; rw [e] at d3; obtain ⟨⟨g1, g2, g3, g4⟩, g5, g6, ⟨g7, g8⟩, q0, g9, g10, g11⟩ := d3; have st := sz_pos t; exact ⟨⟨g5, g2, by omega⟩, by rw [g6, o.2.2.1, FA t, Int.min_assoc], by omega, g8⟩ }
  clear d3
  have LE0 : ∀ t q, bdT R1 (pT B n false 13) = .inr (t, q) → trsX h64 T E (a1 + 4) l (h64 T 0) := fun t q e => trsX_T o.2.1 (by have := (GD t q e).2.2.1; omega) (by omega) TS fr1
  refine OK_if (fun c1 => ?_) (fun c1 => ?_)
  · skip
    try simp (disch := omega) only [jst_eq, jst_ne, jst_ni, jI_i, jcmp_lt, jcmp_gt, w32_id, jcpy_out, Sum.elim_inl, Sum.elim_inr, jt2, jt3, jt4, jt5, jt6, jt7, jt8] at c1
    refine OK_if (fun c2 => ?_) (fun c2 => ?_)
    · skip
      try simp (disch := omega) only [jst_eq, jst_ne, jst_ni, jI_i, jcmp_lt, jcmp_gt, w32_id, jcpy_out, Sum.elim_inl, Sum.elim_inr, jt2, jt3, jt4, jt5, jt6, jt7, jt8] at c2
      have OK2 : ∀ t q, bdT R1 (pT B n false 13) = .inr (t, q) → okD B n A T (a1 + 4) K E sk (.inr q) (l ++ [t]) h64 := fun t q e => ⟨by rw [e] at d1; exact d1, trsX_a (LE0 t q e) (fun z => by omega) (GD t q e).1.2.1 (GD t q e).1.2.2 (GD t q e).1.1, (GD t q e).2.1, (GD t q e).2.2.2⟩
      unfold gX13_loop_j342_286
      refine OK_jlx (fun x68 ex68 => ?_)
      try simp (disch := omega) only [jst_eq, jst_ne, jst_ni, jI_i, jcmp_lt, jcmp_gt, w32_id, jcpy_out, Sum.elim_inl, Sum.elim_inr, jt2, jt3, jt4, jt5, jt6, jt7, jt8] at ex68
      refine OK_if (fun c3 => ?_) (fun c3 => ?_)
      · skip
        try simp (disch := omega) only [jst_eq, jst_ne, jst_ni, jI_i, jcmp_lt, jcmp_gt, w32_id, jcpy_out, Sum.elim_inl, Sum.elim_inr, jt2, jt3, jt4, jt5, jt6, jt7, jt8] at c3
        obtain ⟨t, q, eP⟩ : ∃ t q, bdT R1 (pT B n false 13) = .inr (t, q) := cm_ex d1.2.2.1 c1 c3
        have O3 := OK2 t q eP
        have NB3 := Sx_inr O3.1.2.2.1
        have CM3 : comma B n q := (comma_x NB3.1).mpr c3
        refine OK_jb (vX13_nextS (B := B) (n := n) (A := A) (q := q) (by exact O3.1.1.1) (by (first | assumption | omega | ((try dsimp only [jt2, jt3, jt4]); first | omega | (simp (disch := omega) only [jst_eq, jst_ne, jst_ni, jst_o, jI_i, jcpy_out, w32_id, jdiv_nn, jshr_k, jand_255] <;> first | done | omega | assumption)) | (intros; simp (disch := omega) only [jst_eq, jst_ne, jst_ni, jst_o, jI_i, jcpy_out, w32_id, jdiv_nn, *] <;> first | done | omega) | (intros; simp (disch := omega) only [jst_eq, jst_ne, jst_ni, jst_o, jI_i, jcpy_out, w32_id, jdiv_nn] at * <;> first | done | omega | assumption) | (intros; first | rfl | (exfalso; omega) | ((repeat' apply And.intro) <;> first | assumption | rfl | omega | trivial)))) (by exact NB3.1) (by exact NB3.2)) (fun h71 r2 => ?_)
        try dsimp only [Sum.elim_inl, Sum.elim_inr, jt2, jt3, jt4, jt5, jt6, jt7, jt8] at r2
        obtain ⟨sx2, fr2⟩ := r2
        try simp (disch := omega) only [jst_eq, jst_ne, jst_ni, jI_i, jcmp_lt, jcmp_gt, w32_id, jcpy_out, Sum.elim_inl, Sum.elim_inr, jt2, jt3, jt4, jt5, jt6, jt7, jt8] at sx2
        try simp (disch := omega) only [jst_eq, jst_ne, jst_ni, jI_i, jcmp_lt, jcmp_gt, w32_id, jcpy_out, Sum.elim_inl, Sum.elim_inr, jt2, jt3, jt4, jt5, jt6, jt7, jt8] at fr2
        refine OK_some ?_
        try dsimp only [Sum.elim_inl, Sum.elim_inr, jt2, jt3, jt4, jt5, jt6, jt7, jt8]
        try dsimp only [Sum.elim_inl, Sum.elim_inr, jt2, jt3, jt4, jt5, jt6, jt7, jt8]
        refine ⟨?_, ?_, ?_⟩
        · omega -- o8 e1.1
        · exact ⟨t, q, eP, CM3, okD_f O3 (by omega) TS (cqX_x hB O3.1 (by rw [CM3.1]; decide) fr2 sx2) fr2, by rw [fr2 _ _ (by omega)]; exact c1, by rw [fr2 _ _ (by omega)]; exact (GD t q eP).2.2.1⟩ -- o9 e1.2
        · exact ⟨fun b s y1 y2 y3 y4 y5 y6 => (by rw [fr2 b s (by omega)]; exact F64 b s y1 y2 y3 y4 y5 y6), by rw [fr2 T 0 (by omega)]; exact d2.2.2⟩ -- o10 e1.3
      · skip
        try simp (disch := omega) only [jst_eq, jst_ne, jst_ni, jI_i, jcmp_lt, jcmp_gt, w32_id, jcpy_out, Sum.elim_inl, Sum.elim_inr, jt2, jt3, jt4, jt5, jt6, jt7, jt8] at c3
        refine OK_some ?_
        try dsimp only [Sum.elim_inl, Sum.elim_inr, jt2, jt3, jt4, jt5, jt6, jt7, jt8]
        try dsimp only [Sum.elim_inl, Sum.elim_inr, jt2, jt3, jt4, jt5, jt6, jt7, jt8]
        refine ⟨?_, ?_, ?_⟩
        · omega -- o11 e2.1
        · (unfold ouD; cases e : bdT R1 (pT B n false 13) with | inl z => (rw [e] at d1; exact d1) | inr x => (obtain ⟨t, q⟩ := x; have O := OK2 t q e; exact ⟨fun z => c3 ((comma_x (Sx_inr O.1.2.2.1).1).mp z), O⟩)) -- o12 e2.2
        · exact ⟨F64, d2.2.2⟩ -- o13 e2.3
    · skip
      try simp (disch := omega) only [jst_eq, jst_ne, jst_ni, jI_i, jcmp_lt, jcmp_gt, w32_id, jcpy_out, Sum.elim_inl, Sum.elim_inr, jt2, jt3, jt4, jt5, jt6, jt7, jt8] at c2
      refine OK_jg (by (first | assumption | omega | ((try dsimp only [jt2, jt3, jt4]); first | omega | (simp (disch := omega) only [jst_eq, jst_ne, jst_ni, jst_o, jI_i, jcpy_out, w32_id, jdiv_nn, jshr_k, jand_255] <;> first | done | omega | assumption)) | (intros; simp (disch := omega) only [jst_eq, jst_ne, jst_ni, jst_o, jI_i, jcpy_out, w32_id, jdiv_nn, *] <;> first | done | omega) | (intros; simp (disch := omega) only [jst_eq, jst_ne, jst_ni, jst_o, jI_i, jcpy_out, w32_id, jdiv_nn] at * <;> first | done | omega | assumption) | (intros; first | rfl | (exfalso; omega) | ((repeat' apply And.intro) <;> first | assumption | rfl | omega | trivial)))) ?_ -- o14
      refine OK_jl ?_
      have F67 : ∀ a s, ¬ (a = a1 + 4 ∧ s = a5) → jst h64 (a1 + 4) a5 v63 a s = h64 a s := fun a s y => jst_o y
      have V67 : jst h64 (a1 + 4) a5 v63 (a1 + 4) a5 = v63 := jst_eq
      generalize jst h64 (a1 + 4) a5 v63 = g67 at *
      have d7 : cqX B n A T E (sR (bdT R1 (pT B n false 13))) g67 := cqX_f d1 (fun a s y => F67 a s (fun z => by rcases y with y | y; { have := (rdN_n y).2.1; omega }; { omega }))
      have OK7 : ∀ t q, bdT R1 (pT B n false 13) = .inr (t, q) → okD B n A T (a1 + 4) K E sk (.inr q) (l ++ [t]) g67 := fun t q e => by { have E0 : g67 T 0 = h64 T 0 := F67 _ _ (by omega); have X := LE0 t q e; have G := GD t q e; have F1 : ∀ a s, T + 1 ≤ a → a ≤ T + 4 → 0 ≤ s → s < h64 T 0 → g67 a s = h64 a s := fun a s a0 a1 s0 s1 => F67 a s (by omega); have F2 : ∀ s, 0 ≤ s → s < 3 * h64 T 0 → g67 (T + 5) s = h64 (T + 5) s := fun s s0 s1 => F67 _ s (by omega); have X7 : trsX g67 T E (a1 + 4) l (h64 T 0) := fun i i3 u eu => (by obtain ⟨z1, z2, z3⟩ := X i i3 u eu; have il : i < l.length := (List.getElem?_eq_some_iff.mp eu).1; rw [F67 (a1 + 4) i (by omega)]; exact ⟨z1, z2, rXc_g z1 z2 F1 F2 z3⟩); refine ⟨by rw [e] at d7; exact d7, ?_, by rw [FK_fr (F67 _ _ (by omega)) (F67 _ _ (by omega))]; exact G.2.1, by rw [F67 _ _ (by omega)]; exact G.2.2.2⟩; rw [E0]; exact trsX_a X7 (fun z => by rw [lo.2.2]; exact V67) G.1.2.1 G.1.2.2 (rXc_g G.1.2.1 G.1.2.2 F1 F2 G.1.1) }
      have b7 : g67 441 6 = 0 := by { rw [F67 _ _ (by omega)]; exact c1 }
      have T7 : g67 T 0 = h64 T 0 := F67 _ _ (by omega)
      unfold gX13_loop_j342_286
      refine OK_jlx (fun x68 ex68 => ?_)
      try simp (disch := omega) only [jst_eq, jst_ne, jst_ni, jI_i, jcmp_lt, jcmp_gt, w32_id, jcpy_out, Sum.elim_inl, Sum.elim_inr, jt2, jt3, jt4, jt5, jt6, jt7, jt8] at ex68
      refine OK_if (fun c4 => ?_) (fun c4 => ?_)
      · skip
        try simp (disch := omega) only [jst_eq, jst_ne, jst_ni, jI_i, jcmp_lt, jcmp_gt, w32_id, jcpy_out, Sum.elim_inl, Sum.elim_inr, jt2, jt3, jt4, jt5, jt6, jt7, jt8] at c4
        obtain ⟨t, q, eP⟩ : ∃ t q, bdT R1 (pT B n false 13) = .inr (t, q) := cm_ex d7.2.2.1 b7 c4
        have O4 := OK7 t q eP
        have NB4 := Sx_inr O4.1.2.2.1
        have CM4 : comma B n q := (comma_x NB4.1).mpr c4
        refine OK_jb (vX13_nextS (B := B) (n := n) (A := A) (q := q) (by exact O4.1.1.1) (by (first | assumption | omega | ((try dsimp only [jt2, jt3, jt4]); first | omega | (simp (disch := omega) only [jst_eq, jst_ne, jst_ni, jst_o, jI_i, jcpy_out, w32_id, jdiv_nn, jshr_k, jand_255] <;> first | done | omega | assumption)) | (intros; simp (disch := omega) only [jst_eq, jst_ne, jst_ni, jst_o, jI_i, jcpy_out, w32_id, jdiv_nn, *] <;> first | done | omega) | (intros; simp (disch := omega) only [jst_eq, jst_ne, jst_ni, jst_o, jI_i, jcpy_out, w32_id, jdiv_nn] at * <;> first | done | omega | assumption) | (intros; first | rfl | (exfalso; omega) | ((repeat' apply And.intro) <;> first | assumption | rfl | omega | trivial)))) (by exact NB4.1) (by exact NB4.2)) (fun h71 r3 => ?_)
        try dsimp only [Sum.elim_inl, Sum.elim_inr, jt2, jt3, jt4, jt5, jt6, jt7, jt8] at r3
        obtain ⟨sx3, fr3⟩ := r3
        try simp (disch := omega) only [jst_eq, jst_ne, jst_ni, jI_i, jcmp_lt, jcmp_gt, w32_id, jcpy_out, Sum.elim_inl, Sum.elim_inr, jt2, jt3, jt4, jt5, jt6, jt7, jt8] at sx3
        try simp (disch := omega) only [jst_eq, jst_ne, jst_ni, jI_i, jcmp_lt, jcmp_gt, w32_id, jcpy_out, Sum.elim_inl, Sum.elim_inr, jt2, jt3, jt4, jt5, jt6, jt7, jt8] at fr3
        refine OK_some ?_
        try dsimp only [Sum.elim_inl, Sum.elim_inr, jt2, jt3, jt4, jt5, jt6, jt7, jt8]
        try dsimp only [Sum.elim_inl, Sum.elim_inr, jt2, jt3, jt4, jt5, jt6, jt7, jt8]
        refine ⟨?_, ?_, ?_⟩
        · omega -- o19 e3.1
        · exact ⟨t, q, eP, CM4, okD_f O4 (by omega) TS (cqX_x hB O4.1 (by rw [CM4.1]; decide) fr3 sx3) fr3, by rw [fr3 _ _ (by omega)]; exact b7, by rw [fr3 _ _ (by omega), T7]; exact (GD t q eP).2.2.1⟩ -- o20 e3.2
        · exact ⟨fun b s y1 y2 y3 y4 y5 y6 => (by rw [fr3 b s (by omega), F67 b s (by omega)]; exact F64 b s y1 y2 y3 y4 y5 y6), by rw [fr3 T 0 (by omega), T7]; exact d2.2.2⟩ -- o21 e3.3
      · skip
        try simp (disch := omega) only [jst_eq, jst_ne, jst_ni, jI_i, jcmp_lt, jcmp_gt, w32_id, jcpy_out, Sum.elim_inl, Sum.elim_inr, jt2, jt3, jt4, jt5, jt6, jt7, jt8] at c4
        refine OK_some ?_
        try dsimp only [Sum.elim_inl, Sum.elim_inr, jt2, jt3, jt4, jt5, jt6, jt7, jt8]
        try dsimp only [Sum.elim_inl, Sum.elim_inr, jt2, jt3, jt4, jt5, jt6, jt7, jt8]
        refine ⟨?_, ?_, ?_⟩
        · omega -- o22 e4.1
        · (unfold ouD; cases e : bdT R1 (pT B n false 13) with | inl z => (rw [e] at d7; exact d7) | inr x => (obtain ⟨t, q⟩ := x; have O := OK7 t q e; exact ⟨fun z => c4 ((comma_x (Sx_inr O.1.2.2.1).1).mp z), O⟩)) -- o23 e4.2
        · exact ⟨fun b s y1 y2 y3 y4 y5 y6 => (by rw [F67 b s (by omega)]; exact F64 b s y1 y2 y3 y4 y5 y6), by rw [T7]; exact d2.2.2⟩ -- o24 e4.3
  · skip
    try simp (disch := omega) only [jst_eq, jst_ne, jst_ni, jI_i, jcmp_lt, jcmp_gt, w32_id, jcpy_out, Sum.elim_inl, Sum.elim_inr, jt2, jt3, jt4, jt5, jt6, jt7, jt8] at c1
    refine OK_some ?_
    try dsimp only [Sum.elim_inl, Sum.elim_inr, jt2, jt3, jt4, jt5, jt6, jt7, jt8]
    try dsimp only [Sum.elim_inl, Sum.elim_inr, jt2, jt3, jt4, jt5, jt6, jt7, jt8]
    refine ⟨?_, ?_, ?_⟩
    · exact ⟨_, sR_l (Sx_br d1.2.2.1 c1).2, (Sx_br d1.2.2.1 c1).1, rfl⟩ -- o25 e5.1
    · exact ⟨f64.1, f64.2, fk64⟩ -- o26 e5.2
    · exact ⟨F64, d2.2.2⟩ -- o27 e5.3
theorem liD_s {B : Int → Int} {n A T a K a5 y : Int} {E : EV} {sk : List Int} {R0 R1 : Int ⊕ Int} {l : List TR} {k : Nat} {h h' : AH} (hB : ∀ i, 0 ≤ i → i < n → 0 ≤ B i ∧ B i < 256) (n2 : n ≤ 2000) (w : bS R0 (pTs B n) = bS R1 (pKs B n (pT B n false 13) k l)) (fu : ∀ q, R1 = .inr q → 2002 ≤ (k : Int) + q ∧ q ≤ 2000) (c : cqX B n A T E R1 h) (ll : (l.length : Int) = a5) (ey : y = a5 + 1) (o : ∃ t q, bdT R1 (pT B n false 13) = .inr (t, q) ∧ comma B n q ∧ okD B n A T a K E sk (nx B n q) (l ++ [t]) h' ∧ h' 441 6 = 0 ∧ h T 0 < h' T 0) : ∃ (R1 : Int ⊕ Int) (l : List TR) (k : Nat), bS R0 (pTs B n) = bS R1 (pKs B n (pT B n false 13) k l) ∧ (∀ q, R1 = .inr q → 2002 ≤ (k : Int) + q ∧ q ≤ 2000) ∧ (l.length : Int) = y ∧ cqX B n A T E R1 h' ∧ okD B n A T a K E sk R1 l h' ∧ h' 441 6 = 0 := by
  obtain ⟨t, q', e, cm, s, b, _⟩ := o
  have W := ((pks_s w fu).2 t q' e).1 cm
  obtain ⟨q0, e1, e2⟩ := bdT_inr e
  have g := c.2.2.1
  rw [e1] at g
  obtain ⟨g1, g2⟩ := Sx_inr g
  have wp := pT_wp hB 13 q0 t q' g1.2.2.1 g1.2.2.2 g2 e2
  have f0 := (fu q0 e1).1
  refine ⟨nx B n q', l ++ [t], k - 1, W, fun q'' e'' => ?_, by rw [List.length_append]; show ((l.length + 1 : Nat) : Int) = y; omega, s.1, s, b⟩
  have w3 := wp.2.2.1
  have g3 := g1.2.2.1
  have nr := nx_r hB (by omega) wp.2.2.2.1 wp.2.2.2.2.1 (by rw [cm.1]; decide) e''
  omega
def okGo (B : Int → Int) (n A T a K : Int) (E : EV) (sk : List Int) (W : Int ⊕ (List TR × Int)) (y : Int) (h' : AH) : Prop := match W with | .inl z => cqX B n A T E (.inl z) h' | .inr (l, q) => (l.length : Int) = y ∧ okD B n A T a K E sk (.inr q) l h'
theorem ouD_0 {B : Int → Int} {n A T a K a5 y : Int} {E : EV} {sk : List Int} {l : List TR} {P : PR} {h' : AH} {k : Nat} {W : Int ⊕ (List TR × Int)} (ps : (∀ z, P = .inl z → W = .inl z) ∧ ∀ t q', P = .inr (t, q') → (comma B n q' → W = bS (nx B n q') (pKs B n (pT B n false 13) (k - 1) (l ++ [t]))) ∧ (¬ comma B n q' → W = .inr (l ++ [t], q'))) (o : ouD B n A T a K E sk l P h') (ll : (l.length : Int) = a5) (ey : y = a5 + 1) : okGo B n A T a K E sk W y h' := by
  cases P with
  | inl z => rw [ps.1 z rfl]; exact o
  | inr x =>
    obtain ⟨t, q⟩ := x
    rw [(ps.2 t q rfl).2 o.1]
    exact ⟨by rw [List.length_append]; show ((l.length + 1 : Nat) : Int) = y; omega, o.2⟩
theorem vX13_loop_l286 (i1 : Int) (i3 : Int) (i4 : Int) (a50 : Int) {h0 : AH} {B : Int → Int} {n A T K : Int} {E : EV} {sk : List Int} {R0 : Int ⊕ Int} (hB : ∀ i, 0 ≤ i → i < n → 0 ≤ B i ∧ B i < 256) (lo : isLo i1 ∧ T = i1 + 5) (c : cqX B n A T E R0 h0) (kd : h0 i1 2 = (sk.length : Int) ∧ sk.length ≤ 3 ∧ ∀ k, 0 ≤ k → k < (sk.length : Int) → h0 446 k = kL sk k) (z : h0 441 6 = 0 → h0 441 16 = 0 ∧ FK h0 = min K 1000000) (h1 : a50 = 0) : OK (gX13_loop_l286 i1 i3 i4 a50 h0) (Sum.elim (fun h' => (∃ z, bS R0 (pTs B n) = .inl z ∧ h' 441 6 = 1 ∧ h' 441 7 = z) ∧ (0 ≤ h' 441 8 ∧ h' 441 8 ≤ 6 ∧ FK h' ≤ 1000000) ∧ (frDx (i1 + 4) T (h0 T 0) h0 h')) (Sum.elim (fun r => jt2 r fun y h' => (okGo B n A T (i1 + 4) K E sk (bS R0 (pTs B n)) y h') ∧ (frDx (i1 + 4) T (h0 T 0) h0 h') ∧ (1 ≤ y ∧ h0 441 6 = 0 ∧ h0 T 0 ≤ h' T 0)) (fun r => jt2 r fun y h' => h' = h0 ∧ ¬ h0 441 6 = 0))) := by
  have LA : i1 = 378 ∨ i1 = 391 := lo.1
  have n2 := c.1.1.2.2.2.1
  have n0 := c.1.1.2.2.1
  unfold gX13_loop_l286
  refine OK_jit (I := (fun (s : Int × AH) => jt2 s fun a5 h => (0 ≤ a5 ∧ a5 ≤ h T 0) ∧ (∃ (R1 : Int ⊕ Int) (l : List TR) (k : Nat), bS R0 (pTs B n) = bS R1 (pKs B n (pT B n false 13) k l) ∧ (∀ q, R1 = .inr q → 2002 ≤ (k : Int) + q ∧ q ≤ 2000) ∧ (l.length : Int) = a5 ∧ cqX B n A T E R1 h ∧ (h 441 6 = 0 → okD B n A T (i1 + 4) K E sk R1 l h)) ∧ ((h 441 6 = 0 ∧ h0 441 6 = 0) ∨ h = h0) ∧ (frDx (i1 + 4) T (h0 T 0) h0 h) ∧ (h0 T 0 ≤ h T 0))) (m := (fun (s : Int × AH) => jt2 s fun a5 h => (2200 - h T 0).toNat)) ?_ ?_
  · intro s hs
    obtain ⟨a5, h⟩ := s
    dsimp only [Sum.elim_inl, Sum.elim_inr, jt2, jt3, jt4, jt5, jt6, jt7, jt8] at hs
    obtain ⟨q0, q1, bk, fr, t0⟩ := hs
    unfold gX13_loop_b286
    refine OK_jt2 ?_
    obtain ⟨R1, l, k, w, fu, ll, C1, OK0⟩ := q1
    have HT1 : h T 0 ≤ 2100 := by { have := C1.2.2.2.choose_spec.2.2.2.1; have := C1.2.2.2.choose_spec.2.1; omega }
    have PS := pks_s w fu
    have KD : h i1 2 = (sk.length : Int) ∧ ∀ k, 0 ≤ k → k < (sk.length : Int) → h 446 k = kL sk k := ⟨by { rw [fr _ _ (by omega) (by omega) (by omega) (by omega) (by omega) (by omega)]; exact kd.1 }, fun k k0 k1 => by { rw [fr _ _ (by omega) (by omega) (by omega) (by omega) (by omega) (by omega)]; exact kd.2.2 k k0 k1 }⟩
    refine OK_if (fun c1 => ?_) (fun c1 => ?_)
    · skip
      try simp (disch := omega) only [jst_eq, jst_ne, jst_ni, jI_i, jcmp_lt, jcmp_gt, w32_id, jcpy_out, Sum.elim_inl, Sum.elim_inr, jt2, jt3, jt4, jt5, jt6, jt7, jt8] at c1
      have O := OK0 c1
      have B0 : h0 441 6 = 0 := by { rcases bk with b | b; { exact b.2 }; { rw [← b]; exact c1 } }
      refine OK_if (fun c2 => ?_) (fun c2 => ?_)
      · skip
        try simp (disch := omega) only [jst_eq, jst_ne, jst_ni, jI_i, jcmp_lt, jcmp_gt, w32_id, jcpy_out, Sum.elim_inl, Sum.elim_inr, jt2, jt3, jt4, jt5, jt6, jt7, jt8] at c2
        refine OK_mono (vX13_loop_j314_286 (B := B) (n := n) (A := A) (T := T) (K := K) (E := E) (sk := sk) (l := l) (R1 := R1) _ _ _ _ _ (by (first | assumption | omega | ((try dsimp only [jt2, jt3, jt4]); first | omega | (simp (disch := omega) only [jst_eq, jst_ne, jst_ni, jst_o, jI_i, jcpy_out, w32_id, jdiv_nn, jshr_k, jand_255] <;> first | done | omega | assumption)) | (intros; simp (disch := omega) only [jst_eq, jst_ne, jst_ni, jst_o, jI_i, jcpy_out, w32_id, jdiv_nn, *] <;> first | done | omega) | (intros; simp (disch := omega) only [jst_eq, jst_ne, jst_ni, jst_o, jI_i, jcpy_out, w32_id, jdiv_nn] at * <;> first | done | omega | assumption) | (intros; first | rfl | (exfalso; omega) | ((repeat' apply And.intro) <;> first | assumption | rfl | omega | trivial)))) (by (first | assumption | omega | ((try dsimp only [jt2, jt3, jt4]); first | omega | (simp (disch := omega) only [jst_eq, jst_ne, jst_ni, jst_o, jI_i, jcpy_out, w32_id, jdiv_nn, jshr_k, jand_255] <;> first | done | omega | assumption)) | (intros; simp (disch := omega) only [jst_eq, jst_ne, jst_ni, jst_o, jI_i, jcpy_out, w32_id, jdiv_nn, *] <;> first | done | omega) | (intros; simp (disch := omega) only [jst_eq, jst_ne, jst_ni, jst_o, jI_i, jcpy_out, w32_id, jdiv_nn] at * <;> first | done | omega | assumption) | (intros; first | rfl | (exfalso; omega) | ((repeat' apply And.intro) <;> first | assumption | rfl | omega | trivial)))) (by (first | assumption | omega | ((try dsimp only [jt2, jt3, jt4]); first | omega | (simp (disch := omega) only [jst_eq, jst_ne, jst_ni, jst_o, jI_i, jcpy_out, w32_id, jdiv_nn, jshr_k, jand_255] <;> first | done | omega | assumption)) | (intros; simp (disch := omega) only [jst_eq, jst_ne, jst_ni, jst_o, jI_i, jcpy_out, w32_id, jdiv_nn, *] <;> first | done | omega) | (intros; simp (disch := omega) only [jst_eq, jst_ne, jst_ni, jst_o, jI_i, jcpy_out, w32_id, jdiv_nn] at * <;> first | done | omega | assumption) | (intros; first | rfl | (exfalso; omega) | ((repeat' apply And.intro) <;> first | assumption | rfl | omega | trivial)))) (by (first | assumption | omega | ((try dsimp only [jt2, jt3, jt4]); first | omega | (simp (disch := omega) only [jst_eq, jst_ne, jst_ni, jst_o, jI_i, jcpy_out, w32_id, jdiv_nn, jshr_k, jand_255] <;> first | done | omega | assumption)) | (intros; simp (disch := omega) only [jst_eq, jst_ne, jst_ni, jst_o, jI_i, jcpy_out, w32_id, jdiv_nn, *] <;> first | done | omega) | (intros; simp (disch := omega) only [jst_eq, jst_ne, jst_ni, jst_o, jI_i, jcpy_out, w32_id, jdiv_nn] at * <;> first | done | omega | assumption) | (intros; first | rfl | (exfalso; omega) | ((repeat' apply And.intro) <;> first | assumption | rfl | omega | trivial)))) (by (unfold wnG; rw [if_neg (by omega)])) (by (first | assumption | omega | ((try dsimp only [jt2, jt3, jt4]); first | omega | (simp (disch := omega) only [jst_eq, jst_ne, jst_ni, jst_o, jI_i, jcpy_out, w32_id, jdiv_nn, jshr_k, jand_255] <;> first | done | omega | assumption)) | (intros; simp (disch := omega) only [jst_eq, jst_ne, jst_ni, jst_o, jI_i, jcpy_out, w32_id, jdiv_nn, *] <;> first | done | omega) | (intros; simp (disch := omega) only [jst_eq, jst_ne, jst_ni, jst_o, jI_i, jcpy_out, w32_id, jdiv_nn] at * <;> first | done | omega | assumption) | (intros; first | rfl | (exfalso; omega) | ((repeat' apply And.intro) <;> first | assumption | rfl | omega | trivial))))) (fun r r1 => ?_)
        rcases r with r | r
        · skip
          have r2 := r1; clear r1; dsimp only [Sum.elim_inl, Sum.elim_inr] at r2
          obtain ⟨y1, y2⟩ := r
          try dsimp only [Sum.elim_inl, Sum.elim_inr, jt2, jt3, jt4, jt5, jt6, jt7, jt8] at r2
          obtain ⟨cc1, rr1, fr1⟩ := r2
          try simp (disch := omega) only [jst_eq, jst_ne, jst_ni, jI_i, jcmp_lt, jcmp_gt, w32_id, jcpy_out, Sum.elim_inl, Sum.elim_inr, jt2, jt3, jt4, jt5, jt6, jt7, jt8] at cc1
          try simp (disch := omega) only [jst_eq, jst_ne, jst_ni, jI_i, jcmp_lt, jcmp_gt, w32_id, jcpy_out, Sum.elim_inl, Sum.elim_inr, jt2, jt3, jt4, jt5, jt6, jt7, jt8] at rr1
          try simp (disch := omega) only [jst_eq, jst_ne, jst_ni, jI_i, jcmp_lt, jcmp_gt, w32_id, jcpy_out, Sum.elim_inl, Sum.elim_inr, jt2, jt3, jt4, jt5, jt6, jt7, jt8] at fr1
          try dsimp only [Sum.elim_inl, Sum.elim_inr, jt2, jt3, jt4, jt5, jt6, jt7, jt8]
          refine ⟨?_, ?_⟩
          · try dsimp only [Sum.elim_inl, Sum.elim_inr, jt2, jt3, jt4, jt5, jt6, jt7, jt8]
            refine ⟨?_, ?_, ?_, ?_, ?_⟩
            · (obtain ⟨_, _, _, _, _, _, b⟩ := rr1; omega) -- o7 e1i.1
            · (obtain ⟨R2, l2, k2, x1, x2, x3, x4, x5, x6⟩ := liD_s hB n2 w fu C1 ll cc1 rr1; exact ⟨R2, l2, k2, x1, x2, x3, x4, fun _ => x5⟩) -- o8 e1i.2
            · (obtain ⟨_, _, _, _, _, b, _⟩ := rr1; exact Or.inl ⟨b, B0⟩) -- o9 e1i.3
            · exact frDx_t t0 fr fr1.1 -- o10 e1i.4
            · (have := fr1.2; omega) -- o11 e1i.5
          · (obtain ⟨_, _, _, _, _, _, b⟩ := rr1; omega) -- o12 e1m
        · skip
          have r3 := r1; clear r1; dsimp only [Sum.elim_inl, Sum.elim_inr] at r3
          rcases r with r | r
          · skip
            have r4 := r3; clear r3; dsimp only [Sum.elim_inl, Sum.elim_inr] at r4
            try dsimp only [Sum.elim_inl, Sum.elim_inr, jt2, jt3, jt4, jt5, jt6, jt7, jt8] at r4
            obtain ⟨bz2, f82, fr2⟩ := r4
            try simp (disch := omega) only [jst_eq, jst_ne, jst_ni, jI_i, jcmp_lt, jcmp_gt, w32_id, jcpy_out, Sum.elim_inl, Sum.elim_inr, jt2, jt3, jt4, jt5, jt6, jt7, jt8] at bz2
            try simp (disch := omega) only [jst_eq, jst_ne, jst_ni, jI_i, jcmp_lt, jcmp_gt, w32_id, jcpy_out, Sum.elim_inl, Sum.elim_inr, jt2, jt3, jt4, jt5, jt6, jt7, jt8] at f82
            try simp (disch := omega) only [jst_eq, jst_ne, jst_ni, jI_i, jcmp_lt, jcmp_gt, w32_id, jcpy_out, Sum.elim_inl, Sum.elim_inr, jt2, jt3, jt4, jt5, jt6, jt7, jt8] at fr2
            try dsimp only [Sum.elim_inl, Sum.elim_inr, jt2, jt3, jt4, jt5, jt6, jt7, jt8]
            try dsimp only [Sum.elim_inl, Sum.elim_inr, jt2, jt3, jt4, jt5, jt6, jt7, jt8]
            refine ⟨?_, ?_, ?_⟩
            · (obtain ⟨z, e, z1, z2⟩ := bz2; exact ⟨z, PS.1 z e, z1, z2⟩) -- o13 e2.1
            · (first | assumption | omega | ((try dsimp only [jt2, jt3, jt4]); first | omega | (simp (disch := omega) only [jst_eq, jst_ne, jst_ni, jst_o, jI_i, jcpy_out, w32_id, jdiv_nn, jshr_k, jand_255] <;> first | done | omega | assumption)) | (intros; simp (disch := omega) only [jst_eq, jst_ne, jst_ni, jst_o, jI_i, jcpy_out, w32_id, jdiv_nn, *] <;> first | done | omega) | (intros; simp (disch := omega) only [jst_eq, jst_ne, jst_ni, jst_o, jI_i, jcpy_out, w32_id, jdiv_nn] at * <;> first | done | omega | assumption) | (intros; first | rfl | (exfalso; omega) | ((repeat' apply And.intro) <;> first | assumption | rfl | omega | trivial))) -- o14 e2.2
            · exact frDx_t t0 fr fr2.1 -- o15 e2.3
          · skip
            have r5 := r3; clear r3; dsimp only [Sum.elim_inl, Sum.elim_inr] at r5
            rcases r with r | r
            · skip
              have r6 := r5; clear r5; dsimp only [Sum.elim_inl, Sum.elim_inr] at r6
              obtain ⟨y3, y4⟩ := r
              try dsimp only [Sum.elim_inl, Sum.elim_inr, jt2, jt3, jt4, jt5, jt6, jt7, jt8] at r6
              obtain ⟨cc3, rr3, fr3⟩ := r6
              try simp (disch := omega) only [jst_eq, jst_ne, jst_ni, jI_i, jcmp_lt, jcmp_gt, w32_id, jcpy_out, Sum.elim_inl, Sum.elim_inr, jt2, jt3, jt4, jt5, jt6, jt7, jt8] at cc3
              try simp (disch := omega) only [jst_eq, jst_ne, jst_ni, jI_i, jcmp_lt, jcmp_gt, w32_id, jcpy_out, Sum.elim_inl, Sum.elim_inr, jt2, jt3, jt4, jt5, jt6, jt7, jt8] at rr3
              try simp (disch := omega) only [jst_eq, jst_ne, jst_ni, jI_i, jcmp_lt, jcmp_gt, w32_id, jcpy_out, Sum.elim_inl, Sum.elim_inr, jt2, jt3, jt4, jt5, jt6, jt7, jt8] at fr3
              try dsimp only [Sum.elim_inl, Sum.elim_inr, jt2, jt3, jt4, jt5, jt6, jt7, jt8]
              try dsimp only [Sum.elim_inl, Sum.elim_inr, jt2, jt3, jt4, jt5, jt6, jt7, jt8]
              refine ⟨?_, ?_, ?_⟩
              · exact ouD_0 PS rr3 ll cc3 -- o16 e3.1
              · exact frDx_t t0 fr fr3.1 -- o17 e3.2
              · (have := fr3.2; exact ⟨by omega, B0, by omega⟩) -- o18 e3.3
            · skip
              have r7 := r5; clear r5; dsimp only [Sum.elim_inl, Sum.elim_inr] at r7
              obtain ⟨y5, y6⟩ := r
              try dsimp only [Sum.elim_inl, Sum.elim_inr, jt2, jt3, jt4, jt5, jt6, jt7, jt8] at r7
              have no4 := r7
              clear r7
              try simp (disch := omega) only [jst_eq, jst_ne, jst_ni, jI_i, jcmp_lt, jcmp_gt, w32_id, jcpy_out, Sum.elim_inl, Sum.elim_inr, jt2, jt3, jt4, jt5, jt6, jt7, jt8] at no4
              try dsimp only [Sum.elim_inl, Sum.elim_inr, jt2, jt3, jt4, jt5, jt6, jt7, jt8]
              exact absurd no4 (by decide) -- o19 e4
      · skip
        try simp (disch := omega) only [jst_eq, jst_ne, jst_ni, jI_i, jcmp_lt, jcmp_gt, w32_id, jcpy_out, Sum.elim_inl, Sum.elim_inr, jt2, jt3, jt4, jt5, jt6, jt7, jt8] at c2
        refine OK_jg (by (first | assumption | omega | ((try dsimp only [jt2, jt3, jt4]); first | omega | (simp (disch := omega) only [jst_eq, jst_ne, jst_ni, jst_o, jI_i, jcpy_out, w32_id, jdiv_nn, jshr_k, jand_255] <;> first | done | omega | assumption)) | (intros; simp (disch := omega) only [jst_eq, jst_ne, jst_ni, jst_o, jI_i, jcpy_out, w32_id, jdiv_nn, *] <;> first | done | omega) | (intros; simp (disch := omega) only [jst_eq, jst_ne, jst_ni, jst_o, jI_i, jcpy_out, w32_id, jdiv_nn] at * <;> first | done | omega | assumption) | (intros; first | rfl | (exfalso; omega) | ((repeat' apply And.intro) <;> first | assumption | rfl | omega | trivial)))) ?_ -- o20
        refine OK_mono (vX13_loop_j314_286 (B := B) (n := n) (A := A) (T := T) (K := K) (E := E) (sk := sk) (l := l) (R1 := R1) _ _ _ _ _ (by (first | assumption | omega | ((try dsimp only [jt2, jt3, jt4]); first | omega | (simp (disch := omega) only [jst_eq, jst_ne, jst_ni, jst_o, jI_i, jcpy_out, w32_id, jdiv_nn, jshr_k, jand_255] <;> first | done | omega | assumption)) | (intros; simp (disch := omega) only [jst_eq, jst_ne, jst_ni, jst_o, jI_i, jcpy_out, w32_id, jdiv_nn, *] <;> first | done | omega) | (intros; simp (disch := omega) only [jst_eq, jst_ne, jst_ni, jst_o, jI_i, jcpy_out, w32_id, jdiv_nn] at * <;> first | done | omega | assumption) | (intros; first | rfl | (exfalso; omega) | ((repeat' apply And.intro) <;> first | assumption | rfl | omega | trivial)))) (by (first | assumption | omega | ((try dsimp only [jt2, jt3, jt4]); first | omega | (simp (disch := omega) only [jst_eq, jst_ne, jst_ni, jst_o, jI_i, jcpy_out, w32_id, jdiv_nn, jshr_k, jand_255] <;> first | done | omega | assumption)) | (intros; simp (disch := omega) only [jst_eq, jst_ne, jst_ni, jst_o, jI_i, jcpy_out, w32_id, jdiv_nn, *] <;> first | done | omega) | (intros; simp (disch := omega) only [jst_eq, jst_ne, jst_ni, jst_o, jI_i, jcpy_out, w32_id, jdiv_nn] at * <;> first | done | omega | assumption) | (intros; first | rfl | (exfalso; omega) | ((repeat' apply And.intro) <;> first | assumption | rfl | omega | trivial)))) (by (first | assumption | omega | ((try dsimp only [jt2, jt3, jt4]); first | omega | (simp (disch := omega) only [jst_eq, jst_ne, jst_ni, jst_o, jI_i, jcpy_out, w32_id, jdiv_nn, jshr_k, jand_255] <;> first | done | omega | assumption)) | (intros; simp (disch := omega) only [jst_eq, jst_ne, jst_ni, jst_o, jI_i, jcpy_out, w32_id, jdiv_nn, *] <;> first | done | omega) | (intros; simp (disch := omega) only [jst_eq, jst_ne, jst_ni, jst_o, jI_i, jcpy_out, w32_id, jdiv_nn] at * <;> first | done | omega | assumption) | (intros; first | rfl | (exfalso; omega) | ((repeat' apply And.intro) <;> first | assumption | rfl | omega | trivial)))) (by (first | assumption | omega | ((try dsimp only [jt2, jt3, jt4]); first | omega | (simp (disch := omega) only [jst_eq, jst_ne, jst_ni, jst_o, jI_i, jcpy_out, w32_id, jdiv_nn, jshr_k, jand_255] <;> first | done | omega | assumption)) | (intros; simp (disch := omega) only [jst_eq, jst_ne, jst_ni, jst_o, jI_i, jcpy_out, w32_id, jdiv_nn, *] <;> first | done | omega) | (intros; simp (disch := omega) only [jst_eq, jst_ne, jst_ni, jst_o, jI_i, jcpy_out, w32_id, jdiv_nn] at * <;> first | done | omega | assumption) | (intros; first | rfl | (exfalso; omega) | ((repeat' apply And.intro) <;> first | assumption | rfl | omega | trivial)))) (by (unfold wnG; rw [if_pos (by omega)]; exact KD.2 a5 q0.1 (by omega))) (by (first | assumption | omega | ((try dsimp only [jt2, jt3, jt4]); first | omega | (simp (disch := omega) only [jst_eq, jst_ne, jst_ni, jst_o, jI_i, jcpy_out, w32_id, jdiv_nn, jshr_k, jand_255] <;> first | done | omega | assumption)) | (intros; simp (disch := omega) only [jst_eq, jst_ne, jst_ni, jst_o, jI_i, jcpy_out, w32_id, jdiv_nn, *] <;> first | done | omega) | (intros; simp (disch := omega) only [jst_eq, jst_ne, jst_ni, jst_o, jI_i, jcpy_out, w32_id, jdiv_nn] at * <;> first | done | omega | assumption) | (intros; first | rfl | (exfalso; omega) | ((repeat' apply And.intro) <;> first | assumption | rfl | omega | trivial))))) (fun r r8 => ?_)
        rcases r with r | r
        · skip
          have r9 := r8; clear r8; dsimp only [Sum.elim_inl, Sum.elim_inr] at r9
          obtain ⟨y7, y8⟩ := r
          try dsimp only [Sum.elim_inl, Sum.elim_inr, jt2, jt3, jt4, jt5, jt6, jt7, jt8] at r9
          obtain ⟨cc5, rr5, fr5⟩ := r9
          try simp (disch := omega) only [jst_eq, jst_ne, jst_ni, jI_i, jcmp_lt, jcmp_gt, w32_id, jcpy_out, Sum.elim_inl, Sum.elim_inr, jt2, jt3, jt4, jt5, jt6, jt7, jt8] at cc5
          try simp (disch := omega) only [jst_eq, jst_ne, jst_ni, jI_i, jcmp_lt, jcmp_gt, w32_id, jcpy_out, Sum.elim_inl, Sum.elim_inr, jt2, jt3, jt4, jt5, jt6, jt7, jt8] at rr5
          try simp (disch := omega) only [jst_eq, jst_ne, jst_ni, jI_i, jcmp_lt, jcmp_gt, w32_id, jcpy_out, Sum.elim_inl, Sum.elim_inr, jt2, jt3, jt4, jt5, jt6, jt7, jt8] at fr5
          try dsimp only [Sum.elim_inl, Sum.elim_inr, jt2, jt3, jt4, jt5, jt6, jt7, jt8]
          refine ⟨?_, ?_⟩
          · try dsimp only [Sum.elim_inl, Sum.elim_inr, jt2, jt3, jt4, jt5, jt6, jt7, jt8]
            refine ⟨?_, ?_, ?_, ?_, ?_⟩
            · (obtain ⟨_, _, _, _, _, _, b⟩ := rr5; omega) -- o27 e5i.1
            · (obtain ⟨R2, l2, k2, x1, x2, x3, x4, x5, x6⟩ := liD_s hB n2 w fu C1 ll cc5 rr5; exact ⟨R2, l2, k2, x1, x2, x3, x4, fun _ => x5⟩) -- o28 e5i.2
            · (obtain ⟨_, _, _, _, _, b, _⟩ := rr5; exact Or.inl ⟨b, B0⟩) -- o29 e5i.3
            · exact frDx_t t0 fr fr5.1 -- o30 e5i.4
            · (have := fr5.2; omega) -- o31 e5i.5
          · (obtain ⟨_, _, _, _, _, _, b⟩ := rr5; omega) -- o32 e5m
        · skip
          have r10 := r8; clear r8; dsimp only [Sum.elim_inl, Sum.elim_inr] at r10
          rcases r with r | r
          · skip
            have r11 := r10; clear r10; dsimp only [Sum.elim_inl, Sum.elim_inr] at r11
            try dsimp only [Sum.elim_inl, Sum.elim_inr, jt2, jt3, jt4, jt5, jt6, jt7, jt8] at r11
            obtain ⟨bz6, f86, fr6⟩ := r11
            try simp (disch := omega) only [jst_eq, jst_ne, jst_ni, jI_i, jcmp_lt, jcmp_gt, w32_id, jcpy_out, Sum.elim_inl, Sum.elim_inr, jt2, jt3, jt4, jt5, jt6, jt7, jt8] at bz6
            try simp (disch := omega) only [jst_eq, jst_ne, jst_ni, jI_i, jcmp_lt, jcmp_gt, w32_id, jcpy_out, Sum.elim_inl, Sum.elim_inr, jt2, jt3, jt4, jt5, jt6, jt7, jt8] at f86
            try simp (disch := omega) only [jst_eq, jst_ne, jst_ni, jI_i, jcmp_lt, jcmp_gt, w32_id, jcpy_out, Sum.elim_inl, Sum.elim_inr, jt2, jt3, jt4, jt5, jt6, jt7, jt8] at fr6
            try dsimp only [Sum.elim_inl, Sum.elim_inr, jt2, jt3, jt4, jt5, jt6, jt7, jt8]
            try dsimp only [Sum.elim_inl, Sum.elim_inr, jt2, jt3, jt4, jt5, jt6, jt7, jt8]
            refine ⟨?_, ?_, ?_⟩
            · (obtain ⟨z, e, z1, z2⟩ := bz6; exact ⟨z, PS.1 z e, z1, z2⟩) -- o33 e6.1
            · (first | assumption | omega | ((try dsimp only [jt2, jt3, jt4]); first | omega | (simp (disch := omega) only [jst_eq, jst_ne, jst_ni, jst_o, jI_i, jcpy_out, w32_id, jdiv_nn, jshr_k, jand_255] <;> first | done | omega | assumption)) | (intros; simp (disch := omega) only [jst_eq, jst_ne, jst_ni, jst_o, jI_i, jcpy_out, w32_id, jdiv_nn, *] <;> first | done | omega) | (intros; simp (disch := omega) only [jst_eq, jst_ne, jst_ni, jst_o, jI_i, jcpy_out, w32_id, jdiv_nn] at * <;> first | done | omega | assumption) | (intros; first | rfl | (exfalso; omega) | ((repeat' apply And.intro) <;> first | assumption | rfl | omega | trivial))) -- o34 e6.2
            · exact frDx_t t0 fr fr6.1 -- o35 e6.3
          · skip
            have r12 := r10; clear r10; dsimp only [Sum.elim_inl, Sum.elim_inr] at r12
            rcases r with r | r
            · skip
              have r13 := r12; clear r12; dsimp only [Sum.elim_inl, Sum.elim_inr] at r13
              obtain ⟨y9, y10⟩ := r
              try dsimp only [Sum.elim_inl, Sum.elim_inr, jt2, jt3, jt4, jt5, jt6, jt7, jt8] at r13
              obtain ⟨cc7, rr7, fr7⟩ := r13
              try simp (disch := omega) only [jst_eq, jst_ne, jst_ni, jI_i, jcmp_lt, jcmp_gt, w32_id, jcpy_out, Sum.elim_inl, Sum.elim_inr, jt2, jt3, jt4, jt5, jt6, jt7, jt8] at cc7
              try simp (disch := omega) only [jst_eq, jst_ne, jst_ni, jI_i, jcmp_lt, jcmp_gt, w32_id, jcpy_out, Sum.elim_inl, Sum.elim_inr, jt2, jt3, jt4, jt5, jt6, jt7, jt8] at rr7
              try simp (disch := omega) only [jst_eq, jst_ne, jst_ni, jI_i, jcmp_lt, jcmp_gt, w32_id, jcpy_out, Sum.elim_inl, Sum.elim_inr, jt2, jt3, jt4, jt5, jt6, jt7, jt8] at fr7
              try dsimp only [Sum.elim_inl, Sum.elim_inr, jt2, jt3, jt4, jt5, jt6, jt7, jt8]
              try dsimp only [Sum.elim_inl, Sum.elim_inr, jt2, jt3, jt4, jt5, jt6, jt7, jt8]
              refine ⟨?_, ?_, ?_⟩
              · exact ouD_0 PS rr7 ll cc7 -- o36 e7.1
              · exact frDx_t t0 fr fr7.1 -- o37 e7.2
              · (have := fr7.2; exact ⟨by omega, B0, by omega⟩) -- o38 e7.3
            · skip
              have r14 := r12; clear r12; dsimp only [Sum.elim_inl, Sum.elim_inr] at r14
              obtain ⟨y11, y12⟩ := r
              try dsimp only [Sum.elim_inl, Sum.elim_inr, jt2, jt3, jt4, jt5, jt6, jt7, jt8] at r14
              have no8 := r14
              clear r14
              try simp (disch := omega) only [jst_eq, jst_ne, jst_ni, jI_i, jcmp_lt, jcmp_gt, w32_id, jcpy_out, Sum.elim_inl, Sum.elim_inr, jt2, jt3, jt4, jt5, jt6, jt7, jt8] at no8
              try dsimp only [Sum.elim_inl, Sum.elim_inr, jt2, jt3, jt4, jt5, jt6, jt7, jt8]
              exact absurd no8 (by decide) -- o39 e8
    · skip
      try simp (disch := omega) only [jst_eq, jst_ne, jst_ni, jI_i, jcmp_lt, jcmp_gt, w32_id, jcpy_out, Sum.elim_inl, Sum.elim_inr, jt2, jt3, jt4, jt5, jt6, jt7, jt8] at c1
      refine OK_ir ?_
      (rcases bk with b | b; { exact absurd b.1 c1 }; { exact ⟨b, by rw [← b]; exact c1⟩ }) -- o40 e9
  · try dsimp only [Sum.elim_inl, Sum.elim_inr, jt2, jt3, jt4, jt5, jt6, jt7, jt8]
    refine ⟨?_, ?_, ?_, ?_, ?_⟩
    · (have := c.2.2.2.choose_spec.2.2.1; omega) -- o41 init.1
    · (rw [h1]; exact ⟨R0, [], 2002, rfl, fun q e => by (have s := c.2.2.1; rw [e] at s; have x := (Sx_inr s).1; have := x.2.2.1; have := x.2.2.2; omega), rfl, c, fun b => ⟨c, fun i i3 t e => by (cases e), (z b).2, (z b).1⟩⟩) -- o42 init.2
    · exact Or.inr rfl -- o43 init.3
    · exact frDx_r -- o44 init.4
    · (first | assumption | omega | ((try dsimp only [jt2, jt3, jt4]); first | omega | (simp (disch := omega) only [jst_eq, jst_ne, jst_ni, jst_o, jI_i, jcpy_out, w32_id, jdiv_nn, jshr_k, jand_255] <;> first | done | omega | assumption)) | (intros; simp (disch := omega) only [jst_eq, jst_ne, jst_ni, jst_o, jI_i, jcpy_out, w32_id, jdiv_nn, *] <;> first | done | omega) | (intros; simp (disch := omega) only [jst_eq, jst_ne, jst_ni, jst_o, jI_i, jcpy_out, w32_id, jdiv_nn] at * <;> first | done | omega | assumption) | (intros; first | rfl | (exfalso; omega) | ((repeat' apply And.intro) <;> first | assumption | rfl | omega | trivial))) -- o45 init.5

