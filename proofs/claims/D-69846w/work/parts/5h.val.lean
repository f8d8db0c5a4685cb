/-! a value told, worked out alone: x -/
def evV (W : Int → Int → Int → VW) (R : TR) : VW := evT W (fun _ _ _ => 0) (fun _ => 0) (fun _ => 0) R
def outV (E : EV) (W : Int → Int → Int → VW) (R : Int ⊕ TR) (p0 w0 v p1 w1 : Int) : Prop := match R with
  | .inl z => v = -11 ∧ p1 = z ∧ w1 = w0
  | .inr t => (keyE E (-1) t = 1000000 → v = (evV W (rsE E t 0)).1 ∧ w1 = w32 (evV W (rsE E t 0)).2 ∧ p1 = p0) ∧ (keyE E (-1) t ≠ 1000000 → v = -10 - keyE E (-1) t % 8 ∧ p1 = keyE E (-1) t / 8 ∧ w1 = w0)
def frV (h h' : AH) : Prop := ∀ a s, ¬ (a = 200 ∧ (s = 9 ∨ s = 10 ∨ s = 55 ∨ s = 56 ∨ s = 59)) → ¬ (a = 269 ∧ 0 ≤ s) → ¬ (a = 324 ∧ s = 0) → ¬ (325 ≤ a ∧ a ≤ 329 ∧ 0 ≤ s) → ¬ (a = 441 ∧ 0 ≤ s ∧ s ≤ 18) → ¬ ((a = 442 ∨ a = 444) ∧ 0 ≤ s ∧ s < 3) → ¬ (a = 445 ∧ 0 ≤ s) → h' a s = h a s
theorem evV_cg {E : EV} {W : Int → Int → Int → VW} {f : Int → Int → Int → Int} {p hl kp : Int → Int} {R : TR} (l : E.2.2.1 ≠ 1) (t : tyT E 0 kp R 0) (n : nhT R) : evT W f p hl R = evV W R := evT_cg (np := 0) (fun _ _ _ _ _ => rfl) (fun c c0 c1 => by omega) (ty_cg l t n)
theorem enuX_fv {h h' : AH} {E : EV} {Rf : Int → TR} {W : Int → Int → Int → VW} {f : Int → Int → Int → Int} (e : enuX h E Rf W f) (l0 : E.2.2.1 = 0) (g : ∀ a s, ¬ (a = 200 ∧ (s = 9 ∨ s = 10 ∨ s = 55 ∨ s = 56)) → ¬ (a = 324 ∧ s = 0) → ¬ (325 ≤ a ∧ a ≤ 329 ∧ 0 ≤ s) → ¬ (a = 441 ∧ 0 ≤ s ∧ s ≤ 18) → ¬ ((a = 442 ∨ a = 444) ∧ 0 ≤ s ∧ s < 3) → ¬ (a = 445 ∧ 0 ≤ s) → h' a s = h a s) : enuX h' E Rf W f := by
  obtain ⟨e1, e2, e3, e4, e5, e6, e8, e7⟩ := e
  refine ⟨actX_fr e1 (fun a s q => by unfold actC at q; exact g a s (by omega) (by omega) (by omega) (by omega) (by omega) (by omega)), e2, e3, e4, ?_, fun z => by omega, ⟨by rw [g _ _ (by omega) (by omega) (by omega) (by omega) (by omega) (by omega)]; exact e8.1, by rw [g _ _ (by omega) (by omega) (by omega) (by omega) (by omega) (by omega)]; exact e8.2⟩, e7⟩
  obtain ⟨N, c, o⟩ := e5
  refine ⟨N, capX_fr c (fun a a0 a1 => g _ _ (by omega) (by omega) (by omega) (by omega) (by omega) (by omega)), fun a a0 a1 => ?_⟩
  obtain ⟨o1, o2⟩ := o a a0 a1
  rw [g 264 _ (by omega) (by omega) (by omega) (by omega) (by omega) (by omega)]
  exact ⟨vwX_fr (fun a s q => g _ _ (by omega) (by omega) (by omega) (by omega) (by omega) (by omega)) o1, o2⟩
theorem vX1_value {h : AH} {B : Int → Int} {n : Int} {E : EV} {Rf : Int → TR} {W : Int → Int → Int → VW} {f : Int → Int → Int → Int} (hB : ∀ i, 0 ≤ i → i < n → 0 ≤ B i ∧ B i < 256) (tb : n = h 200 55 ∧ tapX B n h) (en : enuX h E Rf W f) (od : Od h) (cp : capT h 324 2200 ∧ h 327 (-2) = 101) (l0 : E.2.2.1 = 0) (p0 : E.2.1.1 = 0) (dn : h 200 53 = 0 ∨ h 200 53 = 1) (w11 : h 200 11 = -1) (hh : ∀ c, 0 ≤ c → c ≤ 2 → 0 ≤ h 270 c ∧ h 270 c ≤ 15) : OK (gX1_value h) (fun r => jt2 r fun v h' => (h 200 53 = 1 → v = -5 ∧ h' = h) ∧ (h 200 53 = 0 → outV E W (pA B n false (beg B n)) (h 200 56) (h 200 59) v (h' 200 56) (h' 200 59)) ∧ (frV h h')) := by
  have T := tb.2
  have T1 : 0 ≤ n ∧ n ≤ 2000 := ⟨T.1, T.2.1⟩
  have n55 := tb.1
  unfold gX1_value
  refine OK_if (fun c1 => ?_) (fun c1 => ?_)
  · skip
    try simp (disch := omega) only [jst_eq, jst_ne, jst_ni, jI_i, jcmp_lt, jcmp_gt, w32_id, jcpy_out, Sum.elim_inl, Sum.elim_inr, jt2, jt3, jt4, jt5, jt6, jt7, jt8] at c1
    refine OK_jl ?_
    refine OK_jb2 (vX1_takeTape) (fun v4 h5 r1 => ?_)
    try dsimp only [Sum.elim_inl, Sum.elim_inr, jt2, jt3, jt4, jt5, jt6, jt7, jt8] at r1
    obtain ⟨v1, hh1⟩ := r1
    try simp (disch := omega) only [jst_eq, jst_ne, jst_ni, jI_i, jcmp_lt, jcmp_gt, w32_id, jcpy_out, Sum.elim_inl, Sum.elim_inr, jt2, jt3, jt4, jt5, jt6, jt7, jt8] at v1
    try simp (disch := omega) only [jst_eq, jst_ne, jst_ni, jI_i, jcmp_lt, jcmp_gt, w32_id, jcpy_out, Sum.elim_inl, Sum.elim_inr, jt2, jt3, jt4, jt5, jt6, jt7, jt8] at hh1
    have en5 : v4 = n := by omega
    rw [en5]
    have F5 : ∀ a s, ¬ (a = 324 ∧ s = 0) → ¬ (a = 200 ∧ s = 55) → h5 a s = h a s := fun a s y1 y2 => by { rw [hh1, jst_o (by omega), jst_o (by omega)] }
    have z5 : h5 324 0 = 0 := by { rw [hh1, jst_o (by omega), jst_eq] }
    have tb5 : ∀ s, h5 440 s = h 440 s := fun s => F5 _ _ (by omega) (by omega)
    refine OK_jb (vX13_begin (B := B) _ _ _ (by exact hB) (by exact ⟨T1.1, T1.2, by decide, by decide, by rw [tb5]; exact T.2.2.1, by rw [tb5]; exact T.2.2.2.1, fun i i0 i1 => by rw [tb5]; exact T.2.2.2.2 i i0 i1⟩)) (fun h7 r2 => ?_)
    try dsimp only [Sum.elim_inl, Sum.elim_inr, jt2, jt3, jt4, jt5, jt6, jt7, jt8] at r2
    obtain ⟨sx2, tx2, ce2, fr2⟩ := r2
    try simp (disch := omega) only [jst_eq, jst_ne, jst_ni, jI_i, jcmp_lt, jcmp_gt, w32_id, jcpy_out, Sum.elim_inl, Sum.elim_inr, jt2, jt3, jt4, jt5, jt6, jt7, jt8] at sx2
    try simp (disch := omega) only [jst_eq, jst_ne, jst_ni, jI_i, jcmp_lt, jcmp_gt, w32_id, jcpy_out, Sum.elim_inl, Sum.elim_inr, jt2, jt3, jt4, jt5, jt6, jt7, jt8] at tx2
    try simp (disch := omega) only [jst_eq, jst_ne, jst_ni, jI_i, jcmp_lt, jcmp_gt, w32_id, jcpy_out, Sum.elim_inl, Sum.elim_inr, jt2, jt3, jt4, jt5, jt6, jt7, jt8] at ce2
    try simp (disch := omega) only [jst_eq, jst_ne, jst_ni, jI_i, jcmp_lt, jcmp_gt, w32_id, jcpy_out, Sum.elim_inl, Sum.elim_inr, jt2, jt3, jt4, jt5, jt6, jt7, jt8] at fr2
    have F7 : ∀ a s, ¬ (a = 324 ∧ s = 0) → ¬ (a = 200 ∧ s = 55) → ¬ (a = 441 ∧ (0 ≤ s ∧ s ≤ 8 ∨ 13 ≤ s ∧ s ≤ 17)) → h7 a s = h a s := fun a s y1 y2 y3 => by { rw [fr2 a s y3, F5 a s y1 y2] }
    have F7' : frXr h h7 := fun a s y1 y2 y3 y4 y5 y6 => F7 a s y2 (by omega) (by omega)
    have z7 : h7 324 0 = 0 := by { rw [fr2 _ _ (by omega)]; exact z5 }
    have P7 : preT B n 440 324 false E 0 h7 := preB T1 en.1 od cp tx2 F7' ⟨z7, ce2.1, ce2.2.2.2.1, ce2.2.2.2.2.1, ce2.2.2.2.2.2, ce2.2.2.1⟩ l0 ⟨by rw [p0]; exact ce2.2.1, by omega, by omega, fun k k0 k1 => by omega⟩
    have k0 : FK h7 = 1000000 := by { unfold FK; rw [if_pos (by omega)] }
    refine OK_jb2 (vX13_alone (B := B) (n := n) (A := 440) (T := 324) (u := 0) (sk := false) (E := E) (R := beg B n) _ (by (first | assumption | omega | ((try dsimp only [jt2, jt3, jt4]); first | omega | (simp (disch := omega) only [jst_eq, jst_ne, jst_ni, jst_o, jI_i, jcpy_out, w32_id, jdiv_nn, jshr_k, jand_255] <;> first | done | omega | assumption)) | (intros; simp (disch := omega) only [jst_eq, jst_ne, jst_ni, jst_o, jI_i, jcpy_out, w32_id, jdiv_nn, *] <;> first | done | omega) | (intros; simp (disch := omega) only [jst_eq, jst_ne, jst_ni, jst_o, jI_i, jcpy_out, w32_id, jdiv_nn] at * <;> first | done | omega | assumption) | (intros; first | rfl | (exfalso; omega) | ((repeat' apply And.intro) <;> first | assumption | rfl | omega | trivial)))) (by exact sx2) (by exact beg_0) (by (first | assumption | omega | ((try dsimp only [jt2, jt3, jt4]); first | omega | (simp (disch := omega) only [jst_eq, jst_ne, jst_ni, jst_o, jI_i, jcpy_out, w32_id, jdiv_nn, jshr_k, jand_255] <;> first | done | omega | assumption)) | (intros; simp (disch := omega) only [jst_eq, jst_ne, jst_ni, jst_o, jI_i, jcpy_out, w32_id, jdiv_nn, *] <;> first | done | omega) | (intros; simp (disch := omega) only [jst_eq, jst_ne, jst_ni, jst_o, jI_i, jcpy_out, w32_id, jdiv_nn] at * <;> first | done | omega | assumption) | (intros; first | rfl | (exfalso; omega) | ((repeat' apply And.intro) <;> first | assumption | rfl | omega | trivial)))) (by (first | assumption | omega | ((try dsimp only [jt2, jt3, jt4]); first | omega | (simp (disch := omega) only [jst_eq, jst_ne, jst_ni, jst_o, jI_i, jcpy_out, w32_id, jdiv_nn, jshr_k, jand_255] <;> first | done | omega | assumption)) | (intros; simp (disch := omega) only [jst_eq, jst_ne, jst_ni, jst_o, jI_i, jcpy_out, w32_id, jdiv_nn, *] <;> first | done | omega) | (intros; simp (disch := omega) only [jst_eq, jst_ne, jst_ni, jst_o, jI_i, jcpy_out, w32_id, jdiv_nn] at * <;> first | done | omega | assumption) | (intros; first | rfl | (exfalso; omega) | ((repeat' apply And.intro) <;> first | assumption | rfl | omega | trivial))))) (fun v9 h10 r3 => ?_)
    try dsimp only [Sum.elim_inl, Sum.elim_inr, jt2, jt3, jt4, jt5, jt6, jt7, jt8] at r3
    have pa3 := r3
    clear r3
    try simp (disch := omega) only [jst_eq, jst_ne, jst_ni, jI_i, jcmp_lt, jcmp_gt, w32_id, jcpy_out, Sum.elim_inl, Sum.elim_inr, jt2, jt3, jt4, jt5, jt6, jt7, jt8] at pa3
    obtain ⟨⟨d1, d2, d3, d4, d5⟩, r⟩ := pa3
    have b01 : h10 441 6 = 0 ∨ h10 441 6 = 1 := by { cases e : pA B n false (beg B n) with | inl z => { rw [e] at r; exact Or.inr r.1 } | inr t => { rw [e] at r; exact Or.inl r.1 } }
    rw [z7] at d1
    rw [z7, ce2.2.2.2.2.1, k0] at r
    have F : ∀ hz : AH, (∀ a s, ¬ (a = 200 ∧ s = 56) → hz a s = h10 a s) → frXr h7 hz := fun hz f a s y1 y2 y3 y4 y5 y6 => by { rw [f a s (by omega)]; exact d1 a s (by omega) (by omega) (by omega) (by omega) (by omega) }
    have K : ∀ t, pA B n false (beg B n) = .inr t → FK h10 = keyE E (-1) t ∧ keyE E (-1) t ≤ 1000000 ∧ 8 * (inf t).2.2.2 + 2 ≤ keyE E (-1) t := fun t e => by { obtain ⟨q, q1, e1, e2, e3⟩ := pA_inr e; have sx := sx2; rw [e1] at sx; have nb := Sx_inr sx; have kr := key_r (E := E) (W := -1) hB T1.2 nb.1.2.2.1 nb.1.2.2.2 nb.2 e2; rw [e] at r; have f := r.2.2.2.2.1; unfold keyE at kr ⊢; refine ⟨?_, kr.2.2.2.1, kr.2.2.2.2⟩; omega }
    have p56 : h10 200 56 = h7 200 56 := d1 _ _ (by omega) (by omega) (by omega) (by omega) (by omega)
    refine OK_jb2 (vX13_result (by (first | assumption | omega | ((try dsimp only [jt2, jt3, jt4]); first | omega | (simp (disch := omega) only [jst_eq, jst_ne, jst_ni, jst_o, jI_i, jcpy_out, w32_id, jdiv_nn, jshr_k, jand_255] <;> first | done | omega | assumption)) | (intros; simp (disch := omega) only [jst_eq, jst_ne, jst_ni, jst_o, jI_i, jcpy_out, w32_id, jdiv_nn, *] <;> first | done | omega) | (intros; simp (disch := omega) only [jst_eq, jst_ne, jst_ni, jst_o, jI_i, jcpy_out, w32_id, jdiv_nn] at * <;> first | done | omega | assumption) | (intros; first | rfl | (exfalso; omega) | ((repeat' apply And.intro) <;> first | assumption | rfl | omega | trivial)))) (by (first | assumption | omega | ((try dsimp only [jt2, jt3, jt4]); first | omega | (simp (disch := omega) only [jst_eq, jst_ne, jst_ni, jst_o, jI_i, jcpy_out, w32_id, jdiv_nn, jshr_k, jand_255] <;> first | done | omega | assumption)) | (intros; simp (disch := omega) only [jst_eq, jst_ne, jst_ni, jst_o, jI_i, jcpy_out, w32_id, jdiv_nn, *] <;> first | done | omega) | (intros; simp (disch := omega) only [jst_eq, jst_ne, jst_ni, jst_o, jI_i, jcpy_out, w32_id, jdiv_nn] at * <;> first | done | omega | assumption) | (intros; first | rfl | (exfalso; omega) | ((repeat' apply And.intro) <;> first | assumption | rfl | omega | trivial)))) (by (first | assumption | omega | ((try dsimp only [jt2, jt3, jt4]); first | omega | (simp (disch := omega) only [jst_eq, jst_ne, jst_ni, jst_o, jI_i, jcpy_out, w32_id, jdiv_nn, jshr_k, jand_255] <;> first | done | omega | assumption)) | (intros; simp (disch := omega) only [jst_eq, jst_ne, jst_ni, jst_o, jI_i, jcpy_out, w32_id, jdiv_nn, *] <;> first | done | omega) | (intros; simp (disch := omega) only [jst_eq, jst_ne, jst_ni, jst_o, jI_i, jcpy_out, w32_id, jdiv_nn] at * <;> first | done | omega | assumption) | (intros; first | rfl | (exfalso; omega) | ((repeat' apply And.intro) <;> first | assumption | rfl | omega | trivial))))) (fun v12 h13 r4 => ?_)
    try dsimp only [Sum.elim_inl, Sum.elim_inr, jt2, jt3, jt4, jt5, jt6, jt7, jt8] at r4
    obtain ⟨b14, b04, bf4⟩ := r4
    try simp (disch := omega) only [jst_eq, jst_ne, jst_ni, jI_i, jcmp_lt, jcmp_gt, w32_id, jcpy_out, Sum.elim_inl, Sum.elim_inr, jt2, jt3, jt4, jt5, jt6, jt7, jt8] at b14
    try simp (disch := omega) only [jst_eq, jst_ne, jst_ni, jI_i, jcmp_lt, jcmp_gt, w32_id, jcpy_out, Sum.elim_inl, Sum.elim_inr, jt2, jt3, jt4, jt5, jt6, jt7, jt8] at b04
    try simp (disch := omega) only [jst_eq, jst_ne, jst_ni, jI_i, jcmp_lt, jcmp_gt, w32_id, jcpy_out, Sum.elim_inl, Sum.elim_inr, jt2, jt3, jt4, jt5, jt6, jt7, jt8] at bf4
    have X := xr_fin r K b14 b04 bf4 F p56
    have G13 : ∀ a s, ¬ (a = 200 ∧ (s = 55 ∨ s = 56)) → ¬ (a = 324 ∧ s = 0) → ¬ (325 ≤ a ∧ a ≤ 329 ∧ 0 ≤ s) → ¬ (a = 441 ∧ 0 ≤ s ∧ s ≤ 18) → ¬ ((a = 442 ∨ a = 444) ∧ 0 ≤ s ∧ s < 3) → ¬ (a = 445 ∧ 0 ≤ s) → h13 a s = h a s := fun a s y1 y2 y3 y4 y5 y6 => (X.2.2 a s y1 y2 y3 y4 y5 y6).trans (F7' a s y1 y2 y3 y4 y5 y6)
    refine OK_if (fun c2 => ?_) (fun c2 => ?_)
    · skip
      try simp (disch := omega) only [jst_eq, jst_ne, jst_ni, jI_i, jcmp_lt, jcmp_gt, w32_id, jcpy_out, Sum.elim_inl, Sum.elim_inr, jt2, jt3, jt4, jt5, jt6, jt7, jt8] at c2
      have X1 := X.1 c2
      obtain ⟨t, eR, q, q1, e1, e2, e3⟩ : ∃ t, pA B n false (beg B n) = .inr t ∧ ∃ q q1, beg B n = .inr q ∧ pT B n false 13 q = .inr (t, q1) ∧ tO B n q1 = 0 := by { cases e : pA B n false (beg B n) with | inl z => { rw [e] at r; exfalso; have := b14 r.1; omega } | inr t => exact ⟨t, rfl, pA_inr e⟩ }
      rw [eR] at X1 r
      have kB : keyE E (-1) t = 1000000 := Classical.byContradiction fun y => by { have := (X1.2 y).1; have := r.2.1; have := (X1.2 y).2.2; omega }
      obtain ⟨y1, y2, y3, y4, y5⟩ := X1.1 kB
      have sx := sx2
      rw [e1] at sx
      have nb := Sx_inr sx
      have TO := told_ok en.2.1 ⟨by omega, fun k k0 k1 => by omega⟩ en.2.2.2.2.2.2.2 hB T1.2 nb.1.2.2.1 nb.1.2.2.2 nb.2 e2 kB
      rw [p0] at TO
      have ts := pT_sz hB 13 q t q1 nb.1.2.2.1 nb.1.2.2.2 nb.2 e2
      have q00 : 0 ≤ q := nb.1.2.2.1
      have q1n := (pT_wp hB 13 q t q1 nb.1.2.2.1 nb.1.2.2.2 nb.2 e2).2.2.2.1
      have sr := sz_rs E.2.1.1 E.2.1.2.1 E.2.1.2.2 (eRs E) (eO E) (eK E) t 0
      refine OK_jl ?_
      refine OK_jl ?_
      have F16 : ∀ a s, ¬ (a = 200 ∧ (s = 9 ∨ s = 10)) → jst (jst h13 200 10 0) 200 9 0 a s = h13 a s := fun a s z => by { rw [jst_o (by omega), jst_o (by omega)] }
      have C16 : jst (jst h13 200 10 0) 200 9 0 200 9 = 0 ∧ jst (jst h13 200 10 0) 200 9 0 200 10 = 0 := ⟨jst_eq, by { rw [jst_o (by omega), jst_eq] }⟩
      generalize e16 : jst (jst h13 200 10 0) 200 9 0 = hq at *
      have PE : preE hq E Rf W f 324 2200 (-1) 0 0 0 E.2.1.2.2 (fun _ => 0) (hq 270) (rsE E t 0) v9 := by { have e : sz (rsE E t 0) = sz t := sr; have F : ∀ a s, ¬ (a = 200 ∧ (s = 9 ∨ s = 10 ∨ s = 55 ∨ s = 56)) → ¬ (a = 324 ∧ s = 0) → ¬ (325 ≤ a ∧ a ≤ 329 ∧ 0 ≤ s) → ¬ (a = 441 ∧ 0 ≤ s ∧ s ≤ 18) → ¬ ((a = 442 ∨ a = 444) ∧ 0 ≤ s ∧ s < 3) → ¬ (a = 445 ∧ 0 ≤ s) → hq a s = h a s := fun a s z1 z2 z3 z4 z5 z6 => (F16 a s (by omega)).trans (G13 a s (by omega) z2 z3 z4 z5 z6); refine ⟨enuX_fv en l0 F, ⟨by unfold isX3; omega, capT_fr cp.1 (fun a a0 a1 => F _ _ (by omega) (by omega) (by omega) (by omega) (by omega) (by omega))⟩, ?_, TO.1, by rw [F _ _ (by omega) (by omega) (by omega) (by omega) (by omega) (by omega)]; exact w11, Or.inl rfl, by decide, by omega, by have := TO.2.1; omega, by decide, fun c c0 c1 => by omega, fun c c0 c1 => ⟨rfl, by rw [F _ _ (by omega) (by omega) (by omega) (by omega) (by omega) (by omega)]; exact hh c c0 c1⟩, by omega, by omega⟩; rw [y1]; exact vwX_fr (h := h13) (fun a s z => F16 _ _ (by omega)) (rXc_vw en.2.1 TO.1 y2 (by decide) (by decide) (by decide) (by decide) (by omega)) }
      refine OK_jb2 (vX1_work (E := E) (Rf := Rf) (W := W) (f := f) (N := 2200) (w := -1) (wv := 0) (np := 0) (kp := E.2.1.2.2) (p := fun _ => 0) (hl := hq 270) (R := rsE E t 0) _ _ _ (by (first | assumption | omega | ((try dsimp only [jt2, jt3, jt4]); first | omega | (simp (disch := omega) only [jst_eq, jst_ne, jst_ni, jst_o, jI_i, jcpy_out, w32_id, jdiv_nn, jshr_k, jand_255] <;> first | done | omega | assumption)) | (intros; simp (disch := omega) only [jst_eq, jst_ne, jst_ni, jst_o, jI_i, jcpy_out, w32_id, jdiv_nn, *] <;> first | done | omega) | (intros; simp (disch := omega) only [jst_eq, jst_ne, jst_ni, jst_o, jI_i, jcpy_out, w32_id, jdiv_nn] at * <;> first | done | omega | assumption) | (intros; first | rfl | (exfalso; omega) | ((repeat' apply And.intro) <;> first | assumption | rfl | omega | trivial)))) (by (have := TO.2.1; omega))) (fun v18 h19 r5 => ?_)
      try dsimp only [Sum.elim_inl, Sum.elim_inr, jt2, jt3, jt4, jt5, jt6, jt7, jt8] at r5
      obtain ⟨ev5, pe5⟩ := r5
      try simp (disch := omega) only [jst_eq, jst_ne, jst_ni, jI_i, jcmp_lt, jcmp_gt, w32_id, jcpy_out, Sum.elim_inl, Sum.elim_inr, jt2, jt3, jt4, jt5, jt6, jt7, jt8] at ev5
      try simp (disch := omega) only [jst_eq, jst_ne, jst_ni, jI_i, jcmp_lt, jcmp_gt, w32_id, jcpy_out, Sum.elim_inl, Sum.elim_inr, jt2, jt3, jt4, jt5, jt6, jt7, jt8] at pe5
      refine OK_jl ?_
      have cv := evV_cg (W := W) (f := f) (hl := hq 270) (p := fun _ => 0) (by rw [l0]; decide) TO.1 (nhT_rs 0 (pT_h0 13 q t q1 e2) TO.2.2.2.1)
      rw [cv] at ev5 pe5
      refine OK_some ?_
      try dsimp only [Sum.elim_inl, Sum.elim_inr, jt2, jt3, jt4, jt5, jt6, jt7, jt8]
      try dsimp only [Sum.elim_inl, Sum.elim_inr, jt2, jt3, jt4, jt5, jt6, jt7, jt8]
      refine ⟨?_, ?_, ?_⟩
      · (intro z; omega) -- o13 e1.1
      · (intro _; rw [eR]; refine ⟨fun _ => ⟨ev5, ?_, ?_⟩, fun y => absurd kB y⟩; { rw [jst_eq, pe5.1, C16.2, Int.zero_add] }; { rw [jst_o (by omega), pe5.2 _ _ (by omega) (by omega), F16 _ _ (by omega), y5]; exact F7 _ _ (by omega) (by omega) (by omega) }) -- o14 e1.2
      · (intro a s z1 z2 z3 z4 z5 z6 z7; rw [jst_o (by omega), pe5.2 a s (by omega) (by omega), F16 a s (by omega)]; exact G13 a s (by omega) z3 z4 z5 z6 z7) -- o15 e1.3
    · skip
      try simp (disch := omega) only [jst_eq, jst_ne, jst_ni, jI_i, jcmp_lt, jcmp_gt, w32_id, jcpy_out, Sum.elim_inl, Sum.elim_inr, jt2, jt3, jt4, jt5, jt6, jt7, jt8] at c2
      refine OK_some ?_
      try dsimp only [Sum.elim_inl, Sum.elim_inr, jt2, jt3, jt4, jt5, jt6, jt7, jt8]
      try dsimp only [Sum.elim_inl, Sum.elim_inr, jt2, jt3, jt4, jt5, jt6, jt7, jt8]
      refine ⟨?_, ?_, ?_⟩
      · (first | assumption | omega | ((try dsimp only [jt2, jt3, jt4]); first | omega | (simp (disch := omega) only [jst_eq, jst_ne, jst_ni, jst_o, jI_i, jcpy_out, w32_id, jdiv_nn, jshr_k, jand_255] <;> first | done | omega | assumption)) | (intros; simp (disch := omega) only [jst_eq, jst_ne, jst_ni, jst_o, jI_i, jcpy_out, w32_id, jdiv_nn, *] <;> first | done | omega) | (intros; simp (disch := omega) only [jst_eq, jst_ne, jst_ni, jst_o, jI_i, jcpy_out, w32_id, jdiv_nn] at * <;> first | done | omega | assumption) | (intros; first | rfl | (exfalso; omega) | ((repeat' apply And.intro) <;> first | assumption | rfl | omega | trivial))) -- o16 e2.1
      · (intro _; have X2 := X.2.1 (by omega); cases eR : pA B n false (beg B n) with | inl z => { rw [eR] at X2; exact ⟨X2.1, X2.2, G13 _ _ (by omega) (by omega) (by omega) (by omega) (by omega) (by omega)⟩ } | inr t => { rw [eR] at X2; exact ⟨fun y => by { have := (X2.1 y).1; have := (K t eR).2; rw [eR] at r; obtain ⟨r1, r2, r3, r4, r5, r6⟩ := r; exfalso; have kk := (K t eR).1; have := (b04 r1 (by omega)).1; omega }, fun y => ⟨(X2.2 y).1, (X2.2 y).2.1, G13 _ _ (by omega) (by omega) (by omega) (by omega) (by omega) (by omega)⟩⟩ }) -- o17 e2.2
      · (intro a s z1 z2 z3 z4 z5 z6 z7; exact G13 a s (by omega) z3 z4 z5 z6 z7) -- o18 e2.3
  · skip
    try simp (disch := omega) only [jst_eq, jst_ne, jst_ni, jI_i, jcmp_lt, jcmp_gt, w32_id, jcpy_out, Sum.elim_inl, Sum.elim_inr, jt2, jt3, jt4, jt5, jt6, jt7, jt8] at c1
    refine OK_some ?_
    try dsimp only [Sum.elim_inl, Sum.elim_inr, jt2, jt3, jt4, jt5, jt6, jt7, jt8]
    try dsimp only [Sum.elim_inl, Sum.elim_inr, jt2, jt3, jt4, jt5, jt6, jt7, jt8]
    refine ⟨?_, ?_, ?_⟩
    · (first | assumption | omega | ((try dsimp only [jt2, jt3, jt4]); first | omega | (simp (disch := omega) only [jst_eq, jst_ne, jst_ni, jst_o, jI_i, jcpy_out, w32_id, jdiv_nn, jshr_k, jand_255] <;> first | done | omega | assumption)) | (intros; simp (disch := omega) only [jst_eq, jst_ne, jst_ni, jst_o, jI_i, jcpy_out, w32_id, jdiv_nn, *] <;> first | done | omega) | (intros; simp (disch := omega) only [jst_eq, jst_ne, jst_ni, jst_o, jI_i, jcpy_out, w32_id, jdiv_nn] at * <;> first | done | omega | assumption) | (intros; first | rfl | (exfalso; omega) | ((repeat' apply And.intro) <;> first | assumption | rfl | omega | trivial))) -- o19 e3.1
    · (first | assumption | omega | ((try dsimp only [jt2, jt3, jt4]); first | omega | (simp (disch := omega) only [jst_eq, jst_ne, jst_ni, jst_o, jI_i, jcpy_out, w32_id, jdiv_nn, jshr_k, jand_255] <;> first | done | omega | assumption)) | (intros; simp (disch := omega) only [jst_eq, jst_ne, jst_ni, jst_o, jI_i, jcpy_out, w32_id, jdiv_nn, *] <;> first | done | omega) | (intros; simp (disch := omega) only [jst_eq, jst_ne, jst_ni, jst_o, jI_i, jcpy_out, w32_id, jdiv_nn] at * <;> first | done | omega | assumption) | (intros; first | rfl | (exfalso; omega) | ((repeat' apply And.intro) <;> first | assumption | rfl | omega | trivial))) -- o20 e3.2
    · (intro a s _ _ _ _ _ _ _; rfl) -- o21 e3.3

