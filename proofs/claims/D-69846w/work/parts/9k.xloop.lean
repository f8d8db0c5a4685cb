/-! x: a loop is told -/
theorem vX13_begin6 (a1 : Int) (a2 : Int) (a3 : Int) {h : AH} {B : Int → Int} (hB : ∀ i, 0 ≤ i → i < a2 → 0 ≤ B i ∧ B i < 256) (tb : 0 ≤ a2 ∧ a2 ≤ 2000 ∧ 439 ≤ a1 ∧ a1 ≤ 440 ∧ h a1 (-2) = 103 ∧ a2 ≤ h a1 (-1) ∧ ∀ i, 0 ≤ i → i < a2 → h a1 i % 256 = B i ∧ -128 ≤ h a1 i ∧ h a1 i ≤ 127) : OK (gX13_begin a1 a2 a3 h) (fun h' => h' 441 6 = 0) := by
  unfold gX13_begin
  refine OK_jl ?_
  refine OK_jl ?_
  refine OK_jl ?_
  refine OK_jl ?_
  refine OK_jl ?_
  refine OK_jl ?_
  refine OK_jl ?_
  refine OK_jl ?_
  refine OK_jl ?_
  refine OK_jl ?_
  have W : ∀ a s, a ≠ 441 → jst (jst (jst (jst (jst (jst (jst (jst (jst (jst h 441 0 a1) 441 1 a2) 441 4 0) 441 6 0) 441 8 0) 441 13 0) 441 14 0) 441 15 0) 441 16 0) 441 17 a3 a s = h a s := fun a s y => by { rw [jst_o (by omega), jst_o (by omega), jst_o (by omega), jst_o (by omega), jst_o (by omega), jst_o (by omega), jst_o (by omega), jst_o (by omega), jst_o (by omega), jst_o (by omega)] }
  have C : jst (jst (jst (jst (jst (jst (jst (jst (jst (jst h 441 0 a1) 441 1 a2) 441 4 0) 441 6 0) 441 8 0) 441 13 0) 441 14 0) 441 15 0) 441 16 0) 441 17 a3 441 0 = a1 ∧ jst (jst (jst (jst (jst (jst (jst (jst (jst (jst h 441 0 a1) 441 1 a2) 441 4 0) 441 6 0) 441 8 0) 441 13 0) 441 14 0) 441 15 0) 441 16 0) 441 17 a3 441 1 = a2 ∧ jst (jst (jst (jst (jst (jst (jst (jst (jst (jst h 441 0 a1) 441 1 a2) 441 4 0) 441 6 0) 441 8 0) 441 13 0) 441 14 0) 441 15 0) 441 16 0) 441 17 a3 441 4 = 0 ∧ jst (jst (jst (jst (jst (jst (jst (jst (jst (jst h 441 0 a1) 441 1 a2) 441 4 0) 441 6 0) 441 8 0) 441 13 0) 441 14 0) 441 15 0) 441 16 0) 441 17 a3 441 6 = 0 := by { (try simp (disch := omega) only [jst_eq, jst_ne, jst_ni, jI_i, jcmp_lt, jcmp_gt, w32_id, jcpy_out, Sum.elim_inl, Sum.elim_inr, jt2, jt3, jt4, jt5, jt6, jt7, jt8]); trivial }
  generalize eh : jst (jst (jst (jst (jst (jst (jst (jst (jst (jst h 441 0 a1) 441 1 a2) 441 4 0) 441 6 0) 441 8 0) 441 13 0) 441 14 0) 441 15 0) 441 16 0) 441 17 a3 = hh at *
  have T0 : TX B a2 a1 hh := ⟨C.1, C.2.1, tb.1, tb.2.1, tb.2.2.1, tb.2.2.2.1, by { rw [W _ _ (by omega)]; exact tb.2.2.2.2.1 }, by { rw [W _ _ (by omega)]; exact tb.2.2.2.2.2.1 }, fun i i0 i1 => by { rw [W _ _ (by omega)]; exact tb.2.2.2.2.2.2 i i0 i1 }⟩
  refine OK_jb (vX13_next (B := B) (n := a2) (A := a1) (q := 0) (by exact T0) (by (first | assumption | omega | ((try dsimp only [jt2, jt3, jt4]); first | omega | (simp (disch := omega) only [jst_eq, jst_ne, jst_ni, jst_o, jI_i, jcpy_out, w32_id, jdiv_nn, jshr_k, jand_255] <;> first | done | omega | assumption)) | (intros; simp (disch := omega) only [jst_eq, jst_ne, jst_ni, jst_o, jI_i, jcpy_out, w32_id, jdiv_nn, *] <;> first | done | omega) | (intros; simp (disch := omega) only [jst_eq, jst_ne, jst_ni, jst_o, jI_i, jcpy_out, w32_id, jdiv_nn] at * <;> first | done | omega | assumption) | (intros; first | rfl | (exfalso; omega) | ((repeat' apply And.intro) <;> first | assumption | rfl | omega | trivial)))) (by (first | assumption | omega | ((try dsimp only [jt2, jt3, jt4]); first | omega | (simp (disch := omega) only [jst_eq, jst_ne, jst_ni, jst_o, jI_i, jcpy_out, w32_id, jdiv_nn, jshr_k, jand_255] <;> first | done | omega | assumption)) | (intros; simp (disch := omega) only [jst_eq, jst_ne, jst_ni, jst_o, jI_i, jcpy_out, w32_id, jdiv_nn, *] <;> first | done | omega) | (intros; simp (disch := omega) only [jst_eq, jst_ne, jst_ni, jst_o, jI_i, jcpy_out, w32_id, jdiv_nn] at * <;> first | done | omega | assumption) | (intros; first | rfl | (exfalso; omega) | ((repeat' apply And.intro) <;> first | assumption | rfl | omega | trivial))))) (fun h12 r1 => ?_)
  try dsimp only [Sum.elim_inl, Sum.elim_inr, jt2, jt3, jt4, jt5, jt6, jt7, jt8] at r1
  obtain ⟨tk1, fr1⟩ := r1
  try simp (disch := omega) only [jst_eq, jst_ne, jst_ni, jI_i, jcmp_lt, jcmp_gt, w32_id, jcpy_out, Sum.elim_inl, Sum.elim_inr, jt2, jt3, jt4, jt5, jt6, jt7, jt8] at tk1
  try simp (disch := omega) only [jst_eq, jst_ne, jst_ni, jI_i, jcmp_lt, jcmp_gt, w32_id, jcpy_out, Sum.elim_inl, Sum.elim_inr, jt2, jt3, jt4, jt5, jt6, jt7, jt8] at fr1
  refine OK_some ?_
  try dsimp only [Sum.elim_inl, Sum.elim_inr, jt2, jt3, jt4, jt5, jt6, jt7, jt8]
  (rw [fr1 _ _ (by omega)]; exact C.2.2.2) -- o4 e1
theorem OK_an2 {α : Type} {o : Option α} {P Q : α → Prop} (a : OK o P) (b : OK o Q) : OK o (fun r => P r ∧ Q r) := by
  obtain ⟨r, e, p⟩ := a
  obtain ⟨r', e', q⟩ := b
  rw [e] at e'
  cases e'
  exact ⟨r, e, p, q⟩
theorem vX13_beginB (a1 a2 a3 : Int) {h : AH} {B : Int → Int} (hB : ∀ i, 0 ≤ i → i < a2 → 0 ≤ B i ∧ B i < 256) (tb : 0 ≤ a2 ∧ a2 ≤ 2000 ∧ 439 ≤ a1 ∧ a1 ≤ 440 ∧ h a1 (-2) = 103 ∧ a2 ≤ h a1 (-1) ∧ ∀ i, 0 ≤ i → i < a2 → h a1 i % 256 = B i ∧ -128 ≤ h a1 i ∧ h a1 i ≤ 127) : OK (gX13_begin a1 a2 a3 h) (fun h' => (Sx B a2 (beg B a2) h') ∧ (TX B a2 a1 h') ∧ (h' 441 8 = 0 ∧ h' 441 13 = 0 ∧ h' 441 14 = 0 ∧ h' 441 15 = 0 ∧ h' 441 16 = 0 ∧ h' 441 17 = a3) ∧ (∀ a s, ¬ (a = 441 ∧ (0 ≤ s ∧ s ≤ 8 ∨ 13 ≤ s ∧ s ≤ 17)) → h' a s = h a s) ∧ h' 441 6 = 0) :=
  OK_mono (OK_an2 (vX13_begin a1 a2 a3 hB tb) (vX13_begin6 a1 a2 a3 hB tb)) (fun r q => ⟨q.1.1, q.1.2.1, q.1.2.2.1, q.1.2.2.2, q.2⟩)
theorem vX8_clear (a0 : Int) {h : AH} : OK (gX8_clear a0 h) (fun h' => (h' (a0 + 5) 0 = 0 ∧ h' a0 9 = 0) ∧ (∀ a s, ¬ (a = a0 + 5 ∧ s = 0) → ¬ (a = a0 ∧ s = 9) → h' a s = h a s)) := by
  unfold gX8_clear
  refine OK_jl ?_
  refine OK_jl ?_
  refine OK_some ?_
  try dsimp only [Sum.elim_inl, Sum.elim_inr, jt2, jt3, jt4, jt5, jt6, jt7, jt8]
  try dsimp only [Sum.elim_inl, Sum.elim_inr, jt2, jt3, jt4, jt5, jt6, jt7, jt8]
  refine ⟨?_, ?_⟩
  · (refine ⟨?_, jst_eq⟩; rw [jst_o (by omega)]; exact jst_eq) -- o1 e1.1
  · exact fun a s y1 y2 => (by rw [jst_o y2, jst_o y1]) -- o2 e1.2
/-- what a reader of loops answers -/
def outLo (E : EV) (P : Int ⊕ LPt) (p0 v p1 : Int) (good : LPt → Prop) : Prop := match P with
  | .inl z => v = -11 ∧ p1 = z
  | .inr p => (fkLo E p = 1000000 → p1 = p0 ∧ good p) ∧ (fkLo E p ≠ 1000000 → v = -10 - fkLo E p % 8 ∧ p1 = fkLo E p / 8)
/-- arrays of x's loops -/
def arL (h : AH) : Prop := (∀ a, a = 378 ∨ a = 391 → (capT h (a + 5) 2200 ∧ h (a + 8) (-2) = 101) ∧ (h (a + 1) (-2) = 101 ∧ h (a + 1) (-1) = 3) ∧ (h (a + 3) (-2) = 101 ∧ h (a + 3) (-1) = 3) ∧ (h (a + 11) (-2) = 101 ∧ h (a + 11) (-1) = 3) ∧ (h (a + 12) (-2) = 101 ∧ h (a + 12) (-1) = 3)) ∧ ((h 444 (-2) = 101 ∧ h 444 (-1) = 3) ∧ h 446 (-2) = 101 ∧ h 446 (-1) = 3) ∧ (h 406 (-2) = 101 ∧ h 406 (-1) = 3) ∧ (h 407 (-2) = 101 ∧ h 407 (-1) = 3) ∧ (h 404 (-2) = 101 ∧ h 404 (-1) = 4096) ∧ h 405 (-2) = 104 ∧ h 405 (-1) = 4096
theorem arL_f {h h' : AH} (a : arL h) (f : ∀ b s, s < 0 → h' b s = h b s) : arL h' := by
  obtain ⟨a1, a2, a3, a4, a5, a6⟩ := a
  refine ⟨fun b hb => ?_, ?_, ?_, ?_, ?_, ?_⟩
  · obtain ⟨b1, b2, b3, b4, b5⟩ := a1 b hb
    refine ⟨⟨capT_fr b1.1 (fun c c0 c1 => f _ _ (by decide)), by rw [f _ _ (by decide)]; exact b1.2⟩, ?_, ?_, ?_, ?_⟩
    · rw [f _ _ (by decide), f _ _ (by decide)]; exact b2
    · rw [f _ _ (by decide), f _ _ (by decide)]; exact b3
    · rw [f _ _ (by decide), f _ _ (by decide)]; exact b4
    · rw [f _ _ (by decide), f _ _ (by decide)]; exact b5
  · rw [f _ _ (by decide), f _ _ (by decide), f _ _ (by decide), f _ _ (by decide)]; exact a2
  · rw [f _ _ (by decide), f _ _ (by decide)]; exact a3
  · rw [f _ _ (by decide), f _ _ (by decide)]; exact a4
  · rw [f _ _ (by decide), f _ _ (by decide)]; exact a5
  · rw [f _ _ (by decide), f _ _ (by decide)]; exact a6
theorem fkLo_le {E : EV} {p : LPt} : fkLo E p ≤ 1000000 := by
  have a := fkF_le (E := EL E p.1) p.2.1 0
  unfold fkLo
  omega
/-- what was read is a loop -/
theorem lpQ_lo {B : Int → Int} {n a T : Int} {E : EV} {p : LPt} {h h' : AH} (ac : acE E) (l0 : E.2.2.1 = 0) (ew : ∀ a, 26 ≤ a → 0 ≤ E.1.2.2.2.1 a) (hB : ∀ i, 0 ≤ i → i < n → 0 ≤ B i ∧ B i < 256) (n0 : 0 ≤ n) (hn : n ≤ 2000) (e : bS (beg B n) (pLo B n) = .inr p) (k : fkLo E p = 1000000) (la : isLo a) (eT : T = a + 5) (q : lpQ T a E (.inr p) h) (cp : capX h T 2200) (e39 : h' 200 39 = a) (f : ∀ b s, a ≤ b → b ≤ a + 10 → ¬ (b = a ∧ (s = 9 ∨ s = 10)) → h' b s = h b s) : loX h' (LEo E p) ∧ vLE E (LEo E p) := by
  have la : a = 378 ∨ a = 391 := la
  obtain ⟨v1, v2, v3, v4, v5, v6⟩ := lo_vLE ac l0 ew hB n0 hn e k
  refine ⟨?_, v1⟩
  obtain ⟨q1, q2, q3, q4, q5, q6, q7, q8⟩ := q
  have vs := v1.2.2.1
  have SL := skL_len (E := EL E p.1) (ts := p.2.1)
  have vx : ∀ {R : TR} {d : Int} {np : Int} {kp : Int → Int} {kd : Int}, tmW E np kp R kd → rXc h T R d 0 (d + 1) → 0 ≤ d → d + sz R ≤ 2100 → vwX h' (h' 200 39 + 5) 2200 (-1) 0 R d 0 := fun {R d np kp kd} t r d0 d1 => by
    have st := sz_pos R
    rw [e39, ← eT]
    have m := rXc_vw (N := 2200) ac t.1 r (by decide) d0 (by omega) (by omega) (by omega)
    exact vwX_fr (h := h) (fun b s y => f b s (by omega) (by omega) (by omega)) m
  have szr : ∀ (l : List Int) (t : TR), sz (rsE (EL E l) t 0) = sz t := fun l t => sz_rs _ _ _ _ _ _ t 0
  refine ⟨by rw [e39]; exact la, by rw [e39, f _ _ (by omega) (by omega) (by omega)]; exact q3.1, by rw [e39, f _ _ (by omega) (by omega) (by omega)]; exact q4.1, fun k k0 k1 => by rw [e39, f _ _ (by omega) (by omega) (by omega)]; exact (q3.2 k k0 k1).1, fun k k0 k1 => ⟨by rw [e39, f _ _ (by omega) (by omega) (by omega)]; exact q4.2 k k0 k1, ?_, ?_⟩, ?_, ?_, ?_⟩
  · have k1' : k < ((skL (EL E p.1) p.2.1).length : Int) := k1
    obtain ⟨e1, e2⟩ := trN_g (l := p.2.1) k0 (by omega)
    obtain ⟨r1, r2, r3⟩ := q5 k.toNat (by omega) _ e1
    have e3 : h' (h' 200 39 + 3) k = h (a + 3) ((k.toNat : Nat) : Int) := by rw [e39, f _ _ (by omega) (by omega) (by omega), show ((k.toNat : Nat) : Int) = k by omega]
    rw [e3]
    exact vx (vs k k0 k1).1 r3 r1 (by show _ + sz (rsE (EL E p.1) (trN p.2.1 k) 0) ≤ 2100; rw [szr]; omega)
  · have k1' : k < ((skL (EL E p.1) p.2.1).length : Int) := k1
    obtain ⟨e1, e2⟩ := trN_g (l := p.2.2.2.2.1) k0 (by omega)
    obtain ⟨r1, r2, r3⟩ := q6 k.toNat (by omega) _ e1
    have e3 : h' (h' 200 39 + 4) k = h (a + 4) ((k.toNat : Nat) : Int) := by rw [e39, f _ _ (by omega) (by omega) (by omega), show ((k.toNat : Nat) : Int) = k by omega]
    rw [e3]
    exact vx (vs k k0 k1).2 r3 r1 (by show _ + sz (rsE (EL E (skL (EL E p.1) p.2.1)) (trN p.2.2.2.2.1 k) 0) ≤ 2100; rw [szr]; omega)
  · have e3 : h' (h' 200 39) 6 = h a 6 := by rw [e39, f _ _ (by omega) (by omega) (by omega)]
    rw [e3]
    exact vx v1.2.2.2.1 q7.2.2 q7.1 (by show _ + sz (rsE (EL E (skL (EL E p.1) p.2.1)) p.2.2.1 0) ≤ 2100; rw [szr]; exact q7.2.1)
  · have e3 : h' (h' 200 39) 7 = h a 7 := by rw [e39, f _ _ (by omega) (by omega) (by omega)]
    rw [e3]
    obtain ⟨kd, vk⟩ := v1.2.2.2.2
    exact vx vk q8.2.2 q8.1 (by show _ + sz (rsE (EL E (skL (EL E p.1) p.2.1)) p.2.2.2.2.2 0) ≤ 2100; rw [szr]; exact q8.2.1)
  · rw [e39, ← eT]
    exact capX_fr cp (fun b b0 b1 => f b _ (by omega) (by omega) (by omega))
def frLf (a : Int) (h h' : AH) : Prop := ∀ b s, ¬ (b = 200 ∧ (s = 55 ∨ s = 56)) → ¬ (a ≤ b ∧ b ≤ a + 10 ∧ 0 ≤ s) → ¬ (b = 441 ∧ 0 ≤ s ∧ s ≤ 18) → ¬ ((b = 442 ∨ b = 444 ∨ b = 446) ∧ 0 ≤ s ∧ s < 3) → ¬ (b = 445 ∧ 0 ≤ s) → h' b s = h b s
noncomputable def gX1_loop_k2  (h : AH) : Option (Int × AH) := jl (h 200 39) fun x15 => jl (jst h 200 39 (h 200 40)) fun h16 => jl (jst h16 200 40 x15) fun h17 => jl (jst h17 (h17 200 39) 9 1) fun h18 => jb (gX1_lookAtLoop h18) fun h20 => some (h20 (h20 200 39) 10, h20)
noncomputable def gX1_loop_k1  (h : AH) : Option (Int × AH) := jb2 (gX13_result h) fun v12 h13 => if 0 ≤ v12 then (gX1_loop_k2 h13) else (some (v12, h13))
theorem vX1_loop_k2 {h : AH} {B : Int → Int} {n a : Int} {E : EV} {Rf : Int → TR} {W : Int → Int → Int → VW} {hl : Int → Int} {h0 : AH} {p : LPt} (hB : ∀ i, 0 ≤ i → i < n → 0 ≤ B i ∧ B i < 256) (T1 : 0 ≤ n ∧ n ≤ 2000) (wk : wkO h0 E Rf W hl) (ar : arL h0) (x39 : a = h0 200 40 ∧ ((h0 200 39 = 378 ∧ h0 200 40 = 391) ∨ (h0 200 39 = 391 ∧ h0 200 40 = 378))) (fr0 : frLf a h0 h) (lp : lpQ (a + 5) a E (.inr p) h) (kf : fkLo E p = 1000000 ∧ bS (beg B n) (pLo B n) = .inr p) : OK (gX1_loop_k2 h) (fun r => jt2 r fun v h' => (h' 200 56 = h 200 56 ∧ ∃ H, lpX h' E Rf W hl (LEo E p) H ∧ v = cntR H ∧ h' (h' 200 39) 9 = 1) ∧ (0 ≤ v) ∧ ((h' 200 39 = 378 ∧ h' 200 40 = 391) ∨ (h' 200 39 = 391 ∧ h' 200 40 = 378)) ∧ (∀ b s, ¬ (b = 200 ∧ (s = 9 ∨ s = 10 ∨ s = 39 ∨ s = 40 ∨ (45 ≤ s ∧ s ≤ 48) ∨ s = 55 ∨ s = 56)) → ¬ ((b = 269 ∨ (404 ≤ b ∧ b ≤ 407)) ∧ 0 ≤ s) → ¬ (378 ≤ b ∧ b ≤ 403 ∧ 0 ≤ s) → ¬ (b = 441 ∧ 0 ≤ s ∧ s ≤ 18) → ¬ ((b = 442 ∨ b = 444 ∨ b = 446) ∧ 0 ≤ s ∧ s < 3) → ¬ (b = 445 ∧ 0 ≤ s) → h' b s = h0 b s)) := by
  have LO : isLo a := by { unfold isLo; omega }
  have LA : a = 378 ∨ a = 391 := LO
  have ea := x39.1
  have ARh := arL_f ar (fun b s y => fr0 b s (by omega) (by omega) (by omega) (by omega) (by omega))
  have E39 : h 200 39 = h0 200 39 ∧ h 200 40 = a := ⟨fr0 _ _ (by omega) (by omega) (by omega) (by omega) (by omega), by { rw [fr0 _ _ (by omega) (by omega) (by omega) (by omega) (by omega)]; exact ea.symm }⟩
  unfold gX1_loop_k2
  refine OK_jlx (fun x15 ex15 => ?_)
  try simp (disch := omega) only [jst_eq, jst_ne, jst_ni, jI_i, jcmp_lt, jcmp_gt, w32_id, jcpy_out, Sum.elim_inl, Sum.elim_inr, jt2, jt3, jt4, jt5, jt6, jt7, jt8] at ex15
  have X15 : x15 = h0 200 39 := by { rw [ex15]; exact E39.1 }
  refine OK_jl ?_
  rw [E39.2]
  refine OK_jl ?_
  have F17 : ∀ b s, ¬ (b = 200 ∧ (s = 39 ∨ s = 40)) → jst (jst h 200 39 a) 200 40 x15 b s = h b s := fun b s y => by { rw [jst_o (by omega), jst_o (by omega)] }
  have V17 : jst (jst h 200 39 a) 200 40 x15 200 39 = a ∧ jst (jst h 200 39 a) 200 40 x15 200 40 = x15 := ⟨by { rw [jst_o (by omega)]; exact jst_eq }, jst_eq⟩
  generalize jst (jst h 200 39 a) 200 40 x15 = g17 at *
  refine OK_jl ?_
  rw [V17.1]
  have F18 : ∀ b s, ¬ (b = 200 ∧ (s = 39 ∨ s = 40)) → ¬ (b = a ∧ s = 9) → jst g17 a 9 1 b s = h b s := fun b s y1 y2 => by { rw [jst_o y2, F17 b s y1] }
  have V18 : jst g17 a 9 1 200 39 = a ∧ jst g17 a 9 1 200 40 = h0 200 39 ∧ jst g17 a 9 1 a 9 = 1 := ⟨by { rw [jst_o (by omega)]; exact V17.1 }, by { rw [jst_o (by omega), V17.2]; exact X15 }, jst_eq⟩
  generalize jst g17 a 9 1 = g18 at *
  have G18 : ∀ b s, ¬ (b = 200 ∧ (s = 39 ∨ s = 40 ∨ s = 55 ∨ s = 56)) → ¬ (a ≤ b ∧ b ≤ a + 10 ∧ 0 ≤ s) → ¬ (b = 441 ∧ 0 ≤ s ∧ s ≤ 18) → ¬ ((b = 442 ∨ b = 444 ∨ b = 446) ∧ 0 ≤ s ∧ s < 3) → ¬ (b = 445 ∧ 0 ≤ s) → g18 b s = h0 b s := fun b s y1 y2 y3 y4 y5 => by { rw [F18 b s (by omega) (by omega)]; exact fr0 b s (by omega) y2 y3 y4 y5 }
  have AR18 := arL_f ar (fun b s y => G18 b s (by omega) (by omega) (by omega) (by omega) (by omega))
  have WB : bd10 g18 := by { unfold bd10; rw [G18 _ _ (by omega) (by omega) (by omega) (by omega) (by omega)]; exact wk.2.2.2.2 }
  have WK : wkO g18 E Rf W hl := wkO_f wk WB (fun b s y => G18 b s (by omega) (by omega) (by omega) (by omega) (by omega))
  have CX : capX h (a + 5) 2200 := ⟨by unfold isX3; omega, (ARh.1 a LA).1.1⟩
  obtain ⟨LX, VX⟩ := lpQ_lo (h' := g18) wk.1.2.1 wk.2.1 wk.1.2.2.2.2.2.2.2 hB T1.1 T1.2 kf.2 kf.1 LO rfl lp CX V18.1 (fun b s y1 y2 y3 => F18 b s (by omega) (by omega))
  have RN : rnX g18 E Rf W hl (LEo E p) := ⟨WK, LX, ⟨AR18.2.2.1, AR18.2.2.2.1, by { rw [V18.1]; exact (AR18.1 a LA).2.2.2.1.1 }, by { rw [V18.1]; exact (AR18.1 a LA).2.2.2.1.2 }⟩, VX⟩
  have KL : kl2 g18 := ⟨by { rw [V18.1]; exact (AR18.1 a LA).2.2.2.2 }, AR18.2.2.2.2.1, AR18.2.2.2.2.2⟩
  refine OK_jb (vX1_lookAtLoop (E := E) (Rf := Rf) (W := W) (hl := hl) (L := LEo E p) (by exact RN) (by exact KL)) (fun h20 r1 => ?_)
  try dsimp only [Sum.elim_inl, Sum.elim_inr, jt2, jt3, jt4, jt5, jt6, jt7, jt8] at r1
  obtain ⟨q11, fr1, bb1⟩ := r1
  try simp (disch := omega) only [jst_eq, jst_ne, jst_ni, jI_i, jcmp_lt, jcmp_gt, w32_id, jcpy_out, Sum.elim_inl, Sum.elim_inr, jt2, jt3, jt4, jt5, jt6, jt7, jt8] at q11
  try simp (disch := omega) only [jst_eq, jst_ne, jst_ni, jI_i, jcmp_lt, jcmp_gt, w32_id, jcpy_out, Sum.elim_inl, Sum.elim_inr, jt2, jt3, jt4, jt5, jt6, jt7, jt8] at fr1
  try simp (disch := omega) only [jst_eq, jst_ne, jst_ni, jI_i, jcmp_lt, jcmp_gt, w32_id, jcpy_out, Sum.elim_inl, Sum.elim_inr, jt2, jt3, jt4, jt5, jt6, jt7, jt8] at bb1
  obtain ⟨H, H1, H2⟩ := q11
  have E20 : h20 200 39 = a := by { rw [fr1 _ _ (by omega) (by omega) (by omega) (by omega)]; exact V18.1 }
  have KL2 : kl2 h20 := by { unfold kl2; rw [E20]; rw [fr1 _ _ (by omega) (by omega) (by omega) (by omega), fr1 _ _ (by omega) (by omega) (by omega) (by omega), fr1 _ _ (by omega) (by omega) (by omega) (by omega), fr1 _ _ (by omega) (by omega) (by omega) (by omega), fr1 _ _ (by omega) (by omega) (by omega) (by omega), fr1 _ _ (by omega) (by omega) (by omega) (by omega)]; have k := KL; unfold kl2 at k; rw [V18.1] at k; exact k }
  refine OK_some ?_
  try dsimp only [Sum.elim_inl, Sum.elim_inr, jt2, jt3, jt4, jt5, jt6, jt7, jt8]
  try dsimp only [Sum.elim_inl, Sum.elim_inr, jt2, jt3, jt4, jt5, jt6, jt7, jt8]
  refine ⟨?_, ?_, ?_, ?_⟩
  · exact ⟨by rw [fr1 _ _ (by omega) (by omega) (by omega) (by omega)]; exact F18 _ _ (by omega) (by omega), H, ⟨rnX_f RN bb1 fr1, H1, H2, KL2⟩, H2.2.2.1, by rw [E20, fr1 _ _ (by omega) (by omega) (by omega) (by omega)]; exact V18.2.2⟩ -- o3 e1.1
  · (rw [H2.2.2.1]; exact (cntR_b H).1) -- o4 e1.2
  · (rw [fr1 200 39 (by omega) (by omega) (by omega) (by omega), fr1 200 40 (by omega) (by omega) (by omega) (by omega)]; omega) -- o5 e1.3
  · exact fun b s y1 y2 y3 y4 y5 y6 => (by rw [fr1 b s (by omega) (by omega) (by omega) (by omega)]; exact G18 b s (by omega) (by omega) y4 y5 y6) -- o6 e1.4
theorem vX1_loop_k1 {h : AH} {B : Int → Int} {n a : Int} {E : EV} {Rf : Int → TR} {W : Int → Int → Int → VW} {hl : Int → Int} {h0 : AH} (hB : ∀ i, 0 ≤ i → i < n → 0 ≤ B i ∧ B i < 256) (T1 : 0 ≤ n ∧ n ≤ 2000) (wk : wkO h0 E Rf W hl) (ar : arL h0) (x39 : a = h0 200 40 ∧ ((h0 200 39 = 378 ∧ h0 200 40 = 391) ∨ (h0 200 39 = 391 ∧ h0 200 40 = 378))) (F10 : frLf a h0 h) (lp4 : lpQ (a + 5) a E (bS (beg B n) (pLo B n)) h) (f84 : f8X h) (P56 : h 200 56 = h0 200 56) : OK (gX1_loop_k1 h) (fun r => jt2 r fun v h' => (outLo E (bS (beg B n) (pLo B n)) (h0 200 56) v (h' 200 56) (fun p => ∃ H, lpX h' E Rf W hl (LEo E p) H ∧ v = cntR H ∧ h' (h' 200 39) 9 = 1)) ∧ ((h' 200 39 = 378 ∧ h' 200 40 = 391) ∨ (h' 200 39 = 391 ∧ h' 200 40 = 378)) ∧ (v < 0 → frLf a h0 h') ∧ (∀ b s, ¬ (b = 200 ∧ (s = 9 ∨ s = 10 ∨ s = 39 ∨ s = 40 ∨ (45 ≤ s ∧ s ≤ 48) ∨ s = 55 ∨ s = 56)) → ¬ ((b = 269 ∨ (404 ≤ b ∧ b ≤ 407)) ∧ 0 ≤ s) → ¬ (378 ≤ b ∧ b ≤ 403 ∧ 0 ≤ s) → ¬ (b = 441 ∧ 0 ≤ s ∧ s ≤ 18) → ¬ ((b = 442 ∨ b = 444 ∨ b = 446) ∧ 0 ≤ s ∧ s < 3) → ¬ (b = 445 ∧ 0 ≤ s) → h' b s = h0 b s)) := by
  have LA : a = 378 ∨ a = 391 := by omega
  have B10 : h 441 6 = 0 ∨ h 441 6 = 1 := by { cases e : bS (beg B n) (pLo B n) with | inl z => { rw [e] at lp4; exact Or.inr lp4.1 } | inr p => { rw [e] at lp4; exact Or.inl lp4.1 } }
  unfold f8X at f84
  unfold gX1_loop_k1
  refine OK_jb2 (vX13_result (by exact ⟨f84.1, f84.2.1⟩) (by exact f84.2.2) (by exact B10)) (fun v12 h13 r1 => ?_)
  try dsimp only [Sum.elim_inl, Sum.elim_inr, jt2, jt3, jt4, jt5, jt6, jt7, jt8] at r1
  obtain ⟨b11, b01, bf1⟩ := r1
  try simp (disch := omega) only [jst_eq, jst_ne, jst_ni, jI_i, jcmp_lt, jcmp_gt, w32_id, jcpy_out, Sum.elim_inl, Sum.elim_inr, jt2, jt3, jt4, jt5, jt6, jt7, jt8] at b11
  try simp (disch := omega) only [jst_eq, jst_ne, jst_ni, jI_i, jcmp_lt, jcmp_gt, w32_id, jcpy_out, Sum.elim_inl, Sum.elim_inr, jt2, jt3, jt4, jt5, jt6, jt7, jt8] at b01
  try simp (disch := omega) only [jst_eq, jst_ne, jst_ni, jI_i, jcmp_lt, jcmp_gt, w32_id, jcpy_out, Sum.elim_inl, Sum.elim_inr, jt2, jt3, jt4, jt5, jt6, jt7, jt8] at bf1
  have F13 : frLf a h0 h13 := fun b s y1 y2 y3 y4 y5 => by { have e : h13 b s = h b s := (by rcases B10 with z | z; { by_cases k : FK h = 1000000; { rw [(b01 z k).2] }; { rw [(bf1 z k).2.1, jst_o (by omega)] } }; { rw [(b11 z).2, jst_o (by omega)] }); rw [e]; exact F10 b s y1 y2 y3 y4 y5 }
  refine OK_if (fun c1 => ?_) (fun c1 => ?_)
  · skip
    try simp (disch := omega) only [jst_eq, jst_ne, jst_ni, jI_i, jcmp_lt, jcmp_gt, w32_id, jcpy_out, Sum.elim_inl, Sum.elim_inr, jt2, jt3, jt4, jt5, jt6, jt7, jt8] at c1
    have Z10 : h 441 6 = 0 := B10.resolve_right (fun z => by have := (b11 z).1; omega)
    have K10 : FK h = 1000000 := Classical.byContradiction fun z => by { have := bf1 Z10 z; omega }
    obtain ⟨V12, E13⟩ := b01 Z10 K10
    obtain ⟨p, eP⟩ : ∃ p, bS (beg B n) (pLo B n) = .inr p := by { cases e : bS (beg B n) (pLo B n) with | inl z => { rw [e] at lp4; have := lp4.1; omega } | inr p => exact ⟨p, rfl⟩ }
    rw [eP] at lp4
    have KF : fkLo E p = 1000000 := by { have k1 := lp4.2.1; have k2 := fkLo_le (E := E) (p := p); omega }
    refine OK_mono (vX1_loop_k2 (B := B) (n := n) (a := a) (E := E) (Rf := Rf) (W := W) (hl := hl) (h0 := h0) (p := p) (by exact hB) (by exact T1) (by exact wk) (by exact ar) (by exact x39) (by exact F13) (by (rw [E13]; exact lp4)) (by exact ⟨KF, eP⟩)) (fun r r2 => ?_)
    obtain ⟨y1, y2⟩ := r
    try dsimp only [Sum.elim_inl, Sum.elim_inr, jt2, jt3, jt4, jt5, jt6, jt7, jt8] at r2
    obtain ⟨oo2, v02, xs2, fr2⟩ := r2
    try simp (disch := omega) only [jst_eq, jst_ne, jst_ni, jI_i, jcmp_lt, jcmp_gt, w32_id, jcpy_out, Sum.elim_inl, Sum.elim_inr, jt2, jt3, jt4, jt5, jt6, jt7, jt8] at oo2
    try simp (disch := omega) only [jst_eq, jst_ne, jst_ni, jI_i, jcmp_lt, jcmp_gt, w32_id, jcpy_out, Sum.elim_inl, Sum.elim_inr, jt2, jt3, jt4, jt5, jt6, jt7, jt8] at v02
    try simp (disch := omega) only [jst_eq, jst_ne, jst_ni, jI_i, jcmp_lt, jcmp_gt, w32_id, jcpy_out, Sum.elim_inl, Sum.elim_inr, jt2, jt3, jt4, jt5, jt6, jt7, jt8] at xs2
    try simp (disch := omega) only [jst_eq, jst_ne, jst_ni, jI_i, jcmp_lt, jcmp_gt, w32_id, jcpy_out, Sum.elim_inl, Sum.elim_inr, jt2, jt3, jt4, jt5, jt6, jt7, jt8] at fr2
    try dsimp only [Sum.elim_inl, Sum.elim_inr, jt2, jt3, jt4, jt5, jt6, jt7, jt8]
    try dsimp only [Sum.elim_inl, Sum.elim_inr, jt2, jt3, jt4, jt5, jt6, jt7, jt8]
    refine ⟨?_, ?_, ?_, ?_⟩
    · (rw [eP]; exact ⟨fun _ => ⟨by rw [oo2.1, E13]; exact P56, oo2.2⟩, fun z => absurd KF z⟩) -- o12 e1.1
    · exact xs2 -- o13 e1.2
    · exact fun z => absurd v02 (by omega) -- o14 e1.3
    · exact fr2 -- o15 e1.4
  · skip
    try simp (disch := omega) only [jst_eq, jst_ne, jst_ni, jI_i, jcmp_lt, jcmp_gt, w32_id, jcpy_out, Sum.elim_inl, Sum.elim_inr, jt2, jt3, jt4, jt5, jt6, jt7, jt8] at c1
    refine OK_some ?_
    try dsimp only [Sum.elim_inl, Sum.elim_inr, jt2, jt3, jt4, jt5, jt6, jt7, jt8]
    try dsimp only [Sum.elim_inl, Sum.elim_inr, jt2, jt3, jt4, jt5, jt6, jt7, jt8]
    refine ⟨?_, ?_, ?_, ?_⟩
    · (cases e : bS (beg B n) (pLo B n) with | inl z => (rw [e] at lp4; have b := b11 lp4.1; exact ⟨b.1, by rw [b.2, jst_eq]; exact lp4.2⟩) | inr p => (rw [e] at lp4; have k1 := lp4.2.1; have k2 := fkLo_le (E := E) (p := p); have nk : FK h ≠ 1000000 := (fun z => by have := (b01 lp4.1 z).1; omega); have b := bf1 lp4.1 nk; have ek : FK h = fkLo E p := (by omega); exact ⟨fun z => absurd (ek.trans z) nk, fun _ => ⟨by rw [← ek]; exact b.1, by rw [b.2.1, jst_eq, ek]⟩⟩)) -- o16 e2.1
    · (rw [F13 200 39 (by omega) (by omega) (by omega) (by omega) (by omega), F13 200 40 (by omega) (by omega) (by omega) (by omega) (by omega)]; exact x39.2) -- o17 e2.2
    · exact fun _ => F13 -- o18 e2.3
    · exact fun b s y1 y2 y3 y4 y5 y6 => F13 b s (by omega) (by omega) y4 y5 y6 -- o19 e2.4
theorem vX1_loop {h : AH} {B : Int → Int} {n : Int} {E : EV} {Rf : Int → TR} {W : Int → Int → Int → VW} {hl : Int → Int} (hB : ∀ i, 0 ≤ i → i < n → 0 ≤ B i ∧ B i < 256) (tb : n = h 200 55 ∧ tapX B n h) (wk : wkO h E Rf W hl) (od : Od h) (ar : arL h) (dn : h 200 53 = 0 ∨ h 200 53 = 1) (x39 : (h 200 39 = 378 ∧ h 200 40 = 391) ∨ (h 200 39 = 391 ∧ h 200 40 = 378)) : OK (gX1_loop h) (fun r => jt2 r fun v h' => (h 200 53 = 1 → v = -5 ∧ h' = h) ∧ (h 200 53 = 0 → outLo E (bS (beg B n) (pLo B n)) (h 200 56) v (h' 200 56) (fun p => ∃ H, lpX h' E Rf W hl (LEo E p) H ∧ v = cntR H ∧ h' (h' 200 39) 9 = 1)) ∧ ((h' 200 39 = 378 ∧ h' 200 40 = 391) ∨ (h' 200 39 = 391 ∧ h' 200 40 = 378)) ∧ (v < 0 → frLf (h 200 40) h h') ∧ (∀ b s, ¬ (b = 200 ∧ (s = 9 ∨ s = 10 ∨ s = 39 ∨ s = 40 ∨ (45 ≤ s ∧ s ≤ 48) ∨ s = 55 ∨ s = 56)) → ¬ ((b = 269 ∨ (404 ≤ b ∧ b ≤ 407)) ∧ 0 ≤ s) → ¬ (378 ≤ b ∧ b ≤ 403 ∧ 0 ≤ s) → ¬ (b = 441 ∧ 0 ≤ s ∧ s ≤ 18) → ¬ ((b = 442 ∨ b = 444 ∨ b = 446) ∧ 0 ≤ s ∧ s < 3) → ¬ (b = 445 ∧ 0 ≤ s) → h' b s = h b s)) := by
  have T := tb.2
  have T1 : 0 ≤ n ∧ n ≤ 2000 := ⟨T.1, T.2.1⟩
  obtain ⟨a, ea⟩ : ∃ a, a = h 200 40 := ⟨_, rfl⟩
  have LO : isLo a := by { unfold isLo; omega }
  have LA : a = 378 ∨ a = 391 := LO
  have l0 := wk.2.1
  have ac := wk.1.2.1
  have ew := wk.1.2.2.2.2.2.2.2
  have AX := wk.1.1
  unfold gX1_loop
  refine OK_if (fun c1 => ?_) (fun c1 => ?_)
  · skip
    try simp (disch := omega) only [jst_eq, jst_ne, jst_ni, jI_i, jcmp_lt, jcmp_gt, w32_id, jcpy_out, Sum.elim_inl, Sum.elim_inr, jt2, jt3, jt4, jt5, jt6, jt7, jt8] at c1
    refine OK_jb (vX8_clear _) (fun h3 r1 => ?_)
    try dsimp only [Sum.elim_inl, Sum.elim_inr, jt2, jt3, jt4, jt5, jt6, jt7, jt8] at r1
    obtain ⟨cl1, fr1⟩ := r1
    try simp (disch := omega) only [jst_eq, jst_ne, jst_ni, jI_i, jcmp_lt, jcmp_gt, w32_id, jcpy_out, Sum.elim_inl, Sum.elim_inr, jt2, jt3, jt4, jt5, jt6, jt7, jt8] at cl1
    try simp (disch := omega) only [jst_eq, jst_ne, jst_ni, jI_i, jcmp_lt, jcmp_gt, w32_id, jcpy_out, Sum.elim_inl, Sum.elim_inr, jt2, jt3, jt4, jt5, jt6, jt7, jt8] at fr1
    rw [← ea] at cl1 fr1
    refine OK_jb2 (vX1_takeTape) (fun v5 h6 r2 => ?_)
    try dsimp only [Sum.elim_inl, Sum.elim_inr, jt2, jt3, jt4, jt5, jt6, jt7, jt8] at r2
    obtain ⟨v2, hh2⟩ := r2
    try simp (disch := omega) only [jst_eq, jst_ne, jst_ni, jI_i, jcmp_lt, jcmp_gt, w32_id, jcpy_out, Sum.elim_inl, Sum.elim_inr, jt2, jt3, jt4, jt5, jt6, jt7, jt8] at v2
    try simp (disch := omega) only [jst_eq, jst_ne, jst_ni, jI_i, jcmp_lt, jcmp_gt, w32_id, jcpy_out, Sum.elim_inl, Sum.elim_inr, jt2, jt3, jt4, jt5, jt6, jt7, jt8] at hh2
    have en5 : v5 = n := by { rw [v2, fr1 _ _ (by omega) (by omega)]; exact tb.1.symm }
    rw [en5]
    have F6 : ∀ b s, ¬ (b = 200 ∧ s = 55) → ¬ (b = a + 5 ∧ s = 0) → ¬ (b = a ∧ s = 9) → h6 b s = h b s := fun b s y1 y2 y3 => by { rw [hh2, jst_o y1]; exact fr1 b s y2 y3 }
    have E40 : h6 200 40 = a := by { rw [F6 _ _ (by omega) (by omega) (by omega)]; exact ea.symm }
    rw [E40]
    refine OK_jb (vX13_beginB (B := B) _ _ _ (by exact hB) (by exact ⟨T1.1, T1.2, by decide, by decide, by rw [F6 _ _ (by omega) (by omega) (by omega)]; exact T.2.2.1, by rw [F6 _ _ (by omega) (by omega) (by omega)]; exact T.2.2.2.1, fun i i0 i1 => by rw [F6 _ _ (by omega) (by omega) (by omega)]; exact T.2.2.2.2 i i0 i1⟩)) (fun h8 r3 => ?_)
    try dsimp only [Sum.elim_inl, Sum.elim_inr, jt2, jt3, jt4, jt5, jt6, jt7, jt8] at r3
    obtain ⟨sx3, tx3, ce3, fr3, b63⟩ := r3
    try simp (disch := omega) only [jst_eq, jst_ne, jst_ni, jI_i, jcmp_lt, jcmp_gt, w32_id, jcpy_out, Sum.elim_inl, Sum.elim_inr, jt2, jt3, jt4, jt5, jt6, jt7, jt8] at sx3
    try simp (disch := omega) only [jst_eq, jst_ne, jst_ni, jI_i, jcmp_lt, jcmp_gt, w32_id, jcpy_out, Sum.elim_inl, Sum.elim_inr, jt2, jt3, jt4, jt5, jt6, jt7, jt8] at tx3
    try simp (disch := omega) only [jst_eq, jst_ne, jst_ni, jI_i, jcmp_lt, jcmp_gt, w32_id, jcpy_out, Sum.elim_inl, Sum.elim_inr, jt2, jt3, jt4, jt5, jt6, jt7, jt8] at ce3
    try simp (disch := omega) only [jst_eq, jst_ne, jst_ni, jI_i, jcmp_lt, jcmp_gt, w32_id, jcpy_out, Sum.elim_inl, Sum.elim_inr, jt2, jt3, jt4, jt5, jt6, jt7, jt8] at fr3
    try simp (disch := omega) only [jst_eq, jst_ne, jst_ni, jI_i, jcmp_lt, jcmp_gt, w32_id, jcpy_out, Sum.elim_inl, Sum.elim_inr, jt2, jt3, jt4, jt5, jt6, jt7, jt8] at b63
    have F8 : ∀ b s, ¬ (b = 200 ∧ s = 55) → ¬ (b = a + 5 ∧ s = 0) → ¬ (b = a ∧ s = 9) → ¬ (b = 441 ∧ (0 ≤ s ∧ s ≤ 8 ∨ 13 ≤ s ∧ s ≤ 17)) → h8 b s = h b s := fun b s y1 y2 y3 y4 => by { rw [fr3 b s y4]; exact F6 b s y1 y2 y3 }
    have E8 : h8 200 40 = a := by { rw [fr3 _ _ (by omega)]; exact E40 }
    have T8 : h8 (a + 5) 0 = 0 := by { rw [fr3 _ _ (by omega), hh2, jst_o (by omega)]; exact cl1.1 }
    have FK8 : FK h8 = 1000000 := by { unfold FK; rw [if_pos (by omega)] }
    have AR8 := arL_f ar (fun b s y => F8 b s (by omega) (by omega) (by omega) (by omega))
    have RD8 : rdT B n 440 (a + 5) E h8 := ⟨tx3, actX_fr AX (fun b s q => F8 b s (by unfold actC at q; omega) (by unfold actC at q; omega) (by unfold actC at q; omega) (by unfold actC at q; omega)), Od_fr od (fun b i b0 b1 => F8 _ _ (by omega) (by omega) (by omega) (by omega)), ⟨(AR8.1 a LA).1.1, by { rw [show a + 5 + 3 = a + 8 by omega]; exact (AR8.1 a LA).1.2 }, by unfold Tset; omega⟩, AR8.2.1, by omega, by omega, ⟨ce3.2.2.2.1, ce3.2.2.2.2.2, ce3.2.2.1⟩, l0⟩
    rw [E8]
    refine OK_jb (vX13_loop (B := B) (n := n) (A := 440) (T := a + 5) (E := E) (R := beg B n) _ (by exact hB) (by exact ⟨LO, rfl⟩) (by exact RD8) (by exact sx3) (by exact b63) (by exact ⟨T8, ce3.2.2.2.2.1, FK8⟩) (by exact ⟨(AR8.1 a LA).2.1, (AR8.1 a LA).2.2.1⟩)) (fun h10 r4 => ?_)
    try dsimp only [Sum.elim_inl, Sum.elim_inr, jt2, jt3, jt4, jt5, jt6, jt7, jt8] at r4
    obtain ⟨lp4, f84, fr4⟩ := r4
    try simp (disch := omega) only [jst_eq, jst_ne, jst_ni, jI_i, jcmp_lt, jcmp_gt, w32_id, jcpy_out, Sum.elim_inl, Sum.elim_inr, jt2, jt3, jt4, jt5, jt6, jt7, jt8] at lp4
    try simp (disch := omega) only [jst_eq, jst_ne, jst_ni, jI_i, jcmp_lt, jcmp_gt, w32_id, jcpy_out, Sum.elim_inl, Sum.elim_inr, jt2, jt3, jt4, jt5, jt6, jt7, jt8] at f84
    try simp (disch := omega) only [jst_eq, jst_ne, jst_ni, jI_i, jcmp_lt, jcmp_gt, w32_id, jcpy_out, Sum.elim_inl, Sum.elim_inr, jt2, jt3, jt4, jt5, jt6, jt7, jt8] at fr4
    have F10 : frLf a h h10 := fun b s y1 y2 y3 y4 y5 => by { rw [fr4 b s (by omega) y5 y2 y4]; exact F8 b s (by omega) (by omega) (by omega) (by omega) }
    refine OK_mono (vX1_loop_k1 (B := B) (n := n) (a := a) (E := E) (Rf := Rf) (W := W) (hl := hl) (h0 := h) (by exact hB) (by exact T1) (by exact wk) (by exact ar) (by exact ⟨ea, x39⟩) (by exact F10) (by exact lp4) (by exact f84) (by (rw [fr4 _ _ (by omega) (by omega) (by omega) (by omega)]; exact F8 _ _ (by omega) (by omega) (by omega) (by omega)))) (fun r r5 => ?_)
    obtain ⟨y1, y2⟩ := r
    try dsimp only [Sum.elim_inl, Sum.elim_inr, jt2, jt3, jt4, jt5, jt6, jt7, jt8] at r5
    obtain ⟨oo5, xs5, fk5, fr5⟩ := r5
    try simp (disch := omega) only [jst_eq, jst_ne, jst_ni, jI_i, jcmp_lt, jcmp_gt, w32_id, jcpy_out, Sum.elim_inl, Sum.elim_inr, jt2, jt3, jt4, jt5, jt6, jt7, jt8] at oo5
    try simp (disch := omega) only [jst_eq, jst_ne, jst_ni, jI_i, jcmp_lt, jcmp_gt, w32_id, jcpy_out, Sum.elim_inl, Sum.elim_inr, jt2, jt3, jt4, jt5, jt6, jt7, jt8] at xs5
    try simp (disch := omega) only [jst_eq, jst_ne, jst_ni, jI_i, jcmp_lt, jcmp_gt, w32_id, jcpy_out, Sum.elim_inl, Sum.elim_inr, jt2, jt3, jt4, jt5, jt6, jt7, jt8] at fk5
    try simp (disch := omega) only [jst_eq, jst_ne, jst_ni, jI_i, jcmp_lt, jcmp_gt, w32_id, jcpy_out, Sum.elim_inl, Sum.elim_inr, jt2, jt3, jt4, jt5, jt6, jt7, jt8] at fr5
    try dsimp only [Sum.elim_inl, Sum.elim_inr, jt2, jt3, jt4, jt5, jt6, jt7, jt8]
    try dsimp only [Sum.elim_inl, Sum.elim_inr, jt2, jt3, jt4, jt5, jt6, jt7, jt8]
    refine ⟨?_, ?_, ?_, ?_, ?_⟩
    · (first | assumption | omega | ((try dsimp only [jt2, jt3, jt4]); first | omega | (simp (disch := omega) only [jst_eq, jst_ne, jst_ni, jst_o, jI_i, jcpy_out, w32_id, jdiv_nn, jshr_k, jand_255] <;> first | done | omega | assumption)) | (intros; simp (disch := omega) only [jst_eq, jst_ne, jst_ni, jst_o, jI_i, jcpy_out, w32_id, jdiv_nn, *] <;> first | done | omega) | (intros; simp (disch := omega) only [jst_eq, jst_ne, jst_ni, jst_o, jI_i, jcpy_out, w32_id, jdiv_nn] at * <;> first | done | omega | assumption) | (intros; first | rfl | (exfalso; omega) | ((repeat' apply And.intro) <;> first | assumption | rfl | omega | trivial))) -- o19 e1.1
    · exact fun _ => oo5 -- o20 e1.2
    · exact xs5 -- o21 e1.3
    · (intro z; rw [← ea]; exact fk5 z) -- o22 e1.4
    · exact fr5 -- o23 e1.5
  · skip
    try simp (disch := omega) only [jst_eq, jst_ne, jst_ni, jI_i, jcmp_lt, jcmp_gt, w32_id, jcpy_out, Sum.elim_inl, Sum.elim_inr, jt2, jt3, jt4, jt5, jt6, jt7, jt8] at c1
    refine OK_some ?_
    try dsimp only [Sum.elim_inl, Sum.elim_inr, jt2, jt3, jt4, jt5, jt6, jt7, jt8]
    try dsimp only [Sum.elim_inl, Sum.elim_inr, jt2, jt3, jt4, jt5, jt6, jt7, jt8]
    refine ⟨?_, ?_, ?_, ?_, ?_⟩
    · (first | assumption | omega | ((try dsimp only [jt2, jt3, jt4]); first | omega | (simp (disch := omega) only [jst_eq, jst_ne, jst_ni, jst_o, jI_i, jcpy_out, w32_id, jdiv_nn, jshr_k, jand_255] <;> first | done | omega | assumption)) | (intros; simp (disch := omega) only [jst_eq, jst_ne, jst_ni, jst_o, jI_i, jcpy_out, w32_id, jdiv_nn, *] <;> first | done | omega) | (intros; simp (disch := omega) only [jst_eq, jst_ne, jst_ni, jst_o, jI_i, jcpy_out, w32_id, jdiv_nn] at * <;> first | done | omega | assumption) | (intros; first | rfl | (exfalso; omega) | ((repeat' apply And.intro) <;> first | assumption | rfl | omega | trivial))) -- o24 e2.1
    · (first | assumption | omega | ((try dsimp only [jt2, jt3, jt4]); first | omega | (simp (disch := omega) only [jst_eq, jst_ne, jst_ni, jst_o, jI_i, jcpy_out, w32_id, jdiv_nn, jshr_k, jand_255] <;> first | done | omega | assumption)) | (intros; simp (disch := omega) only [jst_eq, jst_ne, jst_ni, jst_o, jI_i, jcpy_out, w32_id, jdiv_nn, *] <;> first | done | omega) | (intros; simp (disch := omega) only [jst_eq, jst_ne, jst_ni, jst_o, jI_i, jcpy_out, w32_id, jdiv_nn] at * <;> first | done | omega | assumption) | (intros; first | rfl | (exfalso; omega) | ((repeat' apply And.intro) <;> first | assumption | rfl | omega | trivial))) -- o25 e2.2
    · (first | assumption | omega | ((try dsimp only [jt2, jt3, jt4]); first | omega | (simp (disch := omega) only [jst_eq, jst_ne, jst_ni, jst_o, jI_i, jcpy_out, w32_id, jdiv_nn, jshr_k, jand_255] <;> first | done | omega | assumption)) | (intros; simp (disch := omega) only [jst_eq, jst_ne, jst_ni, jst_o, jI_i, jcpy_out, w32_id, jdiv_nn, *] <;> first | done | omega) | (intros; simp (disch := omega) only [jst_eq, jst_ne, jst_ni, jst_o, jI_i, jcpy_out, w32_id, jdiv_nn] at * <;> first | done | omega | assumption) | (intros; first | rfl | (exfalso; omega) | ((repeat' apply And.intro) <;> first | assumption | rfl | omega | trivial))) -- o26 e2.3
    · exact fun _ _ _ _ _ _ _ _ => rfl -- o27 e2.4
    · exact fun _ _ _ _ _ _ _ _ => rfl -- o28 e2.5

