/-! x: terms of a loop worked out; inputs; first states -/
theorem enuX_l {h h' : AH} {E : EV} {Rf : Int → TR} {W : Int → Int → Int → VW} {f : Int → Int → Int → Int} (e : enuX h E Rf W f) (l0 : E.2.2.1 = 0) (g : ∀ a s, ((a = 200 ∧ s = 7) ∨ (0 < a ∧ a < 200) ∨ (201 ≤ a ∧ a ≤ 268) ∨ 1078 ≤ a ∨ (a = 269 ∧ s < 0)) → h' a s = h a s) : enuX h' E Rf W f := by
  obtain ⟨e1, e2, e3, e4, e5, e6, e8, e7⟩ := e
  refine ⟨actX_fr e1 (fun a s q => by unfold actC at q; exact g a s (by omega)), e2, e3, e4, ?_, fun z => by omega, ⟨by rw [g _ _ (by omega)]; exact e8.1, by rw [g _ _ (by omega)]; exact e8.2⟩, e7⟩
  obtain ⟨N, c, o⟩ := e5
  refine ⟨N, capX_fr c (fun a a0 a1 => g _ _ (by omega)), fun a a0 a1 => ?_⟩
  obtain ⟨o1, o2⟩ := o a a0 a1
  rw [g 264 _ (by omega)]
  exact ⟨vwX_fr (fun a s q => g _ _ (by omega)) o1, o2⟩
/-- what working out terms without a law needs -/
def wkO (h : AH) (E : EV) (Rf : Int → TR) (W : Int → Int → Int → VW) (hl : Int → Int) : Prop := enuX h E Rf W (fun _ _ _ => 0) ∧ E.2.2.1 = 0 ∧ h 200 11 = -1 ∧ (∀ c, 0 ≤ c → c ≤ 2 → h 270 c = hl c ∧ 0 ≤ hl c ∧ hl c ≤ 15) ∧ -2147483648 ≤ h 200 10 ∧ h 200 10 < 2147483648
def bd10 (h : AH) : Prop := -2147483648 ≤ h 200 10 ∧ h 200 10 < 2147483648
theorem wkO_f {h h' : AH} {E : EV} {Rf : Int → TR} {W : Int → Int → Int → VW} {hl : Int → Int} (w : wkO h E Rf W hl) (b : bd10 h') (g : ∀ a s, ((a = 200 ∧ (s = 7 ∨ s = 11)) ∨ (0 < a ∧ a < 200) ∨ (201 ≤ a ∧ a ≤ 268) ∨ 1078 ≤ a ∨ (a = 269 ∧ s < 0) ∨ a = 270) → h' a s = h a s) : wkO h' E Rf W hl := ⟨enuX_l w.1 w.2.1 (fun a s y => g a s (by omega)), w.2.1, by rw [g _ _ (by omega)]; exact w.2.2.1, fun c c0 c1 => by rw [g _ _ (by omega)]; exact w.2.2.2.1 c c0 c1, b⟩
theorem evL_c {W : Int → Int → Int → VW} {p p' : Int → Int} {np N : Int} {R : TR} (c : cgT np N R) (hp : ∀ c, 0 ≤ c → c < np → p c = p' c) : evL W R p = evL W R p' := evL_eq c hp
def frG (h h' : AH) : Prop := ∀ a s, ¬ (a = 200 ∧ (s = 9 ∨ s = 10 ∨ (45 ≤ s ∧ s ≤ 48))) → ¬ ((a = 269 ∨ (404 ≤ a ∧ a ≤ 407)) ∧ 0 ≤ s) → ¬ ((a = 389 ∨ a = 390 ∨ a = 402 ∨ a = 403) ∧ 0 ≤ s) → ¬ ((a = 378 ∨ a = 391) ∧ s = 10) → h' a s = h a s
theorem frG_r {h : AH} : frG h h := fun _ _ _ _ _ _ => rfl
theorem frG_t {h h1 h2 : AH} (a : frG h h1) (b : frG h1 h2) : frG h h2 := fun x s y1 y2 y3 y4 => (b x s y1 y2 y3 y4).trans (a x s y1 y2 y3 y4)
theorem frG_9 {h h' : AH} (f : f269 h h') : frG h h' := fun a s y1 y2 _ _ => f a s (by omega) (by omega)
/-- a loop as x keeps it -/
def loX (h : AH) (L : LE) : Prop := isX8 (h 200 39) ∧ h (h 200 39) 1 = L.1.1 ∧ h (h 200 39) 2 = L.2.1.1 ∧ (∀ k, 0 ≤ k → k < L.1.1 → h (h 200 39 + 1) k = L.1.2 k) ∧ (∀ k, 0 ≤ k → k < L.2.1.1 → h (h 200 39 + 2) k = L.2.1.2 k ∧ vwX h (h 200 39 + 5) 2200 (-1) 0 (L.2.2.1 k) (h (h 200 39 + 3) k) 0 ∧ vwX h (h 200 39 + 5) 2200 (-1) 0 (L.2.2.2.2.1 k) (h (h 200 39 + 4) k) 0) ∧ vwX h (h 200 39 + 5) 2200 (-1) 0 L.2.2.2.1 (h (h 200 39) 6) 0 ∧ vwX h (h 200 39 + 5) 2200 (-1) 0 L.2.2.2.2.2 (h (h 200 39) 7) 0 ∧ capX h (h 200 39 + 5) 2200
theorem loX_f {h h' : AH} {L : LE} (c : loX h L) (g : frG h h') : loX h' L := by
  obtain ⟨c1, c2, c3, c4, c5, c6, c7, c8⟩ := c
  have x : h 200 39 = 378 ∨ h 200 39 = 391 := c1
  have e : h' 200 39 = h 200 39 := g _ _ (by omega) (by omega) (by omega) (by omega)
  have vf : ∀ {R : TR} {d : Int}, vwX h (h 200 39 + 5) 2200 (-1) 0 R d 0 → vwX h' (h 200 39 + 5) 2200 (-1) 0 R d 0 := fun v => vwX_fr (fun a s q => g a s (by omega) (by omega) (by omega) (by omega)) v
  unfold loX
  rw [e, g (h 200 39) 1 (by omega) (by omega) (by omega) (by omega), g (h 200 39) 2 (by omega) (by omega) (by omega) (by omega), g (h 200 39) 6 (by omega) (by omega) (by omega) (by omega), g (h 200 39) 7 (by omega) (by omega) (by omega) (by omega)]
  refine ⟨c1, c2, c3, fun k k0 k1 => by rw [g _ _ (by omega) (by omega) (by omega) (by omega)]; exact c4 k k0 k1, fun k k0 k1 => ?_, vf c6, vf c7, capX_fr c8 (fun a a0 a1 => g _ _ (by omega) (by omega) (by omega) (by omega))⟩
  rw [g (h 200 39 + 2) k (by omega) (by omega) (by omega) (by omega), g (h 200 39 + 3) k (by omega) (by omega) (by omega) (by omega), g (h 200 39 + 4) k (by omega) (by omega) (by omega) (by omega)]
  have q := c5 k k0 k1
  exact ⟨q.1, vf q.2.1, vf q.2.2⟩
def klX (h : AH) : Prop := (h 406 (-2) = 101 ∧ h 406 (-1) = 3) ∧ (h 407 (-2) = 101 ∧ h 407 (-1) = 3) ∧ h (h 200 39 + 11) (-2) = 101 ∧ h (h 200 39 + 11) (-1) = 3
/-- what runs rest upon -/
def rnX (h : AH) (E : EV) (Rf : Int → TR) (W : Int → Int → Int → VW) (hl : Int → Int) (L : LE) : Prop := wkO h E Rf W hl ∧ loX h L ∧ klX h ∧ vLE E L
theorem rnX_f {h h' : AH} {E : EV} {Rf : Int → TR} {W : Int → Int → Int → VW} {hl : Int → Int} {L : LE} (r : rnX h E Rf W hl L) (b : bd10 h') (g : frG h h') : rnX h' E Rf W hl L := by
  obtain ⟨r1, r2, r3, r4⟩ := r
  have x : h 200 39 = 378 ∨ h 200 39 = 391 := r2.1
  have e : h' 200 39 = h 200 39 := g _ _ (by omega) (by omega) (by omega) (by omega)
  refine ⟨wkO_f r1 b (fun a s y => g a s (by omega) (by omega) (by omega) (by omega)), loX_f r2 g, ?_, r4⟩
  obtain ⟨k1, k2, k3⟩ := r3
  unfold klX
  rw [e, g 406 _ (by omega) (by omega) (by omega) (by omega), g 406 _ (by omega) (by omega) (by omega) (by omega), g 407 _ (by omega) (by omega) (by omega) (by omega), g 407 _ (by omega) (by omega) (by omega) (by omega), g (h 200 39 + 11) _ (by omega) (by omega) (by omega) (by omega), g (h 200 39 + 11) _ (by omega) (by omega) (by omega) (by omega)]
  exact ⟨k1, k2, k3⟩
theorem rnX_x {h : AH} {E : EV} {Rf : Int → TR} {W : Int → Int → Int → VW} {hl : Int → Int} {L : LE} (r : rnX h E Rf W hl L) : h 200 39 = 378 ∨ h 200 39 = 391 := r.2.1.1
theorem rnX_a {h : AH} {E : EV} {Rf : Int → TR} {W : Int → Int → Int → VW} {hl : Int → Int} {L : LE} (r : rnX h E Rf W hl L) : acE E ∧ wTy E W := ⟨r.1.1.2.1, wOK_ty r.1.1.2.2.1⟩
theorem vX1_workLoop_l3 (i1 : Int) (i2 : Int) (i3 : Int) (a40 : Int) {h0 : AH} (ha : h0 i2 (-2) = 101 ∧ i3 ≤ h0 i2 (-1) ∧ i2 ≠ 269 ∧ 0 ≤ i3 ∧ i3 ≤ 3) (h4 : a40 = 0) : OK (gX1_workLoop_l3 i1 i2 i3 a40 h0) (fun h' => (∀ k, 0 ≤ k → k < i3 → h' 269 k = h0 i2 k) ∧ (∀ a s, ¬ (a = 269 ∧ 0 ≤ s) → h' a s = h0 a s)) := by
  unfold gX1_workLoop_l3
  refine OK_jit (I := (fun (s : Int × AH) => jt2 s fun a4 h => (0 ≤ a4 ∧ a4 ≤ i3) ∧ (∀ k, 0 ≤ k → k < a4 → h 269 k = h0 i2 k) ∧ (∀ a s, ¬ (a = 269 ∧ 0 ≤ s) → h a s = h0 a s))) (m := (fun (s : Int × AH) => jt2 s fun a4 h => (i3 - a4).toNat)) ?_ ?_
  · intro s hs
    obtain ⟨a4, h⟩ := s
    dsimp only [Sum.elim_inl, Sum.elim_inr, jt2, jt3, jt4, jt5, jt6, jt7, jt8] at hs
    obtain ⟨q0, q1, fr⟩ := hs
    unfold gX1_workLoop_b3
    refine OK_jt2 ?_
    have G1 : h i2 (-2) = 101 := by rw [fr _ _ (by omega)]; exact ha.1
    have G2 : h i2 (-1) = h0 i2 (-1) := fr _ _ (by omega)
    refine OK_if (fun c1 => ?_) (fun c1 => ?_)
    · skip
      try simp (disch := omega) only [jst_eq, jst_ne, jst_ni, jI_i, jcmp_lt, jcmp_gt, w32_id, jcpy_out, Sum.elim_inl, Sum.elim_inr, jt2, jt3, jt4, jt5, jt6, jt7, jt8] at c1
      refine OK_ir ?_
      try dsimp only [Sum.elim_inl, Sum.elim_inr, jt2, jt3, jt4, jt5, jt6, jt7, jt8]
      refine ⟨?_, ?_⟩
      · exact fun k k0 k1 => q1 k k0 (by omega) -- o1 e1.1
      · (first | assumption | omega | ((try dsimp only [jt2, jt3, jt4]); first | omega | (simp (disch := omega) only [jst_eq, jst_ne, jst_ni, jst_o, jI_i, jcpy_out, w32_id, jdiv_nn, jshr_k, jand_255] <;> first | done | omega | assumption)) | (intros; simp (disch := omega) only [jst_eq, jst_ne, jst_ni, jst_o, jI_i, jcpy_out, w32_id, jdiv_nn, *] <;> first | done | omega) | (intros; simp (disch := omega) only [jst_eq, jst_ne, jst_ni, jst_o, jI_i, jcpy_out, w32_id, jdiv_nn] at * <;> first | done | omega | assumption) | (intros; first | rfl | (exfalso; omega) | ((repeat' apply And.intro) <;> first | assumption | rfl | omega | trivial))) -- o2 e1.2
    · skip
      try simp (disch := omega) only [jst_eq, jst_ne, jst_ni, jI_i, jcmp_lt, jcmp_gt, w32_id, jcpy_out, Sum.elim_inl, Sum.elim_inr, jt2, jt3, jt4, jt5, jt6, jt7, jt8] at c1
      rw [fr i2 a4 (by omega)]
      refine OK_jg (by (first | assumption | omega | ((try dsimp only [jt2, jt3, jt4]); first | omega | (simp (disch := omega) only [jst_eq, jst_ne, jst_ni, jst_o, jI_i, jcpy_out, w32_id, jdiv_nn, jshr_k, jand_255] <;> first | done | omega | assumption)) | (intros; simp (disch := omega) only [jst_eq, jst_ne, jst_ni, jst_o, jI_i, jcpy_out, w32_id, jdiv_nn, *] <;> first | done | omega) | (intros; simp (disch := omega) only [jst_eq, jst_ne, jst_ni, jst_o, jI_i, jcpy_out, w32_id, jdiv_nn] at * <;> first | done | omega | assumption) | (intros; first | rfl | (exfalso; omega) | ((repeat' apply And.intro) <;> first | assumption | rfl | omega | trivial)))) ?_ -- o3
      refine OK_jg (by (first | assumption | omega | ((try dsimp only [jt2, jt3, jt4]); first | omega | (simp (disch := omega) only [jst_eq, jst_ne, jst_ni, jst_o, jI_i, jcpy_out, w32_id, jdiv_nn, jshr_k, jand_255] <;> first | done | omega | assumption)) | (intros; simp (disch := omega) only [jst_eq, jst_ne, jst_ni, jst_o, jI_i, jcpy_out, w32_id, jdiv_nn, *] <;> first | done | omega) | (intros; simp (disch := omega) only [jst_eq, jst_ne, jst_ni, jst_o, jI_i, jcpy_out, w32_id, jdiv_nn] at * <;> first | done | omega | assumption) | (intros; first | rfl | (exfalso; omega) | ((repeat' apply And.intro) <;> first | assumption | rfl | omega | trivial)))) ?_ -- o4
      refine OK_jl ?_
      refine OK_jlx (fun x10 ex10 => ?_)
      try simp (disch := omega) only [jst_eq, jst_ne, jst_ni, jI_i, jcmp_lt, jcmp_gt, w32_id, jcpy_out, Sum.elim_inl, Sum.elim_inr, jt2, jt3, jt4, jt5, jt6, jt7, jt8] at ex10
      refine OK_il ?_ ?_
      · try dsimp only [Sum.elim_inl, Sum.elim_inr, jt2, jt3, jt4, jt5, jt6, jt7, jt8]
        refine ⟨?_, ?_, ?_⟩
        · (first | assumption | omega | ((try dsimp only [jt2, jt3, jt4]); first | omega | (simp (disch := omega) only [jst_eq, jst_ne, jst_ni, jst_o, jI_i, jcpy_out, w32_id, jdiv_nn, jshr_k, jand_255] <;> first | done | omega | assumption)) | (intros; simp (disch := omega) only [jst_eq, jst_ne, jst_ni, jst_o, jI_i, jcpy_out, w32_id, jdiv_nn, *] <;> first | done | omega) | (intros; simp (disch := omega) only [jst_eq, jst_ne, jst_ni, jst_o, jI_i, jcpy_out, w32_id, jdiv_nn] at * <;> first | done | omega | assumption) | (intros; first | rfl | (exfalso; omega) | ((repeat' apply And.intro) <;> first | assumption | rfl | omega | trivial))) -- o5 e2i.1
        · (intro k k0 k1; by_cases y : k = a4; { rw [y, jst_eq] }; { rw [jst_ni y]; exact q1 k k0 (by omega) }) -- o6 e2i.2
        · exact fun a s y => by rw [jst_o (by omega)]; exact fr a s y -- o7 e2i.3
      · (first | assumption | omega | ((try dsimp only [jt2, jt3, jt4]); first | omega | (simp (disch := omega) only [jst_eq, jst_ne, jst_ni, jst_o, jI_i, jcpy_out, w32_id, jdiv_nn, jshr_k, jand_255] <;> first | done | omega | assumption)) | (intros; simp (disch := omega) only [jst_eq, jst_ne, jst_ni, jst_o, jI_i, jcpy_out, w32_id, jdiv_nn, *] <;> first | done | omega) | (intros; simp (disch := omega) only [jst_eq, jst_ne, jst_ni, jst_o, jI_i, jcpy_out, w32_id, jdiv_nn] at * <;> first | done | omega | assumption) | (intros; first | rfl | (exfalso; omega) | ((repeat' apply And.intro) <;> first | assumption | rfl | omega | trivial))) -- o8 e2m
  · try dsimp only [Sum.elim_inl, Sum.elim_inr, jt2, jt3, jt4, jt5, jt6, jt7, jt8]
    refine ⟨?_, ?_, ?_⟩
    · (first | assumption | omega | ((try dsimp only [jt2, jt3, jt4]); first | omega | (simp (disch := omega) only [jst_eq, jst_ne, jst_ni, jst_o, jI_i, jcpy_out, w32_id, jdiv_nn, jshr_k, jand_255] <;> first | done | omega | assumption)) | (intros; simp (disch := omega) only [jst_eq, jst_ne, jst_ni, jst_o, jI_i, jcpy_out, w32_id, jdiv_nn, *] <;> first | done | omega) | (intros; simp (disch := omega) only [jst_eq, jst_ne, jst_ni, jst_o, jI_i, jcpy_out, w32_id, jdiv_nn] at * <;> first | done | omega | assumption) | (intros; first | rfl | (exfalso; omega) | ((repeat' apply And.intro) <;> first | assumption | rfl | omega | trivial))) -- o9 init.1
    · (intro k k0 k1; omega) -- o10 init.2
    · exact fun _ _ _ => rfl -- o11 init.3
theorem vX1_workLoop (a1 : Int) (a2 : Int) (a3 : Int) {h : AH} {E : EV} {Rf : Int → TR} {W : Int → Int → Int → VW} {hl : Int → Int} {np k : Int} {kp : Int → Int} {R : TR} (w : wkO h E Rf W hl) (x8 : h 200 39 = 378 ∨ h 200 39 = 391) (t : vwX h (h 200 39 + 5) 2200 (-1) 0 R a1 0 ∧ capX h (h 200 39 + 5) 2200 ∧ tmW E np kp R k) (ar : h a2 (-2) = 101 ∧ a3 ≤ h a2 (-1) ∧ a2 ≠ 269 ∧ a3 = np ∧ 0 ≤ np ∧ np ≤ 3) (ty : ∀ c, 0 ≤ c → c < np → vlR (kp c) (h a2 c)) : OK (gX1_workLoop a1 a2 a3 h) (fun r => jt2 r fun v h' => (v = evL W R (h a2)) ∧ (f269 h h') ∧ (bd10 h')) := by
  unfold gX1_workLoop
  refine OK_jb (vX1_workLoop_l3 _ _ _ _ (by omega) (by rfl)) (fun o1 r1 => ?_)
  try dsimp only [Sum.elim_inl, Sum.elim_inr, jt2, jt3, jt4, jt5, jt6, jt7, jt8] at r1
  obtain ⟨q11, fr1⟩ := r1
  try simp (disch := omega) only [jst_eq, jst_ne, jst_ni, jI_i, jcmp_lt, jcmp_gt, w32_id, jcpy_out, Sum.elim_inl, Sum.elim_inr, jt2, jt3, jt4, jt5, jt6, jt7, jt8] at q11
  try simp (disch := omega) only [jst_eq, jst_ne, jst_ni, jI_i, jcmp_lt, jcmp_gt, w32_id, jcpy_out, Sum.elim_inl, Sum.elim_inr, jt2, jt3, jt4, jt5, jt6, jt7, jt8] at fr1
  have F1 : ∀ a s, ¬ (a = 269 ∧ 0 ≤ s) → o1 a s = h a s := by assumption
  have Q1 : ∀ k, 0 ≤ k → k < a3 → o1 269 k = h a2 k := by assumption
  refine OK_jl ?_
  have G3 : f269 h (jst o1 200 9 a3) := fun a s y1 y2 => by { rw [jst_o (by omega)]; exact F1 a s y2 }
  have C9 : jst o1 200 9 a3 200 9 = a3 := jst_eq
  have C26 : ∀ k, 0 ≤ k → k < a3 → jst o1 200 9 a3 269 k = h a2 k := fun k k0 k1 => by { rw [jst_ne (by decide)]; exact Q1 k k0 k1 }
  have B3 : bd10 (jst o1 200 9 a3) := by { unfold bd10; rw [jst_ni (by decide), F1 _ _ (by omega)]; exact w.2.2.2.2 }
  generalize e3 : jst o1 200 9 a3 = hq at *
  have W3 := wkO_f w B3 (fun a s y => G3 a s (by omega) (by omega))
  have E39 : hq 200 39 = h 200 39 := G3 _ _ (by omega) (by omega)
  rw [E39]
  refine OK_jb2 (vX1_work (E := E) (Rf := Rf) (W := W) (f := fun _ _ _ => 0) (N := 2200) (w := -1) (wv := 0) (np := np) (kp := kp) (p := h a2) (hl := hl) (R := R) _ _ _ (by exact ⟨W3.1, capX_fr t.2.1 (fun a a0 a1 => G3 _ _ (by omega) (by omega)), vwX_fr (fun a s q => G3 _ _ (by omega) (by omega)) t.1, t.2.2.1, W3.2.2.1, Or.inl rfl, by decide, by rw [C9]; omega, by rw [C9]; have := t.2.2.2.2.2; omega, by omega, fun c c0 c1 => ⟨by rw [Int.zero_add]; exact C26 c c0 (by omega), ty c c0 c1⟩, W3.2.2.2.1, W3.2.2.2.2⟩) (by (have := t.2.2.2.2.2; omega))) (fun v5 h6 r2 => ?_)
  try dsimp only [Sum.elim_inl, Sum.elim_inr, jt2, jt3, jt4, jt5, jt6, jt7, jt8] at r2
  obtain ⟨ev2, pe2⟩ := r2
  try simp (disch := omega) only [jst_eq, jst_ne, jst_ni, jI_i, jcmp_lt, jcmp_gt, w32_id, jcpy_out, Sum.elim_inl, Sum.elim_inr, jt2, jt3, jt4, jt5, jt6, jt7, jt8] at ev2
  try simp (disch := omega) only [jst_eq, jst_ne, jst_ni, jI_i, jcmp_lt, jcmp_gt, w32_id, jcpy_out, Sum.elim_inl, Sum.elim_inr, jt2, jt3, jt4, jt5, jt6, jt7, jt8] at pe2
  have wr := w32_r (hq 200 10 + (evT W (fun _ _ _ => 0) (h a2) hl R).2)
  have pe10 := pe2.1
  refine OK_jl ?_
  refine OK_some ?_
  try dsimp only [Sum.elim_inl, Sum.elim_inr, jt2, jt3, jt4, jt5, jt6, jt7, jt8]
  try dsimp only [Sum.elim_inl, Sum.elim_inr, jt2, jt3, jt4, jt5, jt6, jt7, jt8]
  refine ⟨?_, ?_, ?_⟩
  · (rw [ev2]; exact evL_eq t.2.2.2.2.1 (fun _ _ _ => rfl)) -- o5 e1.1
  · (intro a s y1 y2; rw [jst_o (by omega), pe2.2 a s (by omega) (by omega)]; exact G3 a s y1 y2) -- o6 e1.2
  · (unfold bd10; rw [jst_o (by omega), pe10]; exact wr) -- o7 e1.3
theorem vX1_stateNumber_l4 (a10 : Int) (a20 : Int) {h : AH} {E : EV} {L : LE} {s9 : Int → Int} (lo : loX h L) (v : vLE E L) (s : vlS L s9 ∧ ∀ k, 0 ≤ k → k < L.2.1.1 → h 406 k = s9 k) (h0 : a10 = 0 ∧ a20 = 0) : OK (gX1_stateNumber_l4 a10 a20 h) (fun v => v = nuS L s9 L.2.1.1.toNat) := by
  have n3 := v.2.1
  unfold gX1_stateNumber_l4
  refine OK_jit (I := (fun (s : Int × Int) => jt2 s fun a1 a2 => (0 ≤ a2 ∧ a2 ≤ L.2.1.1) ∧ (a1 = nuS L s9 a2.toNat))) (m := (fun (s : Int × Int) => jt2 s fun a1 a2 => (L.2.1.1 - a2).toNat)) ?_ ?_
  · intro s hs
    obtain ⟨a1, a2⟩ := s
    dsimp only [Sum.elim_inl, Sum.elim_inr, jt2, jt3, jt4, jt5, jt6, jt7, jt8] at hs
    obtain ⟨q0, q1⟩ := hs
    unfold gX1_stateNumber_b4
    refine OK_jt2 ?_
    have LM := lo.2.2.1
    refine OK_if (fun c1 => ?_) (fun c1 => ?_)
    · skip
      try simp (disch := omega) only [jst_eq, jst_ne, jst_ni, jI_i, jcmp_lt, jcmp_gt, w32_id, jcpy_out, Sum.elim_inl, Sum.elim_inr, jt2, jt3, jt4, jt5, jt6, jt7, jt8] at c1
      refine OK_ir ?_
      (rw [q1, show a2.toNat = L.2.1.1.toNat by omega]) -- o1 e1
    · skip
      try simp (disch := omega) only [jst_eq, jst_ne, jst_ni, jI_i, jcmp_lt, jcmp_gt, w32_id, jcpy_out, Sum.elim_inl, Sum.elim_inr, jt2, jt3, jt4, jt5, jt6, jt7, jt8] at c1
      have K2 := (lo.2.2.2.2.1 a2 q0.1 (by omega)).1
      have S2 := s.2 a2 q0.1 (by omega)
      have ea : ((a2.toNat : Nat) : Int) = a2 := by omega
      have NB := nuS_b v s.1 (a2.toNat + 1) (by omega)
      have NA := nuS_b v s.1 a2.toNat (by omega)
      have P3 : (16 : Int) ^ (a2.toNat + 1) ≤ 4096 := by { rcases (show a2.toNat = 0 ∨ a2.toNat = 1 ∨ a2.toNat = 2 by omega) with e | e | e <;> rw [e] <;> decide }
      have VS := s.1 a2 q0.1 (by omega)
      have VB := vl_bt (n3.2.2 a2 q0.1 (by omega)).1 (n3.2.2 a2 q0.1 (by omega)).2 VS
      rw [K2, S2]
      refine OK_jg (by (first | assumption | omega | ((try dsimp only [jt2, jt3, jt4]); first | omega | (simp (disch := omega) only [jst_eq, jst_ne, jst_ni, jst_o, jI_i, jcpy_out, w32_id, jdiv_nn, jshr_k, jand_255] <;> first | done | omega | assumption)) | (intros; simp (disch := omega) only [jst_eq, jst_ne, jst_ni, jst_o, jI_i, jcpy_out, w32_id, jdiv_nn, *] <;> first | done | omega) | (intros; simp (disch := omega) only [jst_eq, jst_ne, jst_ni, jst_o, jI_i, jcpy_out, w32_id, jdiv_nn] at * <;> first | done | omega | assumption) | (intros; first | rfl | (exfalso; omega) | ((repeat' apply And.intro) <;> first | assumption | rfl | omega | trivial)))) ?_ -- o2
      refine OK_jb (vX4_valuesOf _) (fun v5 r1 => ?_)
      try dsimp only [Sum.elim_inl, Sum.elim_inr, jt2, jt3, jt4, jt5, jt6, jt7, jt8] at r1
      have bv1 := r1
      clear r1
      try simp (disch := omega) only [jst_eq, jst_ne, jst_ni, jI_i, jcmp_lt, jcmp_gt, w32_id, jcpy_out, Sum.elim_inl, Sum.elim_inr, jt2, jt3, jt4, jt5, jt6, jt7, jt8] at bv1
      have V5 : v5 = bsK (L.2.1.2 a2) := by assumption
      have BR := bsK_c (L.2.1.2 a2)
      rw [nuS_s, ea] at NB
      have W1 : w32 (w32 (a1 * v5) + s9 a2) = nuS L s9 (a2.toNat + 1) := by { rw [nuS_s, ea, q1, V5]; rcases BR with e | e <;> rw [e] at NB ⊢ <;> rw [w32_id (x := nuS L s9 a2.toNat * _) (by omega) (by omega), w32_id (by omega) (by omega)] }
      rw [W1]
      refine OK_jlx (fun x6 ex6 => ?_)
      try simp (disch := omega) only [jst_eq, jst_ne, jst_ni, jI_i, jcmp_lt, jcmp_gt, w32_id, jcpy_out, Sum.elim_inl, Sum.elim_inr, jt2, jt3, jt4, jt5, jt6, jt7, jt8] at ex6
      refine OK_jlx (fun x7 ex7 => ?_)
      try simp (disch := omega) only [jst_eq, jst_ne, jst_ni, jI_i, jcmp_lt, jcmp_gt, w32_id, jcpy_out, Sum.elim_inl, Sum.elim_inr, jt2, jt3, jt4, jt5, jt6, jt7, jt8] at ex7
      refine OK_il ?_ ?_
      · try dsimp only [Sum.elim_inl, Sum.elim_inr, jt2, jt3, jt4, jt5, jt6, jt7, jt8]
        refine ⟨?_, ?_⟩
        · (first | assumption | omega | ((try dsimp only [jt2, jt3, jt4]); first | omega | (simp (disch := omega) only [jst_eq, jst_ne, jst_ni, jst_o, jI_i, jcpy_out, w32_id, jdiv_nn, jshr_k, jand_255] <;> first | done | omega | assumption)) | (intros; simp (disch := omega) only [jst_eq, jst_ne, jst_ni, jst_o, jI_i, jcpy_out, w32_id, jdiv_nn, *] <;> first | done | omega) | (intros; simp (disch := omega) only [jst_eq, jst_ne, jst_ni, jst_o, jI_i, jcpy_out, w32_id, jdiv_nn] at * <;> first | done | omega | assumption) | (intros; first | rfl | (exfalso; omega) | ((repeat' apply And.intro) <;> first | assumption | rfl | omega | trivial))) -- o3 e2i.1
        · (rw [ex6, show x7.toNat = a2.toNat + 1 by omega]) -- o4 e2i.2
      · (first | assumption | omega | ((try dsimp only [jt2, jt3, jt4]); first | omega | (simp (disch := omega) only [jst_eq, jst_ne, jst_ni, jst_o, jI_i, jcpy_out, w32_id, jdiv_nn, jshr_k, jand_255] <;> first | done | omega | assumption)) | (intros; simp (disch := omega) only [jst_eq, jst_ne, jst_ni, jst_o, jI_i, jcpy_out, w32_id, jdiv_nn, *] <;> first | done | omega) | (intros; simp (disch := omega) only [jst_eq, jst_ne, jst_ni, jst_o, jI_i, jcpy_out, w32_id, jdiv_nn] at * <;> first | done | omega | assumption) | (intros; first | rfl | (exfalso; omega) | ((repeat' apply And.intro) <;> first | assumption | rfl | omega | trivial))) -- o5 e2m
  · try dsimp only [Sum.elim_inl, Sum.elim_inr, jt2, jt3, jt4, jt5, jt6, jt7, jt8]
    refine ⟨?_, ?_⟩
    · omega -- o6 init.1
    · (rw [h0.1, h0.2]; rfl) -- o7 init.2
theorem vX1_stateNumber {h : AH} {E : EV} {L : LE} {s9 : Int → Int} (lo : loX h L) (v : vLE E L) (s : vlS L s9 ∧ ∀ k, 0 ≤ k → k < L.2.1.1 → h 406 k = s9 k) : OK (gX1_stateNumber h) (fun v => v = nuS L s9 L.2.1.1.toNat) := by
  unfold gX1_stateNumber
  refine OK_jb (vX1_stateNumber_l4 (E := E) (L := L) (s9 := s9) _ _ (by (first | assumption | omega | ((try dsimp only [jt2, jt3, jt4]); first | omega | (simp (disch := omega) only [jst_eq, jst_ne, jst_ni, jst_o, jI_i, jcpy_out, w32_id, jdiv_nn, jshr_k, jand_255] <;> first | done | omega | assumption)) | (intros; simp (disch := omega) only [jst_eq, jst_ne, jst_ni, jst_o, jI_i, jcpy_out, w32_id, jdiv_nn, *] <;> first | done | omega) | (intros; simp (disch := omega) only [jst_eq, jst_ne, jst_ni, jst_o, jI_i, jcpy_out, w32_id, jdiv_nn] at * <;> first | done | omega | assumption) | (intros; first | rfl | (exfalso; omega) | ((repeat' apply And.intro) <;> first | assumption | rfl | omega | trivial)))) (by (first | assumption | omega | ((try dsimp only [jt2, jt3, jt4]); first | omega | (simp (disch := omega) only [jst_eq, jst_ne, jst_ni, jst_o, jI_i, jcpy_out, w32_id, jdiv_nn, jshr_k, jand_255] <;> first | done | omega | assumption)) | (intros; simp (disch := omega) only [jst_eq, jst_ne, jst_ni, jst_o, jI_i, jcpy_out, w32_id, jdiv_nn, *] <;> first | done | omega) | (intros; simp (disch := omega) only [jst_eq, jst_ne, jst_ni, jst_o, jI_i, jcpy_out, w32_id, jdiv_nn] at * <;> first | done | omega | assumption) | (intros; first | rfl | (exfalso; omega) | ((repeat' apply And.intro) <;> first | assumption | rfl | omega | trivial)))) (by exact s) (by exact ⟨rfl, rfl⟩)) (fun o1 r1 => ?_)
  try dsimp only [Sum.elim_inl, Sum.elim_inr, jt2, jt3, jt4, jt5, jt6, jt7, jt8] at r1
  have nu1 := r1
  clear r1
  try simp (disch := omega) only [jst_eq, jst_ne, jst_ni, jI_i, jcmp_lt, jcmp_gt, w32_id, jcpy_out, Sum.elim_inl, Sum.elim_inr, jt2, jt3, jt4, jt5, jt6, jt7, jt8] at nu1
  refine OK_some ?_
  try dsimp only [Sum.elim_inl, Sum.elim_inr, jt2, jt3, jt4, jt5, jt6, jt7, jt8]
  (first | assumption | omega | ((try dsimp only [jt2, jt3, jt4]); first | omega | (simp (disch := omega) only [jst_eq, jst_ne, jst_ni, jst_o, jI_i, jcpy_out, w32_id, jdiv_nn, jshr_k, jand_255] <;> first | done | omega | assumption)) | (intros; simp (disch := omega) only [jst_eq, jst_ne, jst_ni, jst_o, jI_i, jcpy_out, w32_id, jdiv_nn, *] <;> first | done | omega) | (intros; simp (disch := omega) only [jst_eq, jst_ne, jst_ni, jst_o, jI_i, jcpy_out, w32_id, jdiv_nn] at * <;> first | done | omega | assumption) | (intros; first | rfl | (exfalso; omega) | ((repeat' apply And.intro) <;> first | assumption | rfl | omega | trivial))) -- o5 e1
theorem vX1_goThrough_l14 (i1 : Int) (i2 : Int) (i3 : Int) (a40 : Int) (a50 : Int) {h0 : AH} {E : EV} {L : LE} (lo : loX h0 L) (v : vLE E L) (hi : 0 ≤ i1 ∧ i1 ≤ 100000 ∧ a40 = i1 ∧ a50 = L.1.1 - 1) : OK (gX1_goThrough_l14 i1 i2 i3 a40 a50 h0) (fun h' => (∀ k, 0 ≤ k → k < L.1.1 → h' 407 k = inS L i1 k) ∧ (∀ a s, ¬ (a = 407 ∧ 0 ≤ s) → h' a s = h0 a s)) := by
  have n2 := v.1
  unfold gX1_goThrough_l14
  refine OK_jit (I := (fun (s : Int × Int × AH) => jt3 s fun a4 a5 h => (-1 ≤ a5 ∧ a5 ≤ L.1.1 - 1) ∧ (a4 = dvT L.1.2 L.1.1 i1 (L.1.1 - 1 - a5).toNat) ∧ (∀ k, a5 < k → k < L.1.1 → h 407 k = inS L i1 k) ∧ (∀ a s, ¬ (a = 407 ∧ 0 ≤ s) → h a s = h0 a s))) (m := (fun (s : Int × Int × AH) => jt3 s fun a4 a5 h => (a5 + 1).toNat)) ?_ ?_
  · intro s hs
    obtain ⟨a4, a5, h⟩ := s
    dsimp only [Sum.elim_inl, Sum.elim_inr, jt2, jt3, jt4, jt5, jt6, jt7, jt8] at hs
    obtain ⟨q0, q1, q2, fr⟩ := hs
    unfold gX1_goThrough_b14
    refine OK_jt3 ?_
    have LO : loX h L := loX_f lo (fun a s y1 y2 y3 y4 => fr a s (by omega))
    have LX : h 200 39 = 378 ∨ h 200 39 = 391 := LO.1
    refine OK_if (fun c1 => ?_) (fun c1 => ?_)
    · skip
      try simp (disch := omega) only [jst_eq, jst_ne, jst_ni, jI_i, jcmp_lt, jcmp_gt, w32_id, jcpy_out, Sum.elim_inl, Sum.elim_inr, jt2, jt3, jt4, jt5, jt6, jt7, jt8] at c1
      refine OK_ir ?_
      try dsimp only [Sum.elim_inl, Sum.elim_inr, jt2, jt3, jt4, jt5, jt6, jt7, jt8]
      refine ⟨?_, ?_⟩
      · exact fun k k0 k1 => q2 k (by omega) k1 -- o1 e1.1
      · (first | assumption | omega | ((try dsimp only [jt2, jt3, jt4]); first | omega | (simp (disch := omega) only [jst_eq, jst_ne, jst_ni, jst_o, jI_i, jcpy_out, w32_id, jdiv_nn, jshr_k, jand_255] <;> first | done | omega | assumption)) | (intros; simp (disch := omega) only [jst_eq, jst_ne, jst_ni, jst_o, jI_i, jcpy_out, w32_id, jdiv_nn, *] <;> first | done | omega) | (intros; simp (disch := omega) only [jst_eq, jst_ne, jst_ni, jst_o, jI_i, jcpy_out, w32_id, jdiv_nn] at * <;> first | done | omega | assumption) | (intros; first | rfl | (exfalso; omega) | ((repeat' apply And.intro) <;> first | assumption | rfl | omega | trivial))) -- o2 e1.2
    · skip
      try simp (disch := omega) only [jst_eq, jst_ne, jst_ni, jI_i, jcmp_lt, jcmp_gt, w32_id, jcpy_out, Sum.elim_inl, Sum.elim_inr, jt2, jt3, jt4, jt5, jt6, jt7, jt8] at c1
      have K5 := LO.2.2.2.1 a5 (by omega) (by omega)
      have DV := dvT_r (kf := L.1.2) (n := L.1.1) (p := i1) hi.1 (L.1.1 - 1 - a5).toNat
      have BR := bsK_c (L.1.2 a5)
      refine OK_jg (by first | omega | (unfold jI; omega)) ?_ -- o3
      refine OK_jb (vX4_valuesOf _) (fun v27 r1 => ?_)
      try dsimp only [Sum.elim_inl, Sum.elim_inr, jt2, jt3, jt4, jt5, jt6, jt7, jt8] at r1
      have bv1 := r1
      clear r1
      try simp (disch := omega) only [jst_eq, jst_ne, jst_ni, jI_i, jcmp_lt, jcmp_gt, w32_id, jcpy_out, Sum.elim_inl, Sum.elim_inr, jt2, jt3, jt4, jt5, jt6, jt7, jt8] at bv1
      have V27 : v27 = bsK (L.1.2 a5) := by { rw [← K5]; assumption }
      have JR : jrem a4 v27 = a4 % bsK (L.1.2 a5) := by { rw [V27]; exact jrem_nn (by omega) (by omega) (by omega) (by omega) }
      refine OK_jg (by first | omega | (unfold jI; omega)) ?_ -- o4
      refine OK_jl ?_
      rw [JR]
      have E39 : jst h 407 a5 (a4 % bsK (L.1.2 a5)) 200 39 = h 200 39 := jst_ne (by decide)
      have K6 : jst h 407 a5 (a4 % bsK (L.1.2 a5)) (h 200 39 + 1) a5 = L.1.2 a5 := by { rw [jst_ne (by omega)]; exact K5 }
      rw [E39, K6]
      refine OK_jb (vX4_valuesOf _) (fun v30 r2 => ?_)
      try dsimp only [Sum.elim_inl, Sum.elim_inr, jt2, jt3, jt4, jt5, jt6, jt7, jt8] at r2
      have bv2 := r2
      clear r2
      try simp (disch := omega) only [jst_eq, jst_ne, jst_ni, jI_i, jcmp_lt, jcmp_gt, w32_id, jcpy_out, Sum.elim_inl, Sum.elim_inr, jt2, jt3, jt4, jt5, jt6, jt7, jt8] at bv2
      have V30 : v30 = bsK (L.1.2 a5) := by assumption
      refine OK_jg (by first | omega | (unfold jI; omega)) ?_ -- o5
      refine OK_jlx (fun x31 ex31 => ?_)
      try simp (disch := omega) only [jst_eq, jst_ne, jst_ni, jI_i, jcmp_lt, jcmp_gt, w32_id, jcpy_out, Sum.elim_inl, Sum.elim_inr, jt2, jt3, jt4, jt5, jt6, jt7, jt8] at ex31
      have X31 : x31 = a4 / bsK (L.1.2 a5) := by { rw [ex31, V30]; exact jdiv_nn (by omega) (by omega) (by omega) (by omega) }
      refine OK_jlx (fun x32 ex32 => ?_)
      try simp (disch := omega) only [jst_eq, jst_ne, jst_ni, jI_i, jcmp_lt, jcmp_gt, w32_id, jcpy_out, Sum.elim_inl, Sum.elim_inr, jt2, jt3, jt4, jt5, jt6, jt7, jt8] at ex32
      refine OK_il ?_ ?_
      · try dsimp only [Sum.elim_inl, Sum.elim_inr, jt2, jt3, jt4, jt5, jt6, jt7, jt8]
        refine ⟨?_, ?_, ?_, ?_⟩
        · (first | assumption | omega | ((try dsimp only [jt2, jt3, jt4]); first | omega | (simp (disch := omega) only [jst_eq, jst_ne, jst_ni, jst_o, jI_i, jcpy_out, w32_id, jdiv_nn, jshr_k, jand_255] <;> first | done | omega | assumption)) | (intros; simp (disch := omega) only [jst_eq, jst_ne, jst_ni, jst_o, jI_i, jcpy_out, w32_id, jdiv_nn, *] <;> first | done | omega) | (intros; simp (disch := omega) only [jst_eq, jst_ne, jst_ni, jst_o, jI_i, jcpy_out, w32_id, jdiv_nn] at * <;> first | done | omega | assumption) | (intros; first | rfl | (exfalso; omega) | ((repeat' apply And.intro) <;> first | assumption | rfl | omega | trivial))) -- o6 e2i.1
        · (rw [X31, q1, show x32 = a5 - 1 by omega, show (L.1.1 - 1 - (a5 - 1)).toNat = (L.1.1 - 1 - a5).toNat + 1 by omega]; show _ = dvT L.1.2 L.1.1 i1 (L.1.1 - 1 - a5).toNat / bsK (L.1.2 (L.1.1 - 1 - (((L.1.1 - 1 - a5).toNat : Nat) : Int))); rw [show L.1.1 - 1 - (((L.1.1 - 1 - a5).toNat : Nat) : Int) = a5 by omega]) -- o7 e2i.2
        · (intro k k0 k1; by_cases y : k = a5; { rw [y, jst_eq, q1]; unfold inS vaT; rw [if_neg (by omega)] }; { rw [jst_ni y]; exact q2 k (by omega) k1 }) -- o8 e2i.3
        · exact fun a s y => by rw [jst_o (by omega)]; exact fr a s y -- o9 e2i.4
      · (first | assumption | omega | ((try dsimp only [jt2, jt3, jt4]); first | omega | (simp (disch := omega) only [jst_eq, jst_ne, jst_ni, jst_o, jI_i, jcpy_out, w32_id, jdiv_nn, jshr_k, jand_255] <;> first | done | omega | assumption)) | (intros; simp (disch := omega) only [jst_eq, jst_ne, jst_ni, jst_o, jI_i, jcpy_out, w32_id, jdiv_nn, *] <;> first | done | omega) | (intros; simp (disch := omega) only [jst_eq, jst_ne, jst_ni, jst_o, jI_i, jcpy_out, w32_id, jdiv_nn] at * <;> first | done | omega | assumption) | (intros; first | rfl | (exfalso; omega) | ((repeat' apply And.intro) <;> first | assumption | rfl | omega | trivial))) -- o10 e2m
  · try dsimp only [Sum.elim_inl, Sum.elim_inr, jt2, jt3, jt4, jt5, jt6, jt7, jt8]
    refine ⟨?_, ?_, ?_, ?_⟩
    · (first | assumption | omega | ((try dsimp only [jt2, jt3, jt4]); first | omega | (simp (disch := omega) only [jst_eq, jst_ne, jst_ni, jst_o, jI_i, jcpy_out, w32_id, jdiv_nn, jshr_k, jand_255] <;> first | done | omega | assumption)) | (intros; simp (disch := omega) only [jst_eq, jst_ne, jst_ni, jst_o, jI_i, jcpy_out, w32_id, jdiv_nn, *] <;> first | done | omega) | (intros; simp (disch := omega) only [jst_eq, jst_ne, jst_ni, jst_o, jI_i, jcpy_out, w32_id, jdiv_nn] at * <;> first | done | omega | assumption) | (intros; first | rfl | (exfalso; omega) | ((repeat' apply And.intro) <;> first | assumption | rfl | omega | trivial))) -- o11 init.1
    · (rw [hi.2.2.1, hi.2.2.2, show (L.1.1 - 1 - (L.1.1 - 1)).toNat = 0 by omega]; rfl) -- o12 init.2
    · (intro k k0 k1; omega) -- o13 init.3
    · exact fun _ _ _ => rfl -- o14 init.4
theorem vX1_goThrough_l92 (i1 : Int) (i2 : Int) (i3 : Int) (a50 : Int) (a60 : Int) {h0 : AH} {E : EV} {Rf : Int → TR} {W : Int → Int → Int → VW} {hl : Int → Int} {L : LE} (rn : rnX h0 E Rf W hl L) (hi : ∀ k, 0 ≤ k → k < L.1.1 → h0 407 k = inS L i1 k) (h5 : a50 = 1 ∧ a60 = 0) : OK (gX1_goThrough_l92 i1 i2 i3 a50 a60 h0) (fun r => jt2 r fun y h' => (∀ k, 0 ≤ k → k < L.2.1.1 → h' 406 k = st0 W L i1 k) ∧ ((y = 1 ∧ gdS L (st0 W L i1)) ∨ (y = 0 ∧ ¬ gdS L (st0 W L i1))) ∧ (∀ a s, ¬ (a = 200 ∧ (s = 9 ∨ s = 10)) → ¬ ((a = 269 ∨ a = 406) ∧ 0 ≤ s) → h' a s = h0 a s) ∧ (bd10 h')) := by
  have v := rn.2.2.2
  have n3 := v.2.1
  unfold gX1_goThrough_l92
  refine OK_jit (I := (fun (s : Int × Int × AH) => jt3 s fun a5 a6 h => (0 ≤ a6 ∧ a6 ≤ L.2.1.1) ∧ (∀ k, 0 ≤ k → k < a6 → h 406 k = st0 W L i1 k) ∧ ((a5 = 1 ∧ ∀ k, 0 ≤ k → k < a6 → st0 W L i1 k ≠ -1) ∨ (a5 = 0 ∧ ¬ gdS L (st0 W L i1))) ∧ (∀ a s, ¬ (a = 200 ∧ (s = 9 ∨ s = 10)) → ¬ ((a = 269 ∨ a = 406) ∧ 0 ≤ s) → h a s = h0 a s) ∧ (bd10 h))) (m := (fun (s : Int × Int × AH) => jt3 s fun a5 a6 h => (L.2.1.1 - a6).toNat)) ?_ ?_
  · intro s hs
    obtain ⟨a5, a6, h⟩ := s
    dsimp only [Sum.elim_inl, Sum.elim_inr, jt2, jt3, jt4, jt5, jt6, jt7, jt8] at hs
    obtain ⟨q0, q1, q2, fr, bb⟩ := hs
    unfold gX1_goThrough_b92
    refine OK_jt3 ?_
    have RN2 : rnX h E Rf W hl L := rnX_f rn bb (fun a s y1 y2 y3 y4 => fr a s (by omega) (by omega))
    have LX := rnX_x RN2
    have LO := RN2.2.1
    have LM := LO.2.2.1
    have LN := LO.2.1
    have KK := q1
    refine OK_if (fun c1 => ?_) (fun c1 => ?_)
    · skip
      try simp (disch := omega) only [jst_eq, jst_ne, jst_ni, jI_i, jcmp_lt, jcmp_gt, w32_id, jcpy_out, Sum.elim_inl, Sum.elim_inr, jt2, jt3, jt4, jt5, jt6, jt7, jt8] at c1
      refine OK_ir ?_
      try dsimp only [Sum.elim_inl, Sum.elim_inr, jt2, jt3, jt4, jt5, jt6, jt7, jt8]
      refine ⟨?_, ?_, ?_, ?_⟩
      · exact fun k k0 k1 => KK k k0 (by omega) -- o1 e1.1
      · (rcases q2 with z | z; { exact Or.inl ⟨z.1, fun k k0 k1 => z.2 k k0 (by omega)⟩ }; { exact Or.inr z }) -- o2 e1.2
      · (first | assumption | omega | ((try dsimp only [jt2, jt3, jt4]); first | omega | (simp (disch := omega) only [jst_eq, jst_ne, jst_ni, jst_o, jI_i, jcpy_out, w32_id, jdiv_nn, jshr_k, jand_255] <;> first | done | omega | assumption)) | (intros; simp (disch := omega) only [jst_eq, jst_ne, jst_ni, jst_o, jI_i, jcpy_out, w32_id, jdiv_nn, *] <;> first | done | omega) | (intros; simp (disch := omega) only [jst_eq, jst_ne, jst_ni, jst_o, jI_i, jcpy_out, w32_id, jdiv_nn] at * <;> first | done | omega | assumption) | (intros; first | rfl | (exfalso; omega) | ((repeat' apply And.intro) <;> first | assumption | rfl | omega | trivial))) -- o3 e1.3
      · (first | assumption | omega | ((try dsimp only [jt2, jt3, jt4]); first | omega | (simp (disch := omega) only [jst_eq, jst_ne, jst_ni, jst_o, jI_i, jcpy_out, w32_id, jdiv_nn, jshr_k, jand_255] <;> first | done | omega | assumption)) | (intros; simp (disch := omega) only [jst_eq, jst_ne, jst_ni, jst_o, jI_i, jcpy_out, w32_id, jdiv_nn, *] <;> first | done | omega) | (intros; simp (disch := omega) only [jst_eq, jst_ne, jst_ni, jst_o, jI_i, jcpy_out, w32_id, jdiv_nn] at * <;> first | done | omega | assumption) | (intros; first | rfl | (exfalso; omega) | ((repeat' apply And.intro) <;> first | assumption | rfl | omega | trivial))) -- o4 e1.4
    · skip
      try simp (disch := omega) only [jst_eq, jst_ne, jst_ni, jI_i, jcmp_lt, jcmp_gt, w32_id, jcpy_out, Sum.elim_inl, Sum.elim_inr, jt2, jt3, jt4, jt5, jt6, jt7, jt8] at c1
      have L6 := LO.2.2.2.2.1 a6 q0.1 (by omega)
      have T6 := (v.2.2.1 a6 q0.1 (by omega)).1
      have H7 : ∀ k, 0 ≤ k → k < L.1.1 → h 407 k = inS L i1 k := fun k k0 k1 => by { rw [fr _ _ (by omega) (by omega)]; exact hi k k0 k1 }
      refine OK_jg (by (first | assumption | omega | ((try dsimp only [jt2, jt3, jt4]); first | omega | (simp (disch := omega) only [jst_eq, jst_ne, jst_ni, jst_o, jI_i, jcpy_out, w32_id, jdiv_nn, jshr_k, jand_255] <;> first | done | omega | assumption)) | (intros; simp (disch := omega) only [jst_eq, jst_ne, jst_ni, jst_o, jI_i, jcpy_out, w32_id, jdiv_nn, *] <;> first | done | omega) | (intros; simp (disch := omega) only [jst_eq, jst_ne, jst_ni, jst_o, jI_i, jcpy_out, w32_id, jdiv_nn] at * <;> first | done | omega | assumption) | (intros; first | rfl | (exfalso; omega) | ((repeat' apply And.intro) <;> first | assumption | rfl | omega | trivial)))) ?_ -- o5
      refine OK_jb2 (vX1_workLoop (E := E) (Rf := Rf) (W := W) (hl := hl) (np := L.1.1) (kp := L.1.2) (R := L.2.2.1 a6) (k := L.2.1.2 a6) _ _ _ (by exact RN2.1) (by (first | assumption | omega | ((try dsimp only [jt2, jt3, jt4]); first | omega | (simp (disch := omega) only [jst_eq, jst_ne, jst_ni, jst_o, jI_i, jcpy_out, w32_id, jdiv_nn, jshr_k, jand_255] <;> first | done | omega | assumption)) | (intros; simp (disch := omega) only [jst_eq, jst_ne, jst_ni, jst_o, jI_i, jcpy_out, w32_id, jdiv_nn, *] <;> first | done | omega) | (intros; simp (disch := omega) only [jst_eq, jst_ne, jst_ni, jst_o, jI_i, jcpy_out, w32_id, jdiv_nn] at * <;> first | done | omega | assumption) | (intros; first | rfl | (exfalso; omega) | ((repeat' apply And.intro) <;> first | assumption | rfl | omega | trivial)))) (by exact ⟨L6.2.1, LO.2.2.2.2.2.2.2, T6⟩) (by (have k7 := RN2.2.2.1.2.1; have n2 := v.1; omega)) (by exact fun c c0 c1 => by rw [H7 c c0 c1]; exact inS_v v c c0 c1)) (fun v35 h36 r1 => ?_)
      try dsimp only [Sum.elim_inl, Sum.elim_inr, jt2, jt3, jt4, jt5, jt6, jt7, jt8] at r1
      obtain ⟨ev1, fs1, bs1⟩ := r1
      try simp (disch := omega) only [jst_eq, jst_ne, jst_ni, jI_i, jcmp_lt, jcmp_gt, w32_id, jcpy_out, Sum.elim_inl, Sum.elim_inr, jt2, jt3, jt4, jt5, jt6, jt7, jt8] at ev1
      try simp (disch := omega) only [jst_eq, jst_ne, jst_ni, jI_i, jcmp_lt, jcmp_gt, w32_id, jcpy_out, Sum.elim_inl, Sum.elim_inr, jt2, jt3, jt4, jt5, jt6, jt7, jt8] at fs1
      try simp (disch := omega) only [jst_eq, jst_ne, jst_ni, jI_i, jcmp_lt, jcmp_gt, w32_id, jcpy_out, Sum.elim_inl, Sum.elim_inr, jt2, jt3, jt4, jt5, jt6, jt7, jt8] at bs1
      have V35 : v35 = st0 W L i1 a6 := by { rw [ev1]; unfold st0; rw [if_pos ⟨q0.1, by omega⟩]; exact evL_c T6.2.2.1 H7 }
      refine OK_jl ?_
      have F37 : ∀ a s, ¬ (a = 200 ∧ (s = 9 ∨ s = 10)) → ¬ ((a = 269 ∨ a = 406) ∧ 0 ≤ s) → jst h36 406 a6 v35 a s = h0 a s := fun a s y1 y2 => by { rw [jst_o (by omega), fs1 a s (by omega) (by omega)]; exact fr a s y1 y2 }
      have Q37 : ∀ k, 0 ≤ k → k < a6 + 1 → jst h36 406 a6 v35 406 k = st0 W L i1 k := fun k k0 k1 => by { by_cases y : k = a6; { rw [y, jst_eq]; exact V35 }; { rw [jst_ni y, fs1 _ _ (by omega) (by omega)]; exact KK k k0 (by omega) } }
      have B37 : bd10 (jst h36 406 a6 v35) := by { unfold bd10; rw [jst_ne (by decide)]; exact bs1 }
      have E37 : jst h36 406 a6 v35 406 a6 = v35 := jst_eq
      rw [E37]
      generalize jst h36 406 a6 v35 = h9 at *
      refine OK_if (fun c2 => ?_) (fun c2 => ?_)
      · skip
        try simp (disch := omega) only [jst_eq, jst_ne, jst_ni, jI_i, jcmp_lt, jcmp_gt, w32_id, jcpy_out, Sum.elim_inl, Sum.elim_inr, jt2, jt3, jt4, jt5, jt6, jt7, jt8] at c2
        have J0 : jand a5 0 = 0 := by { rcases q2 with z | z <;> rw [z.1] <;> decide }
        unfold gX1_goThrough_j154_92
        refine OK_jlx (fun x39 ex39 => ?_)
        try simp (disch := omega) only [jst_eq, jst_ne, jst_ni, jI_i, jcmp_lt, jcmp_gt, w32_id, jcpy_out, Sum.elim_inl, Sum.elim_inr, jt2, jt3, jt4, jt5, jt6, jt7, jt8] at ex39
        try rw [J0] at ex39
        try rw [J1] at ex39
        refine OK_jlx (fun x40 ex40 => ?_)
        try simp (disch := omega) only [jst_eq, jst_ne, jst_ni, jI_i, jcmp_lt, jcmp_gt, w32_id, jcpy_out, Sum.elim_inl, Sum.elim_inr, jt2, jt3, jt4, jt5, jt6, jt7, jt8] at ex40
        refine OK_il ?_ ?_
        · try dsimp only [Sum.elim_inl, Sum.elim_inr, jt2, jt3, jt4, jt5, jt6, jt7, jt8]
          refine ⟨?_, ?_, ?_, ?_, ?_⟩
          · (first | assumption | omega | ((try dsimp only [jt2, jt3, jt4]); first | omega | (simp (disch := omega) only [jst_eq, jst_ne, jst_ni, jst_o, jI_i, jcpy_out, w32_id, jdiv_nn, jshr_k, jand_255] <;> first | done | omega | assumption)) | (intros; simp (disch := omega) only [jst_eq, jst_ne, jst_ni, jst_o, jI_i, jcpy_out, w32_id, jdiv_nn, *] <;> first | done | omega) | (intros; simp (disch := omega) only [jst_eq, jst_ne, jst_ni, jst_o, jI_i, jcpy_out, w32_id, jdiv_nn] at * <;> first | done | omega | assumption) | (intros; first | rfl | (exfalso; omega) | ((repeat' apply And.intro) <;> first | assumption | rfl | omega | trivial))) -- o11 e2i.1
          · (rw [show x40 = a6 + 1 by omega]; exact Q37) -- o12 e2i.2
          · (right; exact ⟨by omega, fun z => z a6 q0.1 (by omega) (by omega)⟩) -- o13 e2i.3
          · exact F37 -- o14 e2i.4
          · exact B37 -- o15 e2i.5
        · (first | assumption | omega | ((try dsimp only [jt2, jt3, jt4]); first | omega | (simp (disch := omega) only [jst_eq, jst_ne, jst_ni, jst_o, jI_i, jcpy_out, w32_id, jdiv_nn, jshr_k, jand_255] <;> first | done | omega | assumption)) | (intros; simp (disch := omega) only [jst_eq, jst_ne, jst_ni, jst_o, jI_i, jcpy_out, w32_id, jdiv_nn, *] <;> first | done | omega) | (intros; simp (disch := omega) only [jst_eq, jst_ne, jst_ni, jst_o, jI_i, jcpy_out, w32_id, jdiv_nn] at * <;> first | done | omega | assumption) | (intros; first | rfl | (exfalso; omega) | ((repeat' apply And.intro) <;> first | assumption | rfl | omega | trivial))) -- o16 e2m
      · skip
        try simp (disch := omega) only [jst_eq, jst_ne, jst_ni, jI_i, jcmp_lt, jcmp_gt, w32_id, jcpy_out, Sum.elim_inl, Sum.elim_inr, jt2, jt3, jt4, jt5, jt6, jt7, jt8] at c2
        have J1 : jand a5 1 = a5 := by { rcases q2 with z | z <;> rw [z.1] <;> decide }
        unfold gX1_goThrough_j154_92
        refine OK_jlx (fun x39 ex39 => ?_)
        try simp (disch := omega) only [jst_eq, jst_ne, jst_ni, jI_i, jcmp_lt, jcmp_gt, w32_id, jcpy_out, Sum.elim_inl, Sum.elim_inr, jt2, jt3, jt4, jt5, jt6, jt7, jt8] at ex39
        try rw [J0] at ex39
        try rw [J1] at ex39
        refine OK_jlx (fun x40 ex40 => ?_)
        try simp (disch := omega) only [jst_eq, jst_ne, jst_ni, jI_i, jcmp_lt, jcmp_gt, w32_id, jcpy_out, Sum.elim_inl, Sum.elim_inr, jt2, jt3, jt4, jt5, jt6, jt7, jt8] at ex40
        refine OK_il ?_ ?_
        · try dsimp only [Sum.elim_inl, Sum.elim_inr, jt2, jt3, jt4, jt5, jt6, jt7, jt8]
          refine ⟨?_, ?_, ?_, ?_, ?_⟩
          · (first | assumption | omega | ((try dsimp only [jt2, jt3, jt4]); first | omega | (simp (disch := omega) only [jst_eq, jst_ne, jst_ni, jst_o, jI_i, jcpy_out, w32_id, jdiv_nn, jshr_k, jand_255] <;> first | done | omega | assumption)) | (intros; simp (disch := omega) only [jst_eq, jst_ne, jst_ni, jst_o, jI_i, jcpy_out, w32_id, jdiv_nn, *] <;> first | done | omega) | (intros; simp (disch := omega) only [jst_eq, jst_ne, jst_ni, jst_o, jI_i, jcpy_out, w32_id, jdiv_nn] at * <;> first | done | omega | assumption) | (intros; first | rfl | (exfalso; omega) | ((repeat' apply And.intro) <;> first | assumption | rfl | omega | trivial))) -- o17 e3i.1
          · (rw [show x40 = a6 + 1 by omega]; exact Q37) -- o18 e3i.2
          · (rcases q2 with z | z; { left; refine ⟨by omega, fun k k0 k1 => ?_⟩; by_cases y : k = a6; { rw [y]; omega }; { exact z.2 k k0 (by omega) } }; { exact Or.inr ⟨by omega, z.2⟩ }) -- o19 e3i.3
          · exact F37 -- o20 e3i.4
          · exact B37 -- o21 e3i.5
        · (first | assumption | omega | ((try dsimp only [jt2, jt3, jt4]); first | omega | (simp (disch := omega) only [jst_eq, jst_ne, jst_ni, jst_o, jI_i, jcpy_out, w32_id, jdiv_nn, jshr_k, jand_255] <;> first | done | omega | assumption)) | (intros; simp (disch := omega) only [jst_eq, jst_ne, jst_ni, jst_o, jI_i, jcpy_out, w32_id, jdiv_nn, *] <;> first | done | omega) | (intros; simp (disch := omega) only [jst_eq, jst_ne, jst_ni, jst_o, jI_i, jcpy_out, w32_id, jdiv_nn] at * <;> first | done | omega | assumption) | (intros; first | rfl | (exfalso; omega) | ((repeat' apply And.intro) <;> first | assumption | rfl | omega | trivial))) -- o22 e3m
  · try dsimp only [Sum.elim_inl, Sum.elim_inr, jt2, jt3, jt4, jt5, jt6, jt7, jt8]
    refine ⟨?_, ?_, ?_, ?_, ?_⟩
    · (first | assumption | omega | ((try dsimp only [jt2, jt3, jt4]); first | omega | (simp (disch := omega) only [jst_eq, jst_ne, jst_ni, jst_o, jI_i, jcpy_out, w32_id, jdiv_nn, jshr_k, jand_255] <;> first | done | omega | assumption)) | (intros; simp (disch := omega) only [jst_eq, jst_ne, jst_ni, jst_o, jI_i, jcpy_out, w32_id, jdiv_nn, *] <;> first | done | omega) | (intros; simp (disch := omega) only [jst_eq, jst_ne, jst_ni, jst_o, jI_i, jcpy_out, w32_id, jdiv_nn] at * <;> first | done | omega | assumption) | (intros; first | rfl | (exfalso; omega) | ((repeat' apply And.intro) <;> first | assumption | rfl | omega | trivial))) -- o23 init.1
    · (intro k k0 k1; omega) -- o24 init.2
    · (left; exact ⟨h5.1, fun k k0 k1 => by omega⟩) -- o25 init.3
    · exact fun _ _ _ _ => rfl -- o26 init.4
    · exact rn.1.2.2.2.2 -- o27 init.5

