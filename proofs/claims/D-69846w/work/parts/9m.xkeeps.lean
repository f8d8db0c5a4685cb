/-! x: a term is kept by a loop -/
/-- acts with parameters told by kinds -/
def EPn (E : EV) (m : Int) (kf : Int → Int) : EV := (E.1, (m, (fun k => k + 1), kf), E.2.2)
theorem rdd_okP {B : Int → Int} {n m : Int} {E : EV} {kf : Int → Int} {t : TR} {w : Int} (ac : acE E) (l0 : E.2.2.1 = 0) (ew : ∀ a, 26 ≤ a → 0 ≤ E.1.2.2.2.1 a) (hB : ∀ i, 0 ≤ i → i < n → 0 ≤ B i ∧ B i < 256) (hn : n ≤ 2000) (m0 : 0 ≤ m) (kl : ∀ k, 0 ≤ k → k < m → 0 ≤ kf k ∧ kf k ≤ 2) (r : rdd B n t) (k : keyE (EPn E m kf) w t = 1000000) : (∀ kd, kd = kdE (EPn E m kf) t → tmW E m kf (rsE (EPn E m kf) t 0) kd ∧ 0 ≤ kd ∧ kd ≤ 2) ∧ (w ≠ -1 → kdE (EPn E m kf) t = w) ∧ gT t ∧ wpT t ∧ fkE (EPn E m kf) t 0 0 = 1000000 ∧ nhT (rsE (EPn E m kf) t 0) ∧ hlT t = 0 := by
  obtain ⟨u, v, u0, un, u5, e⟩ := r
  have pa : paE (EPn E m kf) := ⟨m0, kl⟩
  have ac2 : acE (EPn E m kf) := ac
  obtain ⟨t1, t2, t3, t4, t5, t6⟩ := told_ok (E := EPn E m kf) (W := w) ac2 pa ew hB hn u0 un u5 e k
  have wp := pT_wp hB 13 u t v u0 un u5 e
  have h0 := pT_h0 13 u t v e
  have nh : nhT (rsE (EPn E m kf) t 0) := nhT_rs 0 h0 t4
  have ty : tyT E m kf (rsE (EPn E m kf) t 0) 0 := tyT_E (E := E) (E' := EPn E m kf) rfl rfl t1
  refine ⟨fun kd ek => ?_, t5, t4, wp.1, t6, nh, h0⟩
  have ei := inf_rs (EPn E m kf) t 0
  have tk : 0 ≤ (inf (rsE (EPn E m kf) t 0)).2.2.1 ∧ (inf (rsE (EPn E m kf) t 0)).2.2.1 ≤ 2 := ⟨(tyT_nd ty).1, (tyT_nd ty).2.1⟩
  refine ⟨⟨ty, by rw [ei, ek], ty_cg (by rw [l0]; decide) ty nh, by have : dpE E.1.2.2.2.1 (rsE (EPn E m kf) t 0) ≤ 40 := t2; omega⟩, ?_⟩
  rw [ek, ← ei]; exact tk
theorem pA_rdd {B : Int → Int} {n : Int} {t : TR} (n0 : 0 ≤ n) (h : pA B n false (beg B n) = .inr t) : rdd B n t := by
  obtain ⟨q, q1, e1, e2, _⟩ := pA_inr h
  obtain ⟨z, o⟩ := beg_r e1
  exact ⟨q, q1, by omega, by omega, o, e2⟩
theorem pA_sz0 {B : Int → Int} {n : Int} {t : TR} (hB : ∀ i, 0 ≤ i → i < n → 0 ≤ B i ∧ B i < 256) (n12 : 0 ≤ n ∧ n ≤ 2000) (h : pA B n false (beg B n) = .inr t) : sz t ≤ n := by
  obtain ⟨q, q1, e1, e2, _⟩ := pA_inr h
  obtain ⟨z, o⟩ := beg_r e1
  have a := pT_sz hB 13 q t q1 (by omega) (by omega) o e2
  have b := (pT_wp hB 13 q t q1 (by omega) (by omega) o e2).2.2.2.1
  omega
/-- what 'keeps' answers: th tells whether a loop is there -/
def outKp (EP : EV) (th : Prop) (W : Int → Int → Int → VW) (L : LE) (P : Int ⊕ TR) (p0 v p1 : Int) : Prop := match P with
  | .inl z => v = -11 ∧ p1 = z
  | .inr t => (keyE EP 1 t = 1000000 → p1 = p0 ∧ (¬ th → v = -2) ∧ (th → KPr W L (rsE EP t 0) v)) ∧ (keyE EP 1 t ≠ 1000000 → v = -10 - keyE EP 1 t % 8 ∧ p1 = keyE EP 1 t / 8)
def frKp (h h' : AH) : Prop := ∀ b s, ¬ (b = 200 ∧ (s = 9 ∨ s = 10 ∨ (45 ≤ s ∧ s ≤ 48) ∨ s = 55 ∨ s = 56)) → ¬ ((b = 269 ∨ (404 ≤ b ∧ b ≤ 407)) ∧ 0 ≤ s) → ¬ ((b = 389 ∨ b = 390 ∨ b = 402 ∨ b = 403) ∧ 0 ≤ s) → ¬ ((b = 378 ∨ b = 391) ∧ s = 10) → ¬ (b = 324 ∧ s = 0) → ¬ (325 ≤ b ∧ b ≤ 329 ∧ 0 ≤ s) → ¬ (b = 441 ∧ 0 ≤ s ∧ s ≤ 18) → ¬ ((b = 442 ∨ b = 444) ∧ 0 ≤ s ∧ s < 3) → ¬ (b = 445 ∧ 0 ≤ s) → h' b s = h b s
theorem lpX_f {h h' : AH} {E : EV} {Rf : Int → TR} {W : Int → Int → Int → VW} {hl : Int → Int} {L : LE} {H : List (Int → Int)} (hx : h 200 39 = 378 ∨ h 200 39 = 391) (l : lpX h E Rf W hl L H) (b : bd10 h') (f : frG h h') (s : ∀ a s, (a = 405 ∨ (a = h 200 39 ∧ s = 10) ∨ a = h 200 39 + 11 ∨ a = h 200 39 + 12) → h' a s = h a s) : lpX h' E Rf W hl L H := by
  obtain ⟨l1, l2, l3, l4⟩ := l
  have e39 : h' 200 39 = h 200 39 := f _ _ (by omega) (by omega) (by omega) (by omega)
  refine ⟨rnX_f l1 b f, l2, ?_, ?_⟩
  · obtain ⟨s1, s2, s3, s4⟩ := l3
    refine ⟨fun y m => by rw [s 405 _ (Or.inl rfl)]; exact s1 y m, fun p p0 p1 => by rw [s 405 _ (Or.inl rfl)]; exact s2 p p0 p1, by rw [e39, s _ _ (Or.inr (Or.inl ⟨rfl, rfl⟩))]; exact s3, fun k k0 k1 => by rw [e39, s _ _ (Or.inr (Or.inr (Or.inl rfl))), s _ _ (Or.inr (Or.inr (Or.inr rfl)))]; exact s4 k k0 k1⟩
  · unfold kl2 at l4 ⊢
    rw [e39, s _ _ (Or.inr (Or.inr (Or.inr rfl))), s _ _ (Or.inr (Or.inr (Or.inr rfl))), f 404 (-2) (by omega) (by omega) (by omega) (by omega), f 404 (-1) (by omega) (by omega) (by omega) (by omega), s _ _ (Or.inl rfl), s _ _ (Or.inl rfl)]
    exact l4
theorem frG_nw {h h' : AH} (g : ∀ b s, ¬ (b = 200 ∧ (s = 55 ∨ s = 56)) → ¬ (b = 324 ∧ s = 0) → ¬ (325 ≤ b ∧ b ≤ 329 ∧ 0 ≤ s) → ¬ (b = 441 ∧ 0 ≤ s ∧ s ≤ 18) → ¬ ((b = 442 ∨ b = 444) ∧ 0 ≤ s ∧ s < 3) → ¬ (b = 445 ∧ 0 ≤ s) → h' b s = h b s) {E : EV} {Rf : Int → TR} {W : Int → Int → Int → VW} {hl : Int → Int} {L : LE} {H : List (Int → Int)} (hx : h 200 39 = 378 ∨ h 200 39 = 391) (l : lpX h E Rf W hl L H) : lpX h' E Rf W hl L H := by
  obtain ⟨l1, l2, l3, l4⟩ := l
  have G : ∀ b s, (200 ≤ b → b ≤ 200 → s ≠ 55 ∧ s ≠ 56) → (b < 324 ∨ 329 < b) → (b < 441 ∨ 445 < b ∨ s < 0) → h' b s = h b s := fun b s y1 y2 y3 => g b s (by omega) (by omega) (by omega) (by omega) (by omega) (by omega)
  have e39 : h' 200 39 = h 200 39 := G _ _ (by omega) (by omega) (by omega)
  obtain ⟨r1, r2, r3, r4⟩ := l1
  have r1' : wkO h' E Rf W hl := wkO_f r1 (by unfold bd10; rw [G _ _ (by omega) (by omega) (by omega)]; exact r1.2.2.2.2) (fun a s y => G a s (by omega) (by omega) (by omega))
  obtain ⟨q1, q2, q3, q4, q5, q6, q7, q8⟩ := r2
  have q1' : h 200 39 = 378 ∨ h 200 39 = 391 := hx
  have vx : ∀ {R : TR} {d : Int}, vwX h (h 200 39 + 5) 2200 (-1) 0 R d 0 → vwX h' (h 200 39 + 5) 2200 (-1) 0 R d 0 := fun {R d} m => vwX_fr (h := h) (fun b s y => G b s (by omega) (by omega) (by omega)) m
  refine ⟨⟨r1', ⟨by rw [e39]; exact q1, by rw [e39, G _ _ (by omega) (by omega) (by omega)]; exact q2, by rw [e39, G _ _ (by omega) (by omega) (by omega)]; exact q3, fun k k0 k1 => by rw [e39, G _ _ (by omega) (by omega) (by omega)]; exact q4 k k0 k1, fun k k0 k1 => ?_, ?_, ?_, ?_⟩, ?_, r4⟩, l2, snX_f hx l3 (fun a s y => G a s (by omega) (by omega) (by omega)) ⟨E, r4⟩, ?_⟩
  · obtain ⟨x1, x2, x3⟩ := q5 k k0 k1
    rw [e39, G (h 200 39 + 2) k (by omega) (by omega) (by omega), G (h 200 39 + 3) k (by omega) (by omega) (by omega), G (h 200 39 + 4) k (by omega) (by omega) (by omega)]
    exact ⟨x1, vx x2, vx x3⟩
  · rw [e39, G (h 200 39) 6 (by omega) (by omega) (by omega)]; exact vx q6
  · rw [e39, G (h 200 39) 7 (by omega) (by omega) (by omega)]; exact vx q7
  · rw [e39]; exact capX_fr q8 (fun b b0 b1 => G _ _ (by omega) (by omega) (by omega))
  · obtain ⟨k1, k2, k3, k4⟩ := r3
    refine ⟨?_, ?_, ?_, ?_⟩
    · rw [G _ _ (by omega) (by omega) (by omega), G _ _ (by omega) (by omega) (by omega)]; exact k1
    · rw [G _ _ (by omega) (by omega) (by omega), G _ _ (by omega) (by omega) (by omega)]; exact k2
    · rw [e39, G _ _ (by omega) (by omega) (by omega)]; exact k3
    · rw [e39, G _ _ (by omega) (by omega) (by omega)]; exact k4
  · unfold kl2 at l4 ⊢
    rw [e39, G _ _ (by omega) (by omega) (by omega), G _ _ (by omega) (by omega) (by omega), G _ _ (by omega) (by omega) (by omega), G _ _ (by omega) (by omega) (by omega), G _ _ (by omega) (by omega) (by omega), G _ _ (by omega) (by omega) (by omega)]
    exact l4
theorem vX1_keeps_j68 {h : AH} {B : Int → Int} {n : Int} {EP E : EV} {Rf : Int → TR} {W : Int → Int → Int → VW} {hl : Int → Int} {L : LE} {H : List (Int → Int)} (hB : ∀ i, 0 ≤ i → i < n → 0 ≤ B i ∧ B i < 256) (n12 : 0 ≤ n ∧ n ≤ 2000) (sx : Sx B n (beg B n) h) (P : preT B n 440 324 false EP 0 h) (z : h 324 0 = 0 ∧ h 441 16 = 0 ∧ FK h = 1000000) (hx : h 200 39 = 378 ∨ h 200 39 = 391) (lp : h (h 200 39) 9 = 0 ∨ (h (h 200 39) 9 = 1 ∧ lpX h E Rf W hl L H ∧ EP = EPn E L.2.1.1 L.2.1.2)) (k4 : h 404 (-2) = 101 ∧ h 404 (-1) = 4096) : OK (gX1_keeps_j68 h) (fun r => jt2 r fun v h' => (outKp EP (h (h 200 39) 9 = 1) W L (pA B n false (beg B n)) (h 200 56) v (h' 200 56)) ∧ (h (h 200 39) 9 = 1 → lpX h' E Rf W hl L H ∧ h' (h' 200 39) 9 = 1) ∧ (frKp h h')) := by
  have CP := P.1.2.2.2.2.2.1
  unfold gX1_keeps_j68
  refine OK_jb2 (vX13_alone (B := B) (n := n) (A := 440) (T := 324) (u := 0) (sk := false) (E := EP) (R := beg B n) _ (by exact hB) (by exact sx) (by exact beg_0) (by exact n12.1) (by exact P)) (fun v12 h13 r1 => ?_)
  try dsimp only [Sum.elim_inl, Sum.elim_inr, jt2, jt3, jt4, jt5, jt6, jt7, jt8] at r1
  have pa1 := r1
  clear r1
  try simp (disch := omega) only [jst_eq, jst_ne, jst_ni, jI_i, jcmp_lt, jcmp_gt, w32_id, jcpy_out, Sum.elim_inl, Sum.elim_inr, jt2, jt3, jt4, jt5, jt6, jt7, jt8] at pa1
  obtain ⟨⟨d1, d2, d3, d4, d5⟩, r⟩ := pa1
  have b01 : h13 441 6 = 0 ∨ h13 441 6 = 1 := by { cases e : pA B n false (beg B n) with | inl z => { rw [e] at r; exact Or.inr r.1 } | inr t => { rw [e] at r; exact Or.inl r.1 } }
  rw [z.1] at d1
  rw [z.1, z.2.1, z.2.2] at r
  have K : ∀ t, pA B n false (beg B n) = .inr t → FK h13 = keyE EP 1 t ∧ keyE EP 1 t ≤ 1000000 ∧ 8 * (inf t).2.2.2 + 2 ≤ keyE EP 1 t := fun t e => by { obtain ⟨q, q1, e1, e2, e3⟩ := pA_inr e; have nb := sx; rw [e1] at nb; have nb := Sx_inr nb; have kr := key_r (E := EP) (W := 1) hB n12.2 nb.1.2.2.1 nb.1.2.2.2 nb.2 e2; rw [e] at r; have f := r.2.2.2.2.1; unfold keyE at kr ⊢; refine ⟨?_, kr.2.2.2.1, kr.2.2.2.2⟩; omega }
  have p56 : h13 200 56 = h 200 56 := d1 _ _ (by omega) (by omega) (by omega) (by omega) (by omega)
  have G13 : ∀ b s, ¬ (b = 200 ∧ (s = 55 ∨ s = 56)) → ¬ (b = 324 ∧ s = 0) → ¬ (325 ≤ b ∧ b ≤ 329 ∧ 0 ≤ s) → ¬ (b = 441 ∧ 0 ≤ s ∧ s ≤ 18) → ¬ ((b = 442 ∨ b = 444) ∧ 0 ≤ s ∧ s < 3) → ¬ (b = 445 ∧ 0 ≤ s) → h13 b s = h b s := fun b s y1 y2 y3 y4 y5 y6 => d1 b s (by omega) (by omega) (by omega) (by omega) (by omega)
  refine OK_jb2 (vX13_result (by exact ⟨d2, d3⟩) (by exact d4) (by exact b01)) (fun v15 h16 r2 => ?_)
  try dsimp only [Sum.elim_inl, Sum.elim_inr, jt2, jt3, jt4, jt5, jt6, jt7, jt8] at r2
  obtain ⟨b12, b02, bf2⟩ := r2
  try simp (disch := omega) only [jst_eq, jst_ne, jst_ni, jI_i, jcmp_lt, jcmp_gt, w32_id, jcpy_out, Sum.elim_inl, Sum.elim_inr, jt2, jt3, jt4, jt5, jt6, jt7, jt8] at b12
  try simp (disch := omega) only [jst_eq, jst_ne, jst_ni, jI_i, jcmp_lt, jcmp_gt, w32_id, jcpy_out, Sum.elim_inl, Sum.elim_inr, jt2, jt3, jt4, jt5, jt6, jt7, jt8] at b02
  try simp (disch := omega) only [jst_eq, jst_ne, jst_ni, jI_i, jcmp_lt, jcmp_gt, w32_id, jcpy_out, Sum.elim_inl, Sum.elim_inr, jt2, jt3, jt4, jt5, jt6, jt7, jt8] at bf2
  have E16 : ∀ b s, ¬ (b = 200 ∧ s = 56) → h16 b s = h13 b s := fun b s y => by { rcases b01 with w | w; { by_cases k : FK h13 = 1000000; { rw [(b02 w k).2] }; { rw [(bf2 w k).2.1, jst_o y] } }; { rw [(b12 w).2, jst_o y] } }
  have G16 : ∀ b s, ¬ (b = 200 ∧ (s = 55 ∨ s = 56)) → ¬ (b = 324 ∧ s = 0) → ¬ (325 ≤ b ∧ b ≤ 329 ∧ 0 ≤ s) → ¬ (b = 441 ∧ 0 ≤ s ∧ s ≤ 18) → ¬ ((b = 442 ∨ b = 444) ∧ 0 ≤ s ∧ s < 3) → ¬ (b = 445 ∧ 0 ≤ s) → h16 b s = h b s := fun b s y1 y2 y3 y4 y5 y6 => by { rw [E16 b s (by omega)]; exact G13 b s y1 y2 y3 y4 y5 y6 }
  have E39 : h16 200 39 = h 200 39 := G16 _ _ (by omega) (by omega) (by omega) (by omega) (by omega) (by omega)
  have E9 : h16 (h16 200 39) 9 = h (h 200 39) 9 := by { rw [E39]; exact G16 _ _ (by omega) (by omega) (by omega) (by omega) (by omega) (by omega) }
  have F16 : frKp h h16 := fun b s y1 y2 y3 y4 y5 y6 y7 y8 y9 => G16 b s (by omega) y5 y6 y7 y8 y9
  have LP16 : h (h 200 39) 9 = 1 → lpX h16 E Rf W hl L H := fun w => frG_nw G16 hx (by rcases lp with l | l; { omega }; { exact l.2.1 })
  refine OK_if (fun c1 => ?_) (fun c1 => ?_)
  · skip
    try simp (disch := omega) only [jst_eq, jst_ne, jst_ni, jI_i, jcmp_lt, jcmp_gt, w32_id, jcpy_out, Sum.elim_inl, Sum.elim_inr, jt2, jt3, jt4, jt5, jt6, jt7, jt8] at c1
    have Z13 : h13 441 6 = 0 := b01.resolve_right (fun w => by have := (b12 w).1; omega)
    have K13 : FK h13 = 1000000 := Classical.byContradiction fun w => by { have := bf2 Z13 w; omega }
    obtain ⟨V15, E13⟩ := b02 Z13 K13
    obtain ⟨t, eR⟩ : ∃ t, pA B n false (beg B n) = .inr t := by { cases e : pA B n false (beg B n) with | inl z => { rw [e] at r; have := r.1; omega } | inr t => exact ⟨t, rfl⟩ }
    have KT := K t eR
    rw [eR] at r
    have KB : keyE EP 1 t = 1000000 := by omega
    have P16 : h16 200 56 = h 200 56 := by { rw [E13]; exact p56 }
    refine OK_if (fun c2 => ?_) (fun c2 => ?_)
    · skip
      try simp (disch := omega) only [jst_eq, jst_ne, jst_ni, jI_i, jcmp_lt, jcmp_gt, w32_id, jcpy_out, Sum.elim_inl, Sum.elim_inr, jt2, jt3, jt4, jt5, jt6, jt7, jt8] at c2
      refine OK_some ?_
      try dsimp only [Sum.elim_inl, Sum.elim_inr, jt2, jt3, jt4, jt5, jt6, jt7, jt8]
      try dsimp only [Sum.elim_inl, Sum.elim_inr, jt2, jt3, jt4, jt5, jt6, jt7, jt8]
      refine ⟨?_, ?_, ?_⟩
      · (rw [eR]; exact ⟨fun _ => ⟨P16, fun _ => rfl, fun w => by omega⟩, fun w => absurd KB w⟩) -- o9 e1.1
      · (intro w; omega) -- o10 e1.2
      · exact F16 -- o11 e1.3
    · skip
      try simp (disch := omega) only [jst_eq, jst_ne, jst_ni, jI_i, jcmp_lt, jcmp_gt, w32_id, jcpy_out, Sum.elim_inl, Sum.elim_inr, jt2, jt3, jt4, jt5, jt6, jt7, jt8] at c2
      obtain ⟨T1, LPh, EPe⟩ := lp.resolve_left (fun w => by rw [← E9] at w; exact c2 w)
      have L16 := LP16 T1
      obtain ⟨RN, HH, SN, KL⟩ := L16
      have VL := RN.2.2.2
      have acE0 := RN.1.1.2.1
      have ew0 := RN.1.1.2.2.2.2.2.2.2
      have TOK := rdd_okP (w := 1) (kf := L.2.1.2) (m := L.2.1.1) acE0 RN.1.2.1 ew0 hB n12.2 (by have := VL.2.1.1; omega) (fun k k0 k1 => by have := VL.2.1.2.2 k k0 k1; omega) (pA_rdd n12.1 eR) (by rw [← EPe]; exact KB)
      rw [← EPe] at TOK
      have TW : tmW E L.2.1.1 L.2.1.2 (rsE EP t 0) 1 := by { have y := (TOK.1 _ rfl).1; rw [TOK.2.1 (by decide)] at y; exact y }
      refine OK_jb (vX1_beginRuns (by (rw [G16 _ _ (by omega) (by omega) (by omega) (by omega) (by omega) (by omega), G16 _ _ (by omega) (by omega) (by omega) (by omega) (by omega) (by omega)]; exact k4))) (fun h20 r3 => ?_)
      try dsimp only [Sum.elim_inl, Sum.elim_inr, jt2, jt3, jt4, jt5, jt6, jt7, jt8] at r3
      have v3 := r3
      clear r3
      try simp (disch := omega) only [jst_eq, jst_ne, jst_ni, jI_i, jcmp_lt, jcmp_gt, w32_id, jcpy_out, Sum.elim_inl, Sum.elim_inr, jt2, jt3, jt4, jt5, jt6, jt7, jt8] at v3
      have A20 : ∀ a s, h20 a s = if a = 404 ∧ 0 ≤ s ∧ s < 4096 then 0 else h16 a s := by assumption
      have G20 : frG h16 h20 := fun a s y1 y2 y3 y4 => by { rw [A20, if_neg (by omega)] }
      have B20 : bd10 h20 := by { unfold bd10; rw [A20, if_neg (by omega)]; exact RN.1.2.2.2.2 }
      have E20 : h20 200 39 = h16 200 39 := by { rw [A20, if_neg (by omega)] }
      have SA20 : ∀ a s, (a = 405 ∨ (a = h16 200 39 ∧ s = 10) ∨ a = h16 200 39 + 11 ∨ a = h16 200 39 + 12) → h20 a s = h16 a s := fun a s y => by { rw [A20, if_neg (by omega)] }
      have RN20 : rnX h20 E Rf W hl L := rnX_f RN B20 G20
      have st := sz_pos t
      have szr : sz (rsE EP t 0) = sz t := sz_rs _ _ _ _ _ _ t 0
      have TX := pA_sz0 hB n12 eR
      refine OK_jb (vX1_keeps_l110 (E := E) (Rf := Rf) (W := W) (hl := hl) (L := L) (T := rsE EP t 0) _ _ (by exact RN20) (by (refine ⟨?_, ⟨by unfold isX3; omega, capT_fr CP (fun b b0 b1 => by rw [A20, if_neg (by omega)]; exact G16 _ _ (by omega) (by omega) (by omega) (by omega) (by omega) (by omega))⟩, TW⟩; have m := rXc_vw (N := 2200) acE0 TW.1 r.2.2.2.1 (by decide) (by rw [r.2.1]; decide) (by rw [r.2.1]; decide) (by rw [r.2.1]; decide) (by rw [r.2.1, szr]; omega); exact vwX_fr (h := h13) (fun b s y => by rw [A20, if_neg (by omega)]; exact E16 b s (by omega)) m)) (by exact fun p p0 p1 => (by rw [A20, if_pos ⟨rfl, p0, p1⟩])) (by rfl)) (fun o21 r4 => ?_)
      rcases o21 with o23 | o24
      · skip
        have r5 := r4; clear r4
        dsimp only [Sum.elim_inl, Sum.elim_inr] at r5
        refine OK_jml ?_
        obtain ⟨y25, h26⟩ := o23
        refine OK_jt2 ?_
        try dsimp only [Sum.elim_inl, Sum.elim_inr, jt2, jt3, jt4, jt5, jt6, jt7, jt8] at r5
        obtain ⟨kp4, sa4, fr4⟩ := r5
        try simp (disch := omega) only [jst_eq, jst_ne, jst_ni, jI_i, jcmp_lt, jcmp_gt, w32_id, jcpy_out, Sum.elim_inl, Sum.elim_inr, jt2, jt3, jt4, jt5, jt6, jt7, jt8] at kp4
        try simp (disch := omega) only [jst_eq, jst_ne, jst_ni, jI_i, jcmp_lt, jcmp_gt, w32_id, jcpy_out, Sum.elim_inl, Sum.elim_inr, jt2, jt3, jt4, jt5, jt6, jt7, jt8] at sa4
        try simp (disch := omega) only [jst_eq, jst_ne, jst_ni, jI_i, jcmp_lt, jcmp_gt, w32_id, jcpy_out, Sum.elim_inl, Sum.elim_inr, jt2, jt3, jt4, jt5, jt6, jt7, jt8] at fr4
        obtain ⟨ff, e48, y0, y1, f0, f1, KP⟩ := kp4
        have W1 : w32 (10000 * y25) = 10000 * y25 := w32_id (by omega) (by omega)
        have W2 : w32 (10000 * y25 + h26 200 48) = 10000 * y25 + ff := by { rw [e48]; exact w32_id (by omega) (by omega) }
        refine OK_some ?_
        try dsimp only [Sum.elim_inl, Sum.elim_inr, jt2, jt3, jt4, jt5, jt6, jt7, jt8]
        try dsimp only [Sum.elim_inl, Sum.elim_inr, jt2, jt3, jt4, jt5, jt6, jt7, jt8]
        refine ⟨?_, ?_, ?_⟩
        · (rw [W1, W2, eR]; exact ⟨fun _ => ⟨by rw [fr4.1 _ _ (by omega) (by omega) (by omega) (by omega), A20, if_neg (by omega)]; exact P16, fun w => by omega, fun _ => KP⟩, fun w => absurd KB w⟩) -- o17 e2.1
        · (intro _; refine ⟨lpX_f (by rw [E39]; exact hx) ⟨RN, HH, SN, KL⟩ fr4.2 (frG_t G20 fr4.1) (fun a s y => ?_), ?_⟩; { rw [sa4 a s (by rw [E20]; exact y)]; exact SA20 a s y }; { rw [fr4.1 200 39 (by omega) (by omega) (by omega) (by omega), E20, E39, fr4.1 _ _ (by omega) (by omega) (by omega) (by omega), A20, if_neg (by omega), ← E39, E9]; exact T1 }) -- o18 e2.2
        · exact fun b s q1 q2 q3 q4 q5 q6 q7 q8 q9 => (by rw [fr4.1 b s (by omega) (by omega) (by omega) (by omega), A20, if_neg (by omega)]; exact F16 b s q1 q2 q3 q4 q5 q6 q7 q8 q9) -- o19 e2.3
      · skip
        have r6 := r4; clear r4
        dsimp only [Sum.elim_inl, Sum.elim_inr] at r6
        try dsimp only [Sum.elim_inl, Sum.elim_inr, jt2, jt3, jt4, jt5, jt6, jt7, jt8] at r6
        obtain ⟨kp5, sa5, fr5⟩ := r6
        try simp (disch := omega) only [jst_eq, jst_ne, jst_ni, jI_i, jcmp_lt, jcmp_gt, w32_id, jcpy_out, Sum.elim_inl, Sum.elim_inr, jt2, jt3, jt4, jt5, jt6, jt7, jt8] at kp5
        try simp (disch := omega) only [jst_eq, jst_ne, jst_ni, jI_i, jcmp_lt, jcmp_gt, w32_id, jcpy_out, Sum.elim_inl, Sum.elim_inr, jt2, jt3, jt4, jt5, jt6, jt7, jt8] at sa5
        try simp (disch := omega) only [jst_eq, jst_ne, jst_ni, jI_i, jcmp_lt, jcmp_gt, w32_id, jcpy_out, Sum.elim_inl, Sum.elim_inr, jt2, jt3, jt4, jt5, jt6, jt7, jt8] at fr5
        refine OK_jmr ?_
        refine OK_some ?_
        try dsimp only [Sum.elim_inl, Sum.elim_inr, jt2, jt3, jt4, jt5, jt6, jt7, jt8]
        try dsimp only [Sum.elim_inl, Sum.elim_inr, jt2, jt3, jt4, jt5, jt6, jt7, jt8]
        refine ⟨?_, ?_, ?_⟩
        · (rw [eR]; exact ⟨fun _ => ⟨by rw [fr5.1 _ _ (by omega) (by omega) (by omega) (by omega), A20, if_neg (by omega)]; exact P16, fun w => by omega, fun _ => kp5⟩, fun w => absurd KB w⟩) -- o20 e3.1
        · (intro _; refine ⟨lpX_f (by rw [E39]; exact hx) ⟨RN, HH, SN, KL⟩ fr5.2 (frG_t G20 fr5.1) (fun a s y => ?_), ?_⟩; { rw [sa5 a s (by rw [E20]; exact y)]; exact SA20 a s y }; { rw [fr5.1 200 39 (by omega) (by omega) (by omega) (by omega), E20, E39, fr5.1 _ _ (by omega) (by omega) (by omega) (by omega), A20, if_neg (by omega), ← E39, E9]; exact T1 }) -- o21 e3.2
        · exact fun b s q1 q2 q3 q4 q5 q6 q7 q8 q9 => (by rw [fr5.1 b s (by omega) (by omega) (by omega) (by omega), A20, if_neg (by omega)]; exact F16 b s q1 q2 q3 q4 q5 q6 q7 q8 q9) -- o22 e3.3
  · skip
    try simp (disch := omega) only [jst_eq, jst_ne, jst_ni, jI_i, jcmp_lt, jcmp_gt, w32_id, jcpy_out, Sum.elim_inl, Sum.elim_inr, jt2, jt3, jt4, jt5, jt6, jt7, jt8] at c1
    refine OK_some ?_
    try dsimp only [Sum.elim_inl, Sum.elim_inr, jt2, jt3, jt4, jt5, jt6, jt7, jt8]
    try dsimp only [Sum.elim_inl, Sum.elim_inr, jt2, jt3, jt4, jt5, jt6, jt7, jt8]
    refine ⟨?_, ?_, ?_⟩
    · (cases eR : pA B n false (beg B n) with | inl z => (rw [eR] at r; have b := b12 r.1; exact ⟨b.1, by rw [b.2, jst_eq]; exact r.2⟩) | inr t => (have KT := K t eR; rw [eR] at r; have nk : FK h13 ≠ 1000000 := (fun w => by have := (b02 r.1 w).1; omega); have b := bf2 r.1 nk; exact ⟨fun w => absurd (KT.1.trans w) nk, fun _ => ⟨by rw [← KT.1]; exact b.1, by rw [b.2.1, jst_eq, KT.1]⟩⟩)) -- o23 e4.1
    · (intro w; exact ⟨LP16 w, by rw [E9]; exact w⟩) -- o24 e4.2
    · exact F16 -- o25 e4.3
theorem vX1_keeps {h : AH} {B : Int → Int} {n : Int} {E : EV} {Rf : Int → TR} {W : Int → Int → Int → VW} {hl : Int → Int} {L : LE} {H : List (Int → Int)} (hB : ∀ i, 0 ≤ i → i < n → 0 ≤ B i ∧ B i < 256) (tb : n = h 200 55 ∧ tapX B n h) (wk : wkO h E Rf W hl) (od : Od h) (cp : (capT h 324 2200 ∧ h 327 (-2) = 101) ∧ (h 444 (-2) = 101 ∧ h 444 (-1) = 3)) (dn : h 200 53 = 0 ∨ h 200 53 = 1) (hx : h 200 39 = 378 ∨ h 200 39 = 391) (lp : h (h 200 39) 9 = 0 ∨ (h (h 200 39) 9 = 1 ∧ lpX h E Rf W hl L H)) (k4 : h 404 (-2) = 101 ∧ h 404 (-1) = 4096) (ka : ∀ a, a = 378 ∨ a = 391 → h (a + 2) (-2) = 101 ∧ h (a + 2) (-1) = 3) : OK (gX1_keeps h) (fun r => jt2 r fun v h' => (h 200 53 = 1 → v = -5 ∧ h' = h) ∧ (h 200 53 = 0 → (h (h 200 39) 9 = 0 → outKp (EPn E 0 (fun _ => 0)) (h (h 200 39) 9 = 1) W L (pA B n false (beg B n)) (h 200 56) v (h' 200 56)) ∧ (h (h 200 39) 9 = 1 → outKp (EPn E L.2.1.1 L.2.1.2) (h (h 200 39) 9 = 1) W L (pA B n false (beg B n)) (h 200 56) v (h' 200 56))) ∧ (h (h 200 39) 9 = 1 → lpX h' E Rf W hl L H ∧ h' (h' 200 39) 9 = 1) ∧ (frKp h h')) := by
  have T := tb.2
  have T1 : 0 ≤ n ∧ n ≤ 2000 := ⟨T.1, T.2.1⟩
  have n55 := tb.1
  have l0 := wk.2.1
  have AX := wk.1.1
  unfold gX1_keeps
  refine OK_if (fun c1 => ?_) (fun c1 => ?_)
  · skip
    try simp (disch := omega) only [jst_eq, jst_ne, jst_ni, jI_i, jcmp_lt, jcmp_gt, w32_id, jcpy_out, Sum.elim_inl, Sum.elim_inr, jt2, jt3, jt4, jt5, jt6, jt7, jt8] at c1
    refine OK_jl ?_
    refine OK_jb2 (vX1_takeTape) (fun v4 h5 r1 => ?_)
    try dsimp only [Sum.elim_inl, Sum.elim_inr, jt2, jt3, jt4, jt5, jt6, jt7, jt8] at r1
    obtain ⟨v1, hh1⟩ := r1
    try simp (disch := omega) only [jst_eq, jst_ne, jst_ni, jI_i, jcmp_lt, jcmp_gt, w32_id, jcpy_out, Sum.elim_inl, Sum.elim_inr, jt2, jt3, jt4, jt5, jt6, jt7, jt8] at v1
    try simp (disch := omega) only [jst_eq, jst_ne, jst_ni, jI_i, jcmp_lt, jcmp_gt, w32_id, jcpy_out, Sum.elim_inl, Sum.elim_inr, jt2, jt3, jt4, jt5, jt6, jt7, jt8] at hh1
    have en5 : v4 = n := by omega
    rw [en5]
    have F5 : ∀ a s, ¬ (a = 324 ∧ s = 0) → ¬ (a = 200 ∧ s = 55) → h5 a s = h a s := fun a s y1 y2 => by { rw [hh1, jst_o (by omega), jst_o (by omega)] }
    have z5 : h5 324 0 = 0 := by { rw [hh1, jst_o (by omega), jst_eq] }
    have tb5 : ∀ s, h5 440 s = h 440 s := fun s => F5 _ _ (by omega) (by omega)
    refine OK_jb (vX13_beginB (B := B) _ _ _ (by exact hB) (by exact ⟨T1.1, T1.2, by decide, by decide, by rw [tb5]; exact T.2.2.1, by rw [tb5]; exact T.2.2.2.1, fun i i0 i1 => by rw [tb5]; exact T.2.2.2.2 i i0 i1⟩)) (fun h7 r2 => ?_)
    try dsimp only [Sum.elim_inl, Sum.elim_inr, jt2, jt3, jt4, jt5, jt6, jt7, jt8] at r2
    obtain ⟨sx2, tx2, ce2, fr2, b62⟩ := r2
    try simp (disch := omega) only [jst_eq, jst_ne, jst_ni, jI_i, jcmp_lt, jcmp_gt, w32_id, jcpy_out, Sum.elim_inl, Sum.elim_inr, jt2, jt3, jt4, jt5, jt6, jt7, jt8] at sx2
    try simp (disch := omega) only [jst_eq, jst_ne, jst_ni, jI_i, jcmp_lt, jcmp_gt, w32_id, jcpy_out, Sum.elim_inl, Sum.elim_inr, jt2, jt3, jt4, jt5, jt6, jt7, jt8] at tx2
    try simp (disch := omega) only [jst_eq, jst_ne, jst_ni, jI_i, jcmp_lt, jcmp_gt, w32_id, jcpy_out, Sum.elim_inl, Sum.elim_inr, jt2, jt3, jt4, jt5, jt6, jt7, jt8] at ce2
    try simp (disch := omega) only [jst_eq, jst_ne, jst_ni, jI_i, jcmp_lt, jcmp_gt, w32_id, jcpy_out, Sum.elim_inl, Sum.elim_inr, jt2, jt3, jt4, jt5, jt6, jt7, jt8] at fr2
    try simp (disch := omega) only [jst_eq, jst_ne, jst_ni, jI_i, jcmp_lt, jcmp_gt, w32_id, jcpy_out, Sum.elim_inl, Sum.elim_inr, jt2, jt3, jt4, jt5, jt6, jt7, jt8] at b62
    have F7 : ∀ a s, ¬ (a = 324 ∧ s = 0) → ¬ (a = 200 ∧ s = 55) → ¬ (a = 441 ∧ (0 ≤ s ∧ s ≤ 8 ∨ 13 ≤ s ∧ s ≤ 17)) → h7 a s = h a s := fun a s y1 y2 y3 => by { rw [fr2 a s y3, F5 a s y1 y2] }
    have F7' : frXr h h7 := fun a s y1 y2 y3 y4 y5 y6 => F7 a s y2 (by omega) (by omega)
    have z7 : h7 324 0 = 0 := by { rw [fr2 _ _ (by omega)]; exact z5 }
    have k07 : FK h7 = 1000000 := by { unfold FK; rw [if_pos (by omega)] }
    have E39 : h7 200 39 = h 200 39 := F7 _ _ (by omega) (by omega) (by omega)
    have E9 : h7 (h7 200 39) 9 = h (h 200 39) 9 := by { rw [E39]; exact F7 _ _ (by omega) (by omega) (by omega) }
    have K47 : h7 404 (-2) = 101 ∧ h7 404 (-1) = 4096 := by { rw [F7 _ _ (by omega) (by omega) (by omega), F7 _ _ (by omega) (by omega) (by omega)]; exact k4 }
    refine OK_if (fun c2 => ?_) (fun c2 => ?_)
    · skip
      try simp (disch := omega) only [jst_eq, jst_ne, jst_ni, jI_i, jcmp_lt, jcmp_gt, w32_id, jcpy_out, Sum.elim_inl, Sum.elim_inr, jt2, jt3, jt4, jt5, jt6, jt7, jt8] at c2
      obtain ⟨EX, eEX⟩ : ∃ e, e = EPn E 0 (fun _ => 0) := ⟨_, rfl⟩
      have E9z : h (h 200 39) 9 = 0 := by { rw [← E9]; exact c2 }
      refine OK_mono (vX1_keeps_j68 (B := B) (n := n) (E := E) (Rf := Rf) (W := W) (hl := hl) (L := L) (H := H) (EP := EX) (by exact hB) (by exact T1) (by exact sx2) (by (rw [eEX]; exact preB (E := EPn E 0 (fun _ => 0)) T1 AX od cp.1 tx2 F7' ⟨z7, ce2.1, ce2.2.2.2.1, ce2.2.2.2.2.1, ce2.2.2.2.2.2, ce2.2.2.1⟩ l0 ⟨ce2.2.1, Int.le_refl _, by (show (0 : Int) ≤ 3; decide), fun k k0 k1 => absurd k1 (Int.not_lt.mpr k0)⟩)) (by exact ⟨z7, ce2.2.2.2.2.1, k07⟩) (by (rw [E39]; exact hx)) (by exact Or.inl c2) (by exact K47)) (fun r r3 => ?_)
      obtain ⟨y1, y2⟩ := r
      try dsimp only [Sum.elim_inl, Sum.elim_inr, jt2, jt3, jt4, jt5, jt6, jt7, jt8] at r3
      obtain ⟨oo3, lp3, fr3⟩ := r3
      try simp (disch := omega) only [jst_eq, jst_ne, jst_ni, jI_i, jcmp_lt, jcmp_gt, w32_id, jcpy_out, Sum.elim_inl, Sum.elim_inr, jt2, jt3, jt4, jt5, jt6, jt7, jt8] at oo3
      try simp (disch := omega) only [jst_eq, jst_ne, jst_ni, jI_i, jcmp_lt, jcmp_gt, w32_id, jcpy_out, Sum.elim_inl, Sum.elim_inr, jt2, jt3, jt4, jt5, jt6, jt7, jt8] at lp3
      try simp (disch := omega) only [jst_eq, jst_ne, jst_ni, jI_i, jcmp_lt, jcmp_gt, w32_id, jcpy_out, Sum.elim_inl, Sum.elim_inr, jt2, jt3, jt4, jt5, jt6, jt7, jt8] at fr3
      try dsimp only [Sum.elim_inl, Sum.elim_inr, jt2, jt3, jt4, jt5, jt6, jt7, jt8]
      try dsimp only [Sum.elim_inl, Sum.elim_inr, jt2, jt3, jt4, jt5, jt6, jt7, jt8]
      refine ⟨?_, ?_, ?_, ?_⟩
      · (first | assumption | omega | ((try dsimp only [jt2, jt3, jt4]); first | omega | (simp (disch := omega) only [jst_eq, jst_ne, jst_ni, jst_o, jI_i, jcpy_out, w32_id, jdiv_nn, jshr_k, jand_255] <;> first | done | omega | assumption)) | (intros; simp (disch := omega) only [jst_eq, jst_ne, jst_ni, jst_o, jI_i, jcpy_out, w32_id, jdiv_nn, *] <;> first | done | omega) | (intros; simp (disch := omega) only [jst_eq, jst_ne, jst_ni, jst_o, jI_i, jcpy_out, w32_id, jdiv_nn] at * <;> first | done | omega | assumption) | (intros; first | rfl | (exfalso; omega) | ((repeat' apply And.intro) <;> first | assumption | rfl | omega | trivial))) -- o11 e1.1
      · (intro _; refine ⟨fun w => ?_, fun w => by omega⟩; rw [E9, F7 _ _ (by omega) (by omega) (by omega), eEX] at oo3; exact oo3) -- o12 e1.2
      · (intro w; omega) -- o13 e1.3
      · exact fun b s q1 q2 q3 q4 q5 q6 q7 q8 q9 => (by rw [fr3 b s q1 q2 q3 q4 q5 q6 q7 q8 q9]; exact F7 b s q5 (by omega) (by omega)) -- o14 e1.4
    · skip
      try simp (disch := omega) only [jst_eq, jst_ne, jst_ni, jI_i, jcmp_lt, jcmp_gt, w32_id, jcpy_out, Sum.elim_inl, Sum.elim_inr, jt2, jt3, jt4, jt5, jt6, jt7, jt8] at c2
      obtain ⟨T91, LPh⟩ := lp.resolve_left (fun w => c2 (by rw [E9]; exact w))
      have RN := LPh.1
      have LX := RN.2.1
      have VL := RN.2.2.2
      have LV2 : h7 (h7 200 39) 2 = L.2.1.1 := by { rw [E39, F7 _ _ (by omega) (by omega) (by omega)]; exact LX.2.2.1 }
      have KA7 : h7 (h7 200 39 + 2) (-2) = 101 ∧ h7 (h7 200 39 + 2) (-1) = 3 := by { rw [E39, F7 _ _ (by omega) (by omega) (by omega), F7 _ _ (by omega) (by omega) (by omega)]; exact ka _ hx }
      refine OK_jb (vX13_parameters _ _ (by (rw [LV2]; have := VL.2.1; omega)) (by (rw [LV2, E39]; rw [E39] at KA7; have := VL.2.1; omega))) (fun h10 r4 => ?_)
      try dsimp only [Sum.elim_inl, Sum.elim_inr, jt2, jt3, jt4, jt5, jt6, jt7, jt8] at r4
      obtain ⟨pp4, fr4⟩ := r4
      try simp (disch := omega) only [jst_eq, jst_ne, jst_ni, jI_i, jcmp_lt, jcmp_gt, w32_id, jcpy_out, Sum.elim_inl, Sum.elim_inr, jt2, jt3, jt4, jt5, jt6, jt7, jt8] at pp4
      try simp (disch := omega) only [jst_eq, jst_ne, jst_ni, jI_i, jcmp_lt, jcmp_gt, w32_id, jcpy_out, Sum.elim_inl, Sum.elim_inr, jt2, jt3, jt4, jt5, jt6, jt7, jt8] at fr4
      rw [LV2] at pp4
      obtain ⟨EX, eEX⟩ : ∃ e, e = EPn E L.2.1.1 L.2.1.2 := ⟨_, rfl⟩
      have F10 : ∀ a s, ¬ (a = 324 ∧ s = 0) → ¬ (a = 200 ∧ s = 55) → ¬ (a = 441 ∧ 0 ≤ s ∧ s ≤ 17) → ¬ ((a = 442 ∨ a = 444) ∧ 0 ≤ s ∧ s < 3) → h10 a s = h a s := fun a s y1 y2 y3 y4 => by { rw [fr4 a s (by omega) y4]; exact F7 a s y1 y2 (by omega) }
      have F10' : frXr h h10 := fun a s y1 y2 y3 y4 y5 y6 => F10 a s y2 (by omega) (by omega) y5
      have E39b : h10 200 39 = h 200 39 := F10 _ _ (by omega) (by omega) (by omega) (by omega)
      have E9b : h10 (h10 200 39) 9 = h (h 200 39) 9 := by { rw [E39b]; exact F10 _ _ (by omega) (by omega) (by omega) (by omega) }
      have LP10 : lpX h10 E Rf W hl L H := frG_nw (fun b s y1 y2 y3 y4 y5 y6 => F10 b s y2 (by omega) (by omega) y5) hx LPh
      have Q4 : ∀ a s, ¬ (a = 441 ∧ s = 13) → ¬ ((a = 442 ∨ a = 444) ∧ 0 ≤ s ∧ s < 3) → h10 a s = h7 a s := fr4
      refine OK_mono (vX1_keeps_j68 (B := B) (n := n) (E := E) (Rf := Rf) (W := W) (hl := hl) (L := L) (H := H) (EP := EX) (by exact hB) (by exact T1) (by exact Sx_fr sx2 (fun s s0 s1 => Q4 _ _ (by omega) (by omega))) (by (rw [eEX]; exact preB (E := EPn E L.2.1.1 L.2.1.2) T1 AX od cp.1 (TX_fr tx2 (Q4 _ _ (by omega) (by omega)) (Q4 _ _ (by omega) (by omega)) (fun s => Q4 _ _ (by omega) (by omega))) F10' (by rw [Q4 324 0 (by omega) (by omega), Q4 441 8 (by omega) (by omega), Q4 441 15 (by omega) (by omega), Q4 441 16 (by omega) (by omega), Q4 441 17 (by omega) (by omega), Q4 441 14 (by omega) (by omega)]; exact ⟨z7, ce2.1, ce2.2.2.2.1, ce2.2.2.2.2.1, ce2.2.2.2.2.2, ce2.2.2.1⟩) l0 ⟨pp4.1, by (show 0 ≤ L.2.1.1; have := VL.2.1.1; omega), VL.2.1.2.1, fun k k0 k1 => by (have k1' : k < L.2.1.1 := k1; have p := pp4.2 k k0 k1'; have y := LX.2.2.2.2.1 k k0 k1'; have z := VL.2.1.2.2 k k0 k1'; have ee : h7 (h7 200 39 + 2) k = L.2.1.2 k := (by rw [E39, F7 _ _ (by omega) (by omega) (by omega)]; exact y.1); exact ⟨by rw [p.2]; exact ee, by (show -1 ≤ L.2.1.2 k; omega), by (show L.2.1.2 k ≤ 2; omega), Or.inl ⟨p.1, rfl⟩⟩)⟩)) (by (rw [Q4 324 0 (by omega) (by omega), Q4 441 16 (by omega) (by omega), FK_fr (Q4 _ _ (by omega) (by omega)) (Q4 _ _ (by omega) (by omega))]; exact ⟨z7, ce2.2.2.2.2.1, k07⟩)) (by (rw [E39b]; exact hx)) (by exact Or.inr ⟨by rw [E9b]; exact T91, LP10, eEX⟩) (by (rw [Q4 _ _ (by omega) (by omega), Q4 _ _ (by omega) (by omega)]; exact K47))) (fun r r5 => ?_)
      obtain ⟨y3, y4⟩ := r
      try dsimp only [Sum.elim_inl, Sum.elim_inr, jt2, jt3, jt4, jt5, jt6, jt7, jt8] at r5
      obtain ⟨oo5, lp5, fr5⟩ := r5
      try simp (disch := omega) only [jst_eq, jst_ne, jst_ni, jI_i, jcmp_lt, jcmp_gt, w32_id, jcpy_out, Sum.elim_inl, Sum.elim_inr, jt2, jt3, jt4, jt5, jt6, jt7, jt8] at oo5
      try simp (disch := omega) only [jst_eq, jst_ne, jst_ni, jI_i, jcmp_lt, jcmp_gt, w32_id, jcpy_out, Sum.elim_inl, Sum.elim_inr, jt2, jt3, jt4, jt5, jt6, jt7, jt8] at lp5
      try simp (disch := omega) only [jst_eq, jst_ne, jst_ni, jI_i, jcmp_lt, jcmp_gt, w32_id, jcpy_out, Sum.elim_inl, Sum.elim_inr, jt2, jt3, jt4, jt5, jt6, jt7, jt8] at fr5
      try dsimp only [Sum.elim_inl, Sum.elim_inr, jt2, jt3, jt4, jt5, jt6, jt7, jt8]
      try dsimp only [Sum.elim_inl, Sum.elim_inr, jt2, jt3, jt4, jt5, jt6, jt7, jt8]
      refine ⟨?_, ?_, ?_, ?_⟩
      · (first | assumption | omega | ((try dsimp only [jt2, jt3, jt4]); first | omega | (simp (disch := omega) only [jst_eq, jst_ne, jst_ni, jst_o, jI_i, jcpy_out, w32_id, jdiv_nn, jshr_k, jand_255] <;> first | done | omega | assumption)) | (intros; simp (disch := omega) only [jst_eq, jst_ne, jst_ni, jst_o, jI_i, jcpy_out, w32_id, jdiv_nn, *] <;> first | done | omega) | (intros; simp (disch := omega) only [jst_eq, jst_ne, jst_ni, jst_o, jI_i, jcpy_out, w32_id, jdiv_nn] at * <;> first | done | omega | assumption) | (intros; first | rfl | (exfalso; omega) | ((repeat' apply And.intro) <;> first | assumption | rfl | omega | trivial))) -- o25 e2.1
      · (intro _; refine ⟨fun w => by omega, fun w => ?_⟩; rw [E9b, F10 _ _ (by omega) (by omega) (by omega) (by omega), eEX] at oo5; exact oo5) -- o26 e2.2
      · (intro w; exact lp5 (by rw [E9b]; exact T91)) -- o27 e2.3
      · exact fun b s q1 q2 q3 q4 q5 q6 q7 q8 q9 => (by rw [fr5 b s q1 q2 q3 q4 q5 q6 q7 q8 q9]; exact F10 b s q5 (by omega) (by omega) q8) -- o28 e2.4
  · skip
    try simp (disch := omega) only [jst_eq, jst_ne, jst_ni, jI_i, jcmp_lt, jcmp_gt, w32_id, jcpy_out, Sum.elim_inl, Sum.elim_inr, jt2, jt3, jt4, jt5, jt6, jt7, jt8] at c1
    refine OK_some ?_
    try dsimp only [Sum.elim_inl, Sum.elim_inr, jt2, jt3, jt4, jt5, jt6, jt7, jt8]
    try dsimp only [Sum.elim_inl, Sum.elim_inr, jt2, jt3, jt4, jt5, jt6, jt7, jt8]
    refine ⟨?_, ?_, ?_, ?_⟩
    · (first | assumption | omega | ((try dsimp only [jt2, jt3, jt4]); first | omega | (simp (disch := omega) only [jst_eq, jst_ne, jst_ni, jst_o, jI_i, jcpy_out, w32_id, jdiv_nn, jshr_k, jand_255] <;> first | done | omega | assumption)) | (intros; simp (disch := omega) only [jst_eq, jst_ne, jst_ni, jst_o, jI_i, jcpy_out, w32_id, jdiv_nn, *] <;> first | done | omega) | (intros; simp (disch := omega) only [jst_eq, jst_ne, jst_ni, jst_o, jI_i, jcpy_out, w32_id, jdiv_nn] at * <;> first | done | omega | assumption) | (intros; first | rfl | (exfalso; omega) | ((repeat' apply And.intro) <;> first | assumption | rfl | omega | trivial))) -- o29 e3.1
    · (first | assumption | omega | ((try dsimp only [jt2, jt3, jt4]); first | omega | (simp (disch := omega) only [jst_eq, jst_ne, jst_ni, jst_o, jI_i, jcpy_out, w32_id, jdiv_nn, jshr_k, jand_255] <;> first | done | omega | assumption)) | (intros; simp (disch := omega) only [jst_eq, jst_ne, jst_ni, jst_o, jI_i, jcpy_out, w32_id, jdiv_nn, *] <;> first | done | omega) | (intros; simp (disch := omega) only [jst_eq, jst_ne, jst_ni, jst_o, jI_i, jcpy_out, w32_id, jdiv_nn] at * <;> first | done | omega | assumption) | (intros; first | rfl | (exfalso; omega) | ((repeat' apply And.intro) <;> first | assumption | rfl | omega | trivial))) -- o30 e3.2
    · (intro w; rcases lp with l | l; { omega }; { exact ⟨l.2, w⟩ }) -- o31 e3.3
    · exact fun _ _ _ _ _ _ _ _ _ _ _ => rfl -- o32 e3.4

