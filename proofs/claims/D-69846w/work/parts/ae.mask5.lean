/-! m: an ask is told -/
def frAo (a D : Int) (h h' : AH) : Prop := ∀ b s, ¬ (b = 454 ∧ (s = 17 ∨ (26 ≤ s ∧ s ≤ 31) ∨ s = 34 ∨ s = 38 ∨ s = 55)) → ¬ (b = 472 ∧ (s = 6 ∨ s = 7)) → ¬ (460 ≤ b ∧ b ≤ 470 ∧ b ≠ 464 ∧ D ≤ s ∧ s < D + 1100) → ¬ (b = 464 ∧ 3 * D ≤ s ∧ s < 3 * D + 3300) → ¬ ((b = 474 ∨ b = 475) ∧ 0 ≤ s ∧ s < 3) → ¬ (b = a ∧ (s = 3 ∨ s = 4 ∨ s = 5 ∨ s = 9 ∨ s = 12 ∨ s = 17 ∨ s = 18 ∨ s = 20 ∨ s = 26 ∨ s = 27)) → ¬ (a + 1 ≤ b ∧ b ≤ a + 11 ∧ 0 ≤ s) → h' b s = h b s
theorem raB_f {B : Int → Int} {n a D : Int} {E : EV} {Rf : Int → TR} {h h' : AH} (x : raB B n a D E Rf h) (f : ∀ b s, ¬ (b = 454 ∧ 26 ≤ s ∧ s ≤ 31) → ¬ (b = 472 ∧ (s = 6 ∨ s = 7)) → h' b s = h b s) : raB B n a D E Rf h' := by
  obtain ⟨⟨x1, x2, x3⟩, b2, b3, b4, b5, b6, b7, b8⟩ := x
  have LA : a = 476 ∨ a = 615 := x1
  refine ⟨⟨x1, by rw [f _ _ (by omega) (by omega)]; exact x2, x3⟩, TM_fr b2 (f _ _ (by omega) (by omega)) (fun s => f _ _ (by omega) (by omega)), actM_fr b3 (f _ _ (by omega) (by omega)) (fun b s z0 z1 => f _ _ (by omega) (by omega)), b4, ownM_fr b5 ⟨fun b s z0 z1 z2 _ _ => f _ _ (by omega) (by omega), fun s _ _ => f _ _ (by omega) (by omega)⟩ (fun b z0 z1 => f _ _ (by omega) (by omega)), by rw [f _ _ (by omega) (by omega)]; exact b6, ?_, ?_⟩
  · rw [f _ _ (by omega) (by omega), f _ _ (by omega) (by omega)]; exact b7
  · rw [f _ _ (by omega) (by omega), f _ _ (by omega) (by omega)]; exact b8
theorem apM_38 {B : Int → Int} {n a D : Int} {E : EV} {p : ASt} {h h' : AH} (x : apM B n a D E p h) (f : ∀ b s, ¬ (b = 454 ∧ s = 38) → h' b s = h b s) : apM B n a D E p h' := by
  obtain ⟨⟨x1, x2, x3, x4, x5⟩, ⟨y1, y2⟩, ⟨z1, z2⟩, ⟨r1, r2, r3⟩, ⟨l1, l2, l3⟩, ⟨p1, p2, p3, p4, p5⟩, q, t⟩ := x
  have LA : a = 476 ∨ a = 615 := x1
  have e17 : h' 454 17 = h 454 17 := f _ _ (by omega)
  refine ⟨⟨x1, by rw [f _ _ (by omega)]; exact x2, x3, x4, fun k k0 k1 => by rw [f _ _ (by omega)]; exact x5 k k0 k1⟩, ⟨by rw [f _ _ (by omega)]; exact y1, y2⟩, ⟨by rw [e17]; exact pcsM_f z1 (fun b s y => f b s (by omega)), by rw [f _ _ (by omega)]; exact z2⟩, ⟨by rw [f _ _ (by omega)]; exact r1, r2, fun i i12 r er => rwkM_f (r3 i i12 r er) x4 (fun s s0 s1 => f _ _ (by omega)) (f _ _ (by omega))⟩, ⟨by rw [f _ _ (by omega)]; exact l1, l2, fun i i4 r er => lwkM_f (l3 i i4 r er) (Int.le_refl _) (fun b s y => f b s (by omega)) (by omega) ⟨fun b s b0 b1 b2 _ _ => f b s (by omega), fun s _ _ => f _ s (by omega)⟩⟩, ⟨by rw [f _ _ (by omega)]; exact p1, by rw [f _ _ (by omega)]; exact p2, p3, p4, fun i q i0 i1 q0 q1 => by rw [f _ _ (by omega), f _ _ (by omega)]; exact p5 i q i0 i1 q0 q1⟩, by rw [f _ _ (by omega), f _ _ (by omega), f _ _ (by omega)]; exact q, by rw [e17]; exact t⟩
theorem vX14_ask_j36 (t0 : Int) {h : AH} {B : Int → Int} {n D : Int} {E : EV} {Rf : Int → TR} (hB : ∀ i, 0 ≤ i → i < n → 0 ≤ B i ∧ B i < 256) (bb : raB B n t0 D E Rf h) : OK (gX14_ask_j36 t0 h) (fun r => jt2 r fun v h' => (outAs B n E (bS (beg B n) (pAsk B n)) (h 454 55) v (h' 454 55) (fun p => apM B n t0 D E p h' ∧ h' 454 38 = t0 ∧ v = ptT p)) ∧ ((v < 0 ∧ h' 454 38 = h 454 38) ∨ (0 ≤ v ∧ h' 454 38 = t0)) ∧ (frAo t0 D h h')) := by
  have LA : t0 = 476 ∨ t0 = 615 := bb.1.1
  unfold gX14_ask_j36
  refine OK_jb2 (vX14_begin (B := B) (n := n) (by exact hB) (by exact bb.2.1)) (fun t9 h11 r1 => ?_)
  try dsimp only [Sum.elim_inl, Sum.elim_inr, jt2, jt3, jt4, jt5, jt6, jt7, jt8] at r1
  obtain ⟨rm1, ce1, fr1⟩ := r1
  try simp (disch := omega) only [jst_eq, jst_ne, jst_ni, jI_i, jcmp_lt, jcmp_gt, w32_id, jcpy_out, Sum.elim_inl, Sum.elim_inr, jt2, jt3, jt4, jt5, jt6, jt7, jt8] at rm1
  try simp (disch := omega) only [jst_eq, jst_ne, jst_ni, jI_i, jcmp_lt, jcmp_gt, w32_id, jcpy_out, Sum.elim_inl, Sum.elim_inr, jt2, jt3, jt4, jt5, jt6, jt7, jt8] at ce1
  try simp (disch := omega) only [jst_eq, jst_ne, jst_ni, jI_i, jcmp_lt, jcmp_gt, w32_id, jcpy_out, Sum.elim_inl, Sum.elim_inr, jt2, jt3, jt4, jt5, jt6, jt7, jt8] at fr1
  refine OK_jq (fun c1 => ?_) (fun c1 => ?_)
  · skip
    obtain ⟨z, eb, t9e, mf⟩ := rM_l rm1 c1
    refine OK_jg (by (first | assumption | omega | ((try dsimp only [jt2, jt3, jt4]); first | omega | (simp (disch := omega) only [jst_eq, jst_ne, jst_ni, jst_o, jI_i, jcpy_out, w32_id, jdiv_nn, jshr_k, jand_255] <;> first | done | omega | assumption)) | (intros; simp (disch := omega) only [jst_eq, jst_ne, jst_ni, jst_o, jI_i, jcpy_out, w32_id, jdiv_nn, *] <;> first | done | omega) | (intros; simp (disch := omega) only [jst_eq, jst_ne, jst_ni, jst_o, jI_i, jcpy_out, w32_id, jdiv_nn] at * <;> first | done | omega | assumption) | (intros; first | rfl | (exfalso; omega) | ((repeat' apply And.intro) <;> first | assumption | rfl | omega | trivial)))) ?_ -- o3
    refine OK_jb2 (vX14_faulty _ (by exact ⟨t9e, by rw [mf.1]; decide, by rw [mf.1]; decide⟩)) (fun v14 h15 r2 => ?_)
    try dsimp only [Sum.elim_inl, Sum.elim_inr, jt2, jt3, jt4, jt5, jt6, jt7, jt8] at r2
    obtain ⟨vv2, fr2⟩ := r2
    try simp (disch := omega) only [jst_eq, jst_ne, jst_ni, jI_i, jcmp_lt, jcmp_gt, w32_id, jcpy_out, Sum.elim_inl, Sum.elim_inr, jt2, jt3, jt4, jt5, jt6, jt7, jt8] at vv2
    try simp (disch := omega) only [jst_eq, jst_ne, jst_ni, jI_i, jcmp_lt, jcmp_gt, w32_id, jcpy_out, Sum.elim_inl, Sum.elim_inr, jt2, jt3, jt4, jt5, jt6, jt7, jt8] at fr2
    refine OK_some ?_
    try dsimp only [Sum.elim_inl, Sum.elim_inr, jt2, jt3, jt4, jt5, jt6, jt7, jt8]
    try dsimp only [Sum.elim_inl, Sum.elim_inr, jt2, jt3, jt4, jt5, jt6, jt7, jt8]
    refine ⟨?_, ?_, ?_⟩
    · (rw [eb, fr2]; exact ⟨by rw [vv2, mf.1]; decide, by rw [jst_eq]; exact mf.2⟩) -- o5 e1.1
    · (rw [vv2, mf.1]; exact Or.inl ⟨by decide, by rw [fr2, jst_o (by omega)]; exact fr1 _ _ (by omega) (by omega)⟩) -- o6 e1.2
    · (rw [fr2]; exact fun b s y1 y2 _ _ _ _ _ => (by rw [jst_o (by omega)]; exact fr1 b s (by omega) y2)) -- o7 e1.3
  · skip
    obtain ⟨q, eb, ms⟩ := rM_r rm1 c1
    have BB := raB_f bb fr1
    have WB : bS (beg B n) (pAsk B n) = pAsk B n q := by { rw [eb]; rfl }
    rw [WB]
    refine OK_jb2 (vX14_readAsk (B := B) (n := n) (D := D) (E := E) (Rf := Rf) (q := q) _ (by exact hB) (by exact BB) (by exact ce1) (by exact ms)) (fun t17 h19 r3 => ?_)
    try dsimp only [Sum.elim_inl, Sum.elim_inr, jt2, jt3, jt4, jt5, jt6, jt7, jt8] at r3
    obtain ⟨ok3, fr3⟩ := r3
    try simp (disch := omega) only [jst_eq, jst_ne, jst_ni, jI_i, jcmp_lt, jcmp_gt, w32_id, jcpy_out, Sum.elim_inl, Sum.elim_inr, jt2, jt3, jt4, jt5, jt6, jt7, jt8] at ok3
    try simp (disch := omega) only [jst_eq, jst_ne, jst_ni, jI_i, jcmp_lt, jcmp_gt, w32_id, jcpy_out, Sum.elim_inl, Sum.elim_inr, jt2, jt3, jt4, jt5, jt6, jt7, jt8] at fr3
    have F19 : frAk t0 D h h19 := frAk_t (fun b s y1 y2 _ _ _ _ _ => fr1 b s (by omega) y2) fr3
    have E55 : h19 454 55 = h 454 55 := F19 _ _ (by omega) (by omega) (by omega) (by omega) (by omega) (by omega) (by omega)
    have E38 : h19 454 38 = h 454 38 := F19 _ _ (by omega) (by omega) (by omega) (by omega) (by omega) (by omega) (by omega)
    have X19 : (∃ z, pAsk B n q = .inl z ∧ t17 = 472 ∧ MF z h19) ∨ (∃ p, pAsk B n q = .inr p ∧ resK (fkAs B n E p) t17 h19 ∧ (fkAs B n E p = 1000000 → apM B n t0 D E p h19)) := by { cases e : pAsk B n q with | inl z => { rw [e] at ok3; exact Or.inl ⟨z, rfl, ok3⟩ } | inr p => { rw [e] at ok3; exact Or.inr ⟨p, rfl, ok3⟩ } }
    refine OK_jq (fun c2 => ?_) (fun c2 => ?_)
    · skip
      have T17 : t17 = 472 := by { rcases X19 with ⟨_, _, x, _⟩ | ⟨p, _, x, _⟩; { exact x }; { exact (x.2 (fun z => c2 (x.1 z))).1 } }
      refine OK_jg (by (first | assumption | omega | ((try dsimp only [jt2, jt3, jt4]); first | omega | (simp (disch := omega) only [jst_eq, jst_ne, jst_ni, jst_o, jI_i, jcpy_out, w32_id, jdiv_nn, jshr_k, jand_255] <;> first | done | omega | assumption)) | (intros; simp (disch := omega) only [jst_eq, jst_ne, jst_ni, jst_o, jI_i, jcpy_out, w32_id, jdiv_nn, *] <;> first | done | omega) | (intros; simp (disch := omega) only [jst_eq, jst_ne, jst_ni, jst_o, jI_i, jcpy_out, w32_id, jdiv_nn] at * <;> first | done | omega | assumption) | (intros; first | rfl | (exfalso; omega) | ((repeat' apply And.intro) <;> first | assumption | rfl | omega | trivial)))) ?_ -- o12
      refine OK_jb2 (vX14_faulty _ (by (rcases X19 with ⟨z, e, x, y⟩ | ⟨p, e, x, _⟩; { exact ⟨x, by rw [y.1]; decide, by rw [y.1]; decide⟩ }; { have nk : fkAs B n E p ≠ 1000000 := (fun z => c2 (x.1 z)); obtain ⟨y1, y2, y3, y4, y5, _⟩ := x.2 nk; exact ⟨y1, by omega, by omega⟩ }))) (fun v22 h23 r4 => ?_)
      try dsimp only [Sum.elim_inl, Sum.elim_inr, jt2, jt3, jt4, jt5, jt6, jt7, jt8] at r4
      obtain ⟨vv4, fr4⟩ := r4
      try simp (disch := omega) only [jst_eq, jst_ne, jst_ni, jI_i, jcmp_lt, jcmp_gt, w32_id, jcpy_out, Sum.elim_inl, Sum.elim_inr, jt2, jt3, jt4, jt5, jt6, jt7, jt8] at vv4
      try simp (disch := omega) only [jst_eq, jst_ne, jst_ni, jI_i, jcmp_lt, jcmp_gt, w32_id, jcpy_out, Sum.elim_inl, Sum.elim_inr, jt2, jt3, jt4, jt5, jt6, jt7, jt8] at fr4
      refine OK_some ?_
      try dsimp only [Sum.elim_inl, Sum.elim_inr, jt2, jt3, jt4, jt5, jt6, jt7, jt8]
      try dsimp only [Sum.elim_inl, Sum.elim_inr, jt2, jt3, jt4, jt5, jt6, jt7, jt8]
      refine ⟨?_, ?_, ?_⟩
      · (rcases X19 with ⟨z, e, x, y⟩ | ⟨p, e, x, _⟩; { rw [e, fr4]; exact ⟨by rw [vv4, y.1]; decide, by rw [jst_eq]; exact y.2⟩ }; { have nk : fkAs B n E p ≠ 1000000 := (fun z => c2 (x.1 z)); have y := x.2 nk; rw [e, fr4]; exact ⟨fun z => absurd z nk, fun _ => ⟨by rw [vv4, y.2.1], by rw [jst_eq]; exact y.2.2.1⟩⟩ }) -- o14 e2.1
      · exact Or.inl ⟨by (rcases X19 with ⟨z, e, x, y⟩ | ⟨p, e, x, _⟩; { rw [vv4, y.1]; decide }; { have nk : fkAs B n E p ≠ 1000000 := (fun z => c2 (x.1 z)); have y := x.2 nk; rw [vv4]; omega }), by rw [fr4, jst_o (by omega)]; exact E38⟩ -- o15 e2.2
      · (rw [fr4]; exact fun b s y1 y2 y3 y4 y5 y6 y7 => (by rw [jst_o (by omega)]; exact F19 b s (by omega) y2 y3 y4 y5 y6 y7)) -- o16 e2.3
    · skip
      obtain ⟨p, eP, rk, lc⟩ := X19.resolve_left (fun ⟨z, _, x, _⟩ => by omega)
      have KF : fkAs B n E p = 1000000 := Classical.byContradiction fun z => by { have := (rk.2 z).1; omega }
      refine OK_jl ?_
      have F24 : ∀ b s, ¬ (b = 454 ∧ s = 38) → jst h19 454 38 t0 b s = h19 b s := fun b s y => jst_o y
      have V24 : jst h19 454 38 t0 454 38 = t0 := jst_eq
      generalize jst h19 454 38 t0 = g24 at *
      have AP : apM B n t0 D E p g24 := apM_38 (lc KF) F24
      have V18 : g24 t0 18 = ptT p := AP.2.2.2.2.2.1.2.1
      have P0 : 0 ≤ ptT p := AP.2.2.2.2.2.1.2.2.1
      refine OK_some ?_
      try dsimp only [Sum.elim_inl, Sum.elim_inr, jt2, jt3, jt4, jt5, jt6, jt7, jt8]
      try dsimp only [Sum.elim_inl, Sum.elim_inr, jt2, jt3, jt4, jt5, jt6, jt7, jt8]
      refine ⟨?_, ?_, ?_⟩
      · (rw [eP]; exact ⟨fun _ => ⟨(F24 _ _ (by omega)).trans E55, AP, V24, V18⟩, fun z => absurd KF z⟩) -- o17 e3.1
      · (rw [V18]; exact Or.inr ⟨P0, V24⟩) -- o18 e3.2
      · exact fun b s y1 y2 y3 y4 y5 y6 y7 => (F24 b s (by omega)).trans (F19 b s (by omega) y2 y3 y4 y5 y6 y7) -- o19 e3.3
/-- the ask that does not stand, its first node -/
def otM (x : Int) : Int := if x = 476 then 615 else 476
def otD (x : Int) : Int := if x = 476 then 1100 else 0
/-- arrays of m's asks -/
def arN (h : AH) : Prop := (h 476 0 = 0 ∧ h 615 0 = 1100) ∧ ∀ a, a = 476 ∨ a = 615 → (h (a + 1) (-2) = 101 ∧ h (a + 1) (-1) = 3) ∧ h (a + 11) (-2) = 101 ∧ h (a + 11) (-1) = 768
theorem vX14_ask {h : AH} {B : Int → Int} {n : Int} {E : EV} {Rf : Int → TR} (hB : ∀ i, 0 ≤ i → i < n → 0 ≤ B i ∧ B i < 256) (tb : n = h 454 53 ∧ 0 ≤ n ∧ n ≤ 2000 ∧ ∀ i, 0 ≤ i → i < n → h 790 i = B i) (om : ownsM h E Rf ∧ (0 ≤ h 454 35 ∧ h 454 35 ≤ 2000)) (ar : arN h) (dn : h 454 54 = 0 ∨ h 454 54 = 1) (l38 : h 454 38 = 0 ∨ h 454 38 = 476 ∨ h 454 38 = 615) : OK (gX14_ask h) (fun r => jt2 r fun v h' => (h 454 54 = 1 → v = -5 ∧ h' = jst h 454 51 0) ∧ (h 454 54 = 0 → outAs B n E (bS (beg B n) (pAsk B n)) (h 454 55) v (h' 454 55) (fun p => apM B n (otM (h 454 38)) (otD (h 454 38)) E p h' ∧ h' 454 38 = otM (h 454 38) ∧ v = ptT p)) ∧ ((v < 0 ∧ h' 454 38 = h 454 38) ∨ (0 ≤ v ∧ h' 454 38 = otM (h 454 38))) ∧ (∀ b s, ¬ (b = 454 ∧ (s = 17 ∨ (25 ≤ s ∧ s ≤ 31) ∨ s = 34 ∨ s = 38 ∨ s = 51 ∨ s = 53 ∨ s = 55)) → ¬ (b = 472 ∧ (s = 6 ∨ s = 7)) → ¬ (b = 473 ∧ 0 ≤ s ∧ s < 2000) → ¬ (460 ≤ b ∧ b ≤ 470 ∧ b ≠ 464 ∧ otD (h 454 38) ≤ s ∧ s < otD (h 454 38) + 1100) → ¬ (b = 464 ∧ 3 * otD (h 454 38) ≤ s ∧ s < 3 * otD (h 454 38) + 3300) → ¬ ((b = 474 ∨ b = 475) ∧ 0 ≤ s ∧ s < 3) → ¬ (b = otM (h 454 38) ∧ (s = 3 ∨ s = 4 ∨ s = 5 ∨ s = 9 ∨ s = 12 ∨ s = 17 ∨ s = 18 ∨ s = 20 ∨ s = 26 ∨ s = 27)) → ¬ (otM (h 454 38) + 1 ≤ b ∧ b ≤ otM (h 454 38) + 11 ∧ 0 ≤ s) → h' b s = h b s)) := by
  have T1 := tb.2.1
  have T2 := tb.2.2.1
  unfold gX14_ask
  refine OK_jb2 (vX14_isDown (by (first | assumption | omega | ((try dsimp only [jt2, jt3, jt4]); first | omega | (simp (disch := omega) only [jst_eq, jst_ne, jst_ni, jst_o, jI_i, jcpy_out, w32_id, jdiv_nn, jshr_k, jand_255] <;> first | done | omega | assumption)) | (intros; simp (disch := omega) only [jst_eq, jst_ne, jst_ni, jst_o, jI_i, jcpy_out, w32_id, jdiv_nn, *] <;> first | done | omega) | (intros; simp (disch := omega) only [jst_eq, jst_ne, jst_ni, jst_o, jI_i, jcpy_out, w32_id, jdiv_nn] at * <;> first | done | omega | assumption) | (intros; first | rfl | (exfalso; omega) | ((repeat' apply And.intro) <;> first | assumption | rfl | omega | trivial))))) (fun v2 h3 r1 => ?_)
  try dsimp only [Sum.elim_inl, Sum.elim_inr, jt2, jt3, jt4, jt5, jt6, jt7, jt8] at r1
  obtain ⟨dv1, dh1⟩ := r1
  try simp (disch := omega) only [jst_eq, jst_ne, jst_ni, jI_i, jcmp_lt, jcmp_gt, w32_id, jcpy_out, Sum.elim_inl, Sum.elim_inr, jt2, jt3, jt4, jt5, jt6, jt7, jt8] at dv1
  try simp (disch := omega) only [jst_eq, jst_ne, jst_ni, jI_i, jcmp_lt, jcmp_gt, w32_id, jcpy_out, Sum.elim_inl, Sum.elim_inr, jt2, jt3, jt4, jt5, jt6, jt7, jt8] at dh1
  have F3 : ∀ a s, ¬ (a = 454 ∧ s = 51) → h3 a s = h a s := fun a s y => by { rw [dh1]; exact jst_o y }
  have n53 : h3 454 53 = n := by { rw [F3 _ _ (by omega)]; exact tb.1.symm }
  refine OK_if (fun c1 => ?_) (fun c1 => ?_)
  · skip
    try simp (disch := omega) only [jst_eq, jst_ne, jst_ni, jI_i, jcmp_lt, jcmp_gt, w32_id, jcpy_out, Sum.elim_inl, Sum.elim_inr, jt2, jt3, jt4, jt5, jt6, jt7, jt8] at c1
    refine OK_jb (vX14_takeTape (by (rw [n53]; exact ⟨T1, T2⟩))) (fun h6 r2 => ?_)
    try dsimp only [Sum.elim_inl, Sum.elim_inr, jt2, jt3, jt4, jt5, jt6, jt7, jt8] at r2
    obtain ⟨z2, b2, fr2⟩ := r2
    try simp (disch := omega) only [jst_eq, jst_ne, jst_ni, jI_i, jcmp_lt, jcmp_gt, w32_id, jcpy_out, Sum.elim_inl, Sum.elim_inr, jt2, jt3, jt4, jt5, jt6, jt7, jt8] at z2
    try simp (disch := omega) only [jst_eq, jst_ne, jst_ni, jI_i, jcmp_lt, jcmp_gt, w32_id, jcpy_out, Sum.elim_inl, Sum.elim_inr, jt2, jt3, jt4, jt5, jt6, jt7, jt8] at b2
    try simp (disch := omega) only [jst_eq, jst_ne, jst_ni, jI_i, jcmp_lt, jcmp_gt, w32_id, jcpy_out, Sum.elim_inl, Sum.elim_inr, jt2, jt3, jt4, jt5, jt6, jt7, jt8] at fr2
    have F6 : ∀ a s, ¬ (a = 454 ∧ (s = 25 ∨ s = 51 ∨ s = 53)) → ¬ (a = 473 ∧ 0 ≤ s ∧ s < 2000) → h6 a s = h a s := fun a s y1 y2 => by { rw [fr2 a s y1 (by omega), F3 a s (by omega)] }
    have TM6 : TM B n h6 := ⟨by { rw [z2.2.2]; exact n53 }, T1, T2, fun i i0 i1 => by { rw [b2 i i0 (by omega), F3 _ _ (by omega)]; exact tb.2.2.2 i i0 i1 }⟩
    have OM6 : ownsM h6 E Rf := ownsM_fr om.1 (F6 _ _ (by omega) (by omega)) (fun a s a0 a1 => F6 _ _ (by omega) (by omega)) ⟨fun a s a0 a1 a2 a3 a4 => F6 _ _ (by omega) (by omega), fun s s0 s1 => F6 _ _ (by omega) (by omega)⟩
    have E38 : h6 454 38 = h 454 38 := F6 _ _ (by omega) (by omega)
    have E55 : h6 454 55 = h 454 55 := F6 _ _ (by omega) (by omega)
    have RA : ∀ a D, (a = 476 ∧ D = 0) ∨ (a = 615 ∧ D = 1100) → raB B n a D E Rf h6 := fun a D w => by { have LA : a = 476 ∨ a = 615 := (by omega); refine ⟨⟨LA, ?_, by omega, by omega⟩, TM6, OM6.1, OM6.2.2.2.2, OM6.2.2.1, by rw [F6 _ _ (by omega) (by omega)]; exact om.2, ?_, ?_⟩; { rw [F6 _ _ (by omega) (by omega)]; rcases w with ⟨w1, w2⟩ | ⟨w1, w2⟩; { rw [w1, w2]; exact ar.1.1 }; { rw [w1, w2]; exact ar.1.2 } }; { rw [F6 _ _ (by omega) (by omega), F6 _ _ (by omega) (by omega)]; exact (ar.2 a LA).1 }; { rw [F6 _ _ (by omega) (by omega), F6 _ _ (by omega) (by omega)]; exact (ar.2 a LA).2 } }
    have FR : ∀ (a D : Int) (h' : AH), frAo a D h6 h' → ∀ b s, ¬ (b = 454 ∧ (s = 17 ∨ (25 ≤ s ∧ s ≤ 31) ∨ s = 34 ∨ s = 38 ∨ s = 51 ∨ s = 53 ∨ s = 55)) → ¬ (b = 472 ∧ (s = 6 ∨ s = 7)) → ¬ (b = 473 ∧ 0 ≤ s ∧ s < 2000) → ¬ (460 ≤ b ∧ b ≤ 470 ∧ b ≠ 464 ∧ D ≤ s ∧ s < D + 1100) → ¬ (b = 464 ∧ 3 * D ≤ s ∧ s < 3 * D + 3300) → ¬ ((b = 474 ∨ b = 475) ∧ 0 ≤ s ∧ s < 3) → ¬ (b = a ∧ (s = 3 ∨ s = 4 ∨ s = 5 ∨ s = 9 ∨ s = 12 ∨ s = 17 ∨ s = 18 ∨ s = 20 ∨ s = 26 ∨ s = 27)) → ¬ (a + 1 ≤ b ∧ b ≤ a + 11 ∧ 0 ≤ s) → h' b s = h b s := fun a D h' f b s y1 y2 y3 y4 y5 y6 y7 y8 => (f b s (by omega) y2 y4 y5 y6 y7 y8).trans (F6 b s (by omega) y3)
    refine OK_jg (by (first | assumption | omega | ((try dsimp only [jt2, jt3, jt4]); first | omega | (simp (disch := omega) only [jst_eq, jst_ne, jst_ni, jst_o, jI_i, jcpy_out, w32_id, jdiv_nn, jshr_k, jand_255] <;> first | done | omega | assumption)) | (intros; simp (disch := omega) only [jst_eq, jst_ne, jst_ni, jst_o, jI_i, jcpy_out, w32_id, jdiv_nn, *] <;> first | done | omega) | (intros; simp (disch := omega) only [jst_eq, jst_ne, jst_ni, jst_o, jI_i, jcpy_out, w32_id, jdiv_nn] at * <;> first | done | omega | assumption) | (intros; first | rfl | (exfalso; omega) | ((repeat' apply And.intro) <;> first | assumption | rfl | omega | trivial)))) ?_ -- o3
    refine OK_if (fun c2 => ?_) (fun c2 => ?_)
    · skip
      try simp (disch := omega) only [jst_eq, jst_ne, jst_ni, jI_i, jcmp_lt, jcmp_gt, w32_id, jcpy_out, Sum.elim_inl, Sum.elim_inr, jt2, jt3, jt4, jt5, jt6, jt7, jt8] at c2
      have O1 : otM (h 454 38) = 615 ∧ otD (h 454 38) = 1100 := ⟨if_pos (E38.symm.trans c2), if_pos (E38.symm.trans c2)⟩
      refine OK_mono (vX14_ask_j36 (B := B) (n := n) (D := otD (h 454 38)) (E := E) (Rf := Rf) _ (by exact hB) (by exact RA _ _ (Or.inr ⟨rfl, O1.2⟩))) (fun r r3 => ?_)
      obtain ⟨y1, y2⟩ := r
      try dsimp only [Sum.elim_inl, Sum.elim_inr, jt2, jt3, jt4, jt5, jt6, jt7, jt8] at r3
      obtain ⟨oo3, fk3, fr3⟩ := r3
      try simp (disch := omega) only [jst_eq, jst_ne, jst_ni, jI_i, jcmp_lt, jcmp_gt, w32_id, jcpy_out, Sum.elim_inl, Sum.elim_inr, jt2, jt3, jt4, jt5, jt6, jt7, jt8] at oo3
      try simp (disch := omega) only [jst_eq, jst_ne, jst_ni, jI_i, jcmp_lt, jcmp_gt, w32_id, jcpy_out, Sum.elim_inl, Sum.elim_inr, jt2, jt3, jt4, jt5, jt6, jt7, jt8] at fk3
      try simp (disch := omega) only [jst_eq, jst_ne, jst_ni, jI_i, jcmp_lt, jcmp_gt, w32_id, jcpy_out, Sum.elim_inl, Sum.elim_inr, jt2, jt3, jt4, jt5, jt6, jt7, jt8] at fr3
      try dsimp only [Sum.elim_inl, Sum.elim_inr, jt2, jt3, jt4, jt5, jt6, jt7, jt8]
      try dsimp only [Sum.elim_inl, Sum.elim_inr, jt2, jt3, jt4, jt5, jt6, jt7, jt8]
      refine ⟨?_, ?_, ?_, ?_⟩
      · (first | assumption | omega | ((try dsimp only [jt2, jt3, jt4]); first | omega | (simp (disch := omega) only [jst_eq, jst_ne, jst_ni, jst_o, jI_i, jcpy_out, w32_id, jdiv_nn, jshr_k, jand_255] <;> first | done | omega | assumption)) | (intros; simp (disch := omega) only [jst_eq, jst_ne, jst_ni, jst_o, jI_i, jcpy_out, w32_id, jdiv_nn, *] <;> first | done | omega) | (intros; simp (disch := omega) only [jst_eq, jst_ne, jst_ni, jst_o, jI_i, jcpy_out, w32_id, jdiv_nn] at * <;> first | done | omega | assumption) | (intros; first | rfl | (exfalso; omega) | ((repeat' apply And.intro) <;> first | assumption | rfl | omega | trivial))) -- o6 e1.1
      · (intro _; rw [E55] at oo3; rw [O1.1]; exact oo3) -- o7 e1.2
      · (rw [E38] at fk3; rw [O1.1]; exact fk3) -- o8 e1.3
      · (rw [O1.1]; exact FR _ _ _ fr3) -- o9 e1.4
    · skip
      try simp (disch := omega) only [jst_eq, jst_ne, jst_ni, jI_i, jcmp_lt, jcmp_gt, w32_id, jcpy_out, Sum.elim_inl, Sum.elim_inr, jt2, jt3, jt4, jt5, jt6, jt7, jt8] at c2
      have O1 : otM (h 454 38) = 476 ∧ otD (h 454 38) = 0 := ⟨if_neg (fun z => c2 (E38.trans z)), if_neg (fun z => c2 (E38.trans z))⟩
      refine OK_mono (vX14_ask_j36 (B := B) (n := n) (D := otD (h 454 38)) (E := E) (Rf := Rf) _ (by exact hB) (by exact RA _ _ (Or.inl ⟨rfl, O1.2⟩))) (fun r r4 => ?_)
      obtain ⟨y3, y4⟩ := r
      try dsimp only [Sum.elim_inl, Sum.elim_inr, jt2, jt3, jt4, jt5, jt6, jt7, jt8] at r4
      obtain ⟨oo4, fk4, fr4⟩ := r4
      try simp (disch := omega) only [jst_eq, jst_ne, jst_ni, jI_i, jcmp_lt, jcmp_gt, w32_id, jcpy_out, Sum.elim_inl, Sum.elim_inr, jt2, jt3, jt4, jt5, jt6, jt7, jt8] at oo4
      try simp (disch := omega) only [jst_eq, jst_ne, jst_ni, jI_i, jcmp_lt, jcmp_gt, w32_id, jcpy_out, Sum.elim_inl, Sum.elim_inr, jt2, jt3, jt4, jt5, jt6, jt7, jt8] at fk4
      try simp (disch := omega) only [jst_eq, jst_ne, jst_ni, jI_i, jcmp_lt, jcmp_gt, w32_id, jcpy_out, Sum.elim_inl, Sum.elim_inr, jt2, jt3, jt4, jt5, jt6, jt7, jt8] at fr4
      try dsimp only [Sum.elim_inl, Sum.elim_inr, jt2, jt3, jt4, jt5, jt6, jt7, jt8]
      try dsimp only [Sum.elim_inl, Sum.elim_inr, jt2, jt3, jt4, jt5, jt6, jt7, jt8]
      refine ⟨?_, ?_, ?_, ?_⟩
      · (first | assumption | omega | ((try dsimp only [jt2, jt3, jt4]); first | omega | (simp (disch := omega) only [jst_eq, jst_ne, jst_ni, jst_o, jI_i, jcpy_out, w32_id, jdiv_nn, jshr_k, jand_255] <;> first | done | omega | assumption)) | (intros; simp (disch := omega) only [jst_eq, jst_ne, jst_ni, jst_o, jI_i, jcpy_out, w32_id, jdiv_nn, *] <;> first | done | omega) | (intros; simp (disch := omega) only [jst_eq, jst_ne, jst_ni, jst_o, jI_i, jcpy_out, w32_id, jdiv_nn] at * <;> first | done | omega | assumption) | (intros; first | rfl | (exfalso; omega) | ((repeat' apply And.intro) <;> first | assumption | rfl | omega | trivial))) -- o12 e2.1
      · (intro _; rw [E55] at oo4; rw [O1.1]; exact oo4) -- o13 e2.2
      · (rw [E38] at fk4; rw [O1.1]; exact fk4) -- o14 e2.3
      · (rw [O1.1]; exact FR _ _ _ fr4) -- o15 e2.4
  · skip
    try simp (disch := omega) only [jst_eq, jst_ne, jst_ni, jI_i, jcmp_lt, jcmp_gt, w32_id, jcpy_out, Sum.elim_inl, Sum.elim_inr, jt2, jt3, jt4, jt5, jt6, jt7, jt8] at c1
    refine OK_some ?_
    try dsimp only [Sum.elim_inl, Sum.elim_inr, jt2, jt3, jt4, jt5, jt6, jt7, jt8]
    try dsimp only [Sum.elim_inl, Sum.elim_inr, jt2, jt3, jt4, jt5, jt6, jt7, jt8]
    refine ⟨?_, ?_, ?_, ?_⟩
    · (first | assumption | omega | ((try dsimp only [jt2, jt3, jt4]); first | omega | (simp (disch := omega) only [jst_eq, jst_ne, jst_ni, jst_o, jI_i, jcpy_out, w32_id, jdiv_nn, jshr_k, jand_255] <;> first | done | omega | assumption)) | (intros; simp (disch := omega) only [jst_eq, jst_ne, jst_ni, jst_o, jI_i, jcpy_out, w32_id, jdiv_nn, *] <;> first | done | omega) | (intros; simp (disch := omega) only [jst_eq, jst_ne, jst_ni, jst_o, jI_i, jcpy_out, w32_id, jdiv_nn] at * <;> first | done | omega | assumption) | (intros; first | rfl | (exfalso; omega) | ((repeat' apply And.intro) <;> first | assumption | rfl | omega | trivial))) -- o16 e3.1
    · (first | assumption | omega | ((try dsimp only [jt2, jt3, jt4]); first | omega | (simp (disch := omega) only [jst_eq, jst_ne, jst_ni, jst_o, jI_i, jcpy_out, w32_id, jdiv_nn, jshr_k, jand_255] <;> first | done | omega | assumption)) | (intros; simp (disch := omega) only [jst_eq, jst_ne, jst_ni, jst_o, jI_i, jcpy_out, w32_id, jdiv_nn, *] <;> first | done | omega) | (intros; simp (disch := omega) only [jst_eq, jst_ne, jst_ni, jst_o, jI_i, jcpy_out, w32_id, jdiv_nn] at * <;> first | done | omega | assumption) | (intros; first | rfl | (exfalso; omega) | ((repeat' apply And.intro) <;> first | assumption | rfl | omega | trivial))) -- o17 e3.2
    · exact Or.inl ⟨by decide, F3 _ _ (by omega)⟩ -- o18 e3.3
    · exact fun b s y1 y2 y3 y4 y5 y6 y7 y8 => F3 b s (by omega) -- o19 e3.4

