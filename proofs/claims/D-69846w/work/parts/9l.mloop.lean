/-! m: a loop is told -/
theorem gT_cg {np N : Int} : ∀ {R : TR}, cgT np N R → nhT R
  | .leaf i, h => h.1
  | .branch _ s r, h => ⟨gT_cg h.1, gT_cg h.2⟩
/-- a term of m's in its region, whatever is changed elsewhere -/
def atP (h : AH) (D : Int) (R : TR) (d : Int) : Prop := ∀ hh, agR D (D + 1100) h hh → atM hh R d
theorem atP_f {h h' : AH} {D d : Int} {R : TR} (x : atP h D R d) (f : agR D (D + 1100) h h') : atP h' D R d := fun hh g => x hh (agR_tr f g)
def rgL (a : Int) : Int := if a = 805 then 2200 else 3300
def loP (h : AH) (L : LE) : Prop := (h 454 92 = 805 ∨ h 454 92 = 810) ∧ h (h 454 92) 2 = L.1.1 ∧ h (h 454 92) 4 = L.2.1.1 ∧ (∀ k, 0 ≤ k → k < L.1.1 → h (h 454 92 + 1) k = kch (L.1.2 k)) ∧ (∀ k, 0 ≤ k → k < L.2.1.1 → h (h 454 92 + 2) k = kch (L.2.1.2 k) ∧ atP h (rgL (h 454 92)) (L.2.2.1 k) (h (h 454 92 + 3) k) ∧ atP h (rgL (h 454 92)) (L.2.2.2.2.1 k) (h (h 454 92 + 4) k)) ∧ atP h (rgL (h 454 92)) L.2.2.2.1 (h (h 454 92) 6) ∧ atP h (rgL (h 454 92)) L.2.2.2.2.2 (h (h 454 92) 8) ∧ (h (h 454 92 + 1) (-2) = 101 ∧ h (h 454 92 + 1) (-1) = 2) ∧ (h (h 454 92 + 3) (-2) = 101 ∧ h (h 454 92 + 3) (-1) = 4) ∧ h (h 454 92 + 4) (-2) = 101 ∧ h (h 454 92 + 4) (-1) = 4
theorem loP_M {h : AH} {L : LE} (x : loP h L) : loM h L := by
  obtain ⟨x1, x2, x3, x4, x5, x6, x7, x8⟩ := x
  exact ⟨x1, x2, x3, x4, fun k k0 k1 => ⟨(x5 k k0 k1).1, (x5 k k0 k1).2.1 h agR_rfl, (x5 k k0 k1).2.2 h agR_rfl⟩, x6 h agR_rfl, x7 h agR_rfl, x8⟩
theorem loP_f {h h' : AH} {L : LE} (x : loP h L) (e : h' 454 92 = h 454 92) (f : ∀ b s, h 454 92 ≤ b → b ≤ h 454 92 + 4 → h' b s = h b s) (g : agR (rgL (h 454 92)) (rgL (h 454 92) + 1100) h h') : loP h' L := by
  obtain ⟨x1, x2, x3, x4, x5, x6, x7, x8, x9, x10, x11⟩ := x
  unfold loP
  rw [e]
  refine ⟨x1, by rw [f _ _ (by omega) (by omega)]; exact x2, by rw [f _ _ (by omega) (by omega)]; exact x3, fun k k0 k1 => by rw [f _ _ (by omega) (by omega)]; exact x4 k k0 k1, fun k k0 k1 => ?_, ?_, ?_, ?_, ?_, ?_, ?_⟩
  · obtain ⟨y1, y2, y3⟩ := x5 k k0 k1
    rw [f _ _ (by omega) (by omega), f _ _ (by omega) (by omega), f _ _ (by omega) (by omega)]
    exact ⟨y1, atP_f y2 g, atP_f y3 g⟩
  · rw [f _ _ (by omega) (by omega)]; exact atP_f x6 g
  · rw [f _ _ (by omega) (by omega)]; exact atP_f x7 g
  · rw [f _ _ (by omega) (by omega), f _ _ (by omega) (by omega)]; exact x8
  · rw [f _ _ (by omega) (by omega), f _ _ (by omega) (by omega)]; exact x9
  · rw [f _ _ (by omega) (by omega)]; exact x10
  · rw [f _ _ (by omega) (by omega)]; exact x11
theorem loC_lo {B : Int → Int} {n a D : Int} {E : EV} {p : LPt} {h h' : AH} (ac : acE E) (l0 : E.2.2.1 = 0) (ew : ∀ a, 26 ≤ a → 0 ≤ E.1.2.2.2.1 a) (hB : ∀ i, 0 ≤ i → i < n → 0 ≤ B i ∧ B i < 256) (n0 : 0 ≤ n) (hn : n ≤ 2000) (e : bS (beg B n) (pLo B n) = .inr p) (k : fkLo E p = 1000000) (la : isLm a) (c : loC h a D E p) (eD : D = rgL a) (e92 : h' 454 92 = a) (f : ∀ b s, ¬ (b = 454 ∧ s = 92) → h' b s = h b s) (ar : (h (a + 1) (-2) = 101 ∧ h (a + 1) (-1) = 2) ∧ (h (a + 3) (-2) = 101 ∧ h (a + 3) (-1) = 4) ∧ (h (a + 4) (-2) = 101 ∧ h (a + 4) (-1) = 4)) : loP h' (LEo E p) ∧ vLE E (LEo E p) := by
  have la : a = 805 ∨ a = 810 := la
  obtain ⟨v1, v2, v3, v4, v5, v6⟩ := lo_vLE ac l0 ew hB n0 hn e k
  refine ⟨?_, v1⟩
  obtain ⟨⟨c1, c2⟩, ⟨c3, c4⟩, c5, c6, c7, c8⟩ := c
  have SL := skL_len (E := EL E p.1) (ts := p.2.1)
  have at_ : ∀ {l : List Int} {t : TR} {d : Int}, (gT t ∧ fkE (EL E l) t 0 0 = 1000000 ∧ nhT (rsE (EL E l) t 0)) → (D ≤ d ∧ d + sz t ≤ D + 1100 ∧ dnM h (EL E l) t d) → atP h' (rgL (h' 454 92)) (rsE (EL E l) t 0) d := fun {l t d} g dn hh ag => by
    rw [e92, ← eD] at ag
    have m := dn.2.2 g.2.1 hh ⟨fun b s b0 b1 b2 s0 s1 => by rw [ag.1 b s b0 b1 b2 (by omega) (by omega)]; exact f b s (by omega), fun s s0 s1 => by rw [ag.2 s (by omega) (by omega)]; exact f 464 s (by omega)⟩
    exact resM_vw m g.2.2 (by decide)
  refine ⟨by rw [e92]; exact la, by rw [e92, f _ _ (by omega)]; exact c1, by rw [e92, f _ _ (by omega)]; exact c3, fun k k0 k1 => by rw [e92, f _ _ (by omega)]; exact (c2 k k0 k1).1, fun k k0 k1 => ?_, ?_, ?_, ?_, ?_, ?_⟩
  · have k1' : k < ((skL (EL E p.1) p.2.1).length : Int) := k1
    obtain ⟨e1, e2⟩ := trN_g (l := p.2.1) k0 (by omega)
    obtain ⟨e3, e4⟩ := trN_g (l := p.2.2.2.2.1) k0 (by omega)
    obtain ⟨t, s1, s2, s3⟩ := skL_k (E := EL E p.1) (ts := p.2.1) k0 k1'
    rw [e1] at s1; cases s1
    have x := c4 k.toNat (by omega) (by omega) _ e1
    rw [show ((k.toNat : Nat) : Int) = k by omega] at x
    have y := c5 k.toNat (by omega) _ e1
    have z := c6 k.toNat (by omega) _ e3
    rw [show ((k.toNat : Nat) : Int) = k by omega] at y z
    refine ⟨?_, ?_, ?_⟩
    · rw [e92, f _ _ (by omega), x.1]
      show kch (kdE (EL E p.1) (trN p.2.1 k)) = kch (kL (skL (EL E p.1) p.2.1) k)
      rw [s3]
    · rw [show h' (h' 454 92 + 3) k = h (a + 3) k by rw [e92]; exact f _ _ (by omega)]; exact at_ (v5 _ e2) y
    · rw [show h' (h' 454 92 + 4) k = h (a + 4) k by rw [e92]; exact f _ _ (by omega)]; exact at_ (v6 _ (Or.inl e4)) z
  · rw [show h' (h' 454 92) 6 = h a 6 by rw [e92]; exact f _ _ (by omega)]; exact at_ (v6 _ (Or.inr (Or.inl rfl))) c7
  · rw [show h' (h' 454 92) 8 = h a 8 by rw [e92]; exact f _ _ (by omega)]; exact at_ (v6 _ (Or.inr (Or.inr rfl))) c8
  · rw [e92, f _ _ (by omega), f _ _ (by omega)]; exact ar.1
  · rw [e92, f _ _ (by omega), f _ _ (by omega)]; exact ar.2.1
  · rw [e92, f _ _ (by omega), f _ _ (by omega)]; exact ar.2.2
/-- arrays of m's loops -/
def arM (h : AH) : Prop := (h 805 0 = 2200 ∧ h 810 0 = 3300) ∧ ∀ a, a = 805 ∨ a = 810 → (h (a + 1) (-2) = 101 ∧ h (a + 1) (-1) = 2) ∧ (h (a + 2) (-2) = 101 ∧ h (a + 2) (-1) = 3) ∧ (h (a + 3) (-2) = 101 ∧ h (a + 3) (-1) = 4) ∧ (h (a + 4) (-2) = 101 ∧ h (a + 4) (-1) = 4)
theorem vX14_loop_j36 (t0 : Int) {h : AH} {B : Int → Int} {n D N : Int} {E : EV} {Rf : Int → TR} {W : Int → Int → Int → VW} (hB : ∀ i, 0 ≤ i → i < n → 0 ≤ B i ∧ B i < 256) (lo : isLm t0 ∧ h t0 0 = D ∧ 2200 ≤ D ∧ D ≤ 3300 ∧ D = rgL t0) (t : TM B n h) (om : ownsM h E Rf ∧ wOK E Rf W ∧ E.2.2.1 = 0 ∧ (0 ≤ h 454 35 ∧ h 454 35 ≤ 2000)) (ar : (h (t0 + 1) (-2) = 101 ∧ h (t0 + 1) (-1) = 2) ∧ (h (t0 + 2) (-2) = 101 ∧ h (t0 + 2) (-1) = 3) ∧ (h (t0 + 3) (-2) = 101 ∧ h (t0 + 3) (-1) = 4) ∧ (h (t0 + 4) (-2) = 101 ∧ h (t0 + 4) (-1) = 4)) (mb : mkB h N ∧ N ≤ 890000000) (cs : h 454 21 = -1 ∧ bd20 h) : OK (gX14_loop_j36 t0 h) (fun r => jt2 r fun v h' => (outLo E (bS (beg B n) (pLo B n)) (h 454 55) v (h' 454 55) (fun p => ∃ H, HS W (LEo E p) (inN (LEo E p)).toNat H ∧ (rnM h' E Rf W (LEo E p) ∧ loP h' (LEo E p)) ∧ v = cntR H ∧ h' 454 92 = t0)) ∧ ((v < 0 ∧ ∀ b s, ¬ (b = 454 ∧ (s = 17 ∨ (26 ≤ s ∧ s ≤ 31) ∨ s = 34)) → ¬ (b = 472 ∧ (s = 6 ∨ s = 7)) → ¬ (460 ≤ b ∧ b ≤ 470 ∧ b ≠ 464 ∧ D ≤ s ∧ s < D + 1100) → ¬ (b = 464 ∧ 3 * D ≤ s ∧ s < 3 * D + 3300) → ¬ (b = t0 ∧ 1 ≤ s ∧ s ≤ 8) → ¬ (t0 + 1 ≤ b ∧ b ≤ t0 + 4 ∧ 0 ≤ s ∧ s < 4) → ¬ ((b = 474 ∨ b = 475) ∧ 0 ≤ s ∧ s < 3) → ¬ (b = 454 ∧ s = 55) → h' b s = h b s) ∨ (0 ≤ v ∧ ∀ b s, ¬ (b = 454 ∧ (s = 17 ∨ s = 20 ∨ (26 ≤ s ∧ s ≤ 31) ∨ s = 34 ∨ (92 ≤ s ∧ s ≤ 95) ∨ s = 97 ∨ (99 ≤ s ∧ s ≤ 108))) → ¬ (b = 472 ∧ (s = 6 ∨ s = 7)) → ¬ (460 ≤ b ∧ b ≤ 470 ∧ b ≠ 464 ∧ D ≤ s ∧ s < D + 1100) → ¬ (b = 464 ∧ 3 * D ≤ s ∧ s < 3 * D + 3300) → ¬ (805 ≤ b ∧ b ≤ 814 ∧ 0 ≤ s) → ¬ ((b = 474 ∨ b = 475) ∧ 0 ≤ s ∧ s < 3) → ¬ ((b = 815 ∨ b = 816) ∧ 0 ≤ s) → h' b s = h b s)) ∧ (mkB h' (N + 257))) := by
  have LA : t0 = 805 ∨ t0 = 810 := lo.1
  have n2 := t.2.2.1
  have n0 := t.2.1
  unfold gX14_loop_j36
  refine OK_jb2 (vX14_readLoop (B := B) (n := n) (D := D) (E := E) (Rf := Rf) _ (by (first | assumption | omega | ((try dsimp only [jt2, jt3, jt4]); first | omega | (simp (disch := omega) only [jst_eq, jst_ne, jst_ni, jst_o, jI_i, jcpy_out, w32_id, jdiv_nn, jshr_k, jand_255] <;> first | done | omega | assumption)) | (intros; simp (disch := omega) only [jst_eq, jst_ne, jst_ni, jst_o, jI_i, jcpy_out, w32_id, jdiv_nn, *] <;> first | done | omega) | (intros; simp (disch := omega) only [jst_eq, jst_ne, jst_ni, jst_o, jI_i, jcpy_out, w32_id, jdiv_nn] at * <;> first | done | omega | assumption) | (intros; first | rfl | (exfalso; omega) | ((repeat' apply And.intro) <;> first | assumption | rfl | omega | trivial)))) (by exact ⟨lo.1, lo.2.1, lo.2.2.1, lo.2.2.2.1⟩) (by (first | assumption | omega | ((try dsimp only [jt2, jt3, jt4]); first | omega | (simp (disch := omega) only [jst_eq, jst_ne, jst_ni, jst_o, jI_i, jcpy_out, w32_id, jdiv_nn, jshr_k, jand_255] <;> first | done | omega | assumption)) | (intros; simp (disch := omega) only [jst_eq, jst_ne, jst_ni, jst_o, jI_i, jcpy_out, w32_id, jdiv_nn, *] <;> first | done | omega) | (intros; simp (disch := omega) only [jst_eq, jst_ne, jst_ni, jst_o, jI_i, jcpy_out, w32_id, jdiv_nn] at * <;> first | done | omega | assumption) | (intros; first | rfl | (exfalso; omega) | ((repeat' apply And.intro) <;> first | assumption | rfl | omega | trivial)))) (by exact ⟨om.1.1, om.1.2.2.2.2, om.1.2.2.1, om.2.2.1, om.2.2.2⟩) (by exact ar)) (fun t9 h11 r1 => ?_)
  try dsimp only [Sum.elim_inl, Sum.elim_inr, jt2, jt3, jt4, jt5, jt6, jt7, jt8] at r1
  obtain ⟨lm1, fr1⟩ := r1
  try simp (disch := omega) only [jst_eq, jst_ne, jst_ni, jI_i, jcmp_lt, jcmp_gt, w32_id, jcpy_out, Sum.elim_inl, Sum.elim_inr, jt2, jt3, jt4, jt5, jt6, jt7, jt8] at lm1
  try simp (disch := omega) only [jst_eq, jst_ne, jst_ni, jI_i, jcmp_lt, jcmp_gt, w32_id, jcpy_out, Sum.elim_inl, Sum.elim_inr, jt2, jt3, jt4, jt5, jt6, jt7, jt8] at fr1
  have F11 : frLm t0 D h h11 := fr1
  have MB11 : mkB h11 N := by { obtain ⟨m1, m2, m3, m4⟩ := mb.1; refine ⟨?_, fun p p0 p1 => ?_, ?_, fun p p0 p1 => ?_⟩; { rw [F11 _ _ (by omega) (by omega) (by omega) (by omega) (by omega) (by omega) (by omega)]; exact m1 }; { rw [F11 _ _ (by omega) (by omega) (by omega) (by omega) (by omega) (by omega) (by omega), F11 _ _ (by omega) (by omega) (by omega) (by omega) (by omega) (by omega) (by omega)]; exact m2 p p0 p1 }; { rw [F11 _ _ (by omega) (by omega) (by omega) (by omega) (by omega) (by omega) (by omega)]; exact m3 }; { rw [F11 _ _ (by omega) (by omega) (by omega) (by omega) (by omega) (by omega) (by omega), F11 _ _ (by omega) (by omega) (by omega) (by omega) (by omega) (by omega) (by omega)]; exact m4 p p0 p1 } }
  have X11 : (∃ z, bS (beg B n) (pLo B n) = .inl z ∧ t9 = 472 ∧ MF z h11) ∨ (∃ p, bS (beg B n) (pLo B n) = .inr p ∧ resK (fkLo E p) t9 h11 ∧ loC h11 t0 D E p) := by { cases e : bS (beg B n) (pLo B n) with | inl z => { rw [e] at lm1; exact Or.inl ⟨z, rfl, lm1⟩ } | inr p => { rw [e] at lm1; have k := fkLo_M (E := E) (pLo_ok hB n0 n2 e).1; refine Or.inr ⟨p, rfl, ?_, lm1.2⟩; rw [k]; exact lm1.1 } }
  refine OK_jq (fun c1 => ?_) (fun c1 => ?_)
  · skip
    have T9 : t9 = 472 := by { rcases X11 with ⟨_, _, x, _⟩ | ⟨p, _, x, _⟩; { exact x }; { exact (x.2 (fun z => c1 (x.1 z))).1 } }
    refine OK_jg (by (first | assumption | omega | ((try dsimp only [jt2, jt3, jt4]); first | omega | (simp (disch := omega) only [jst_eq, jst_ne, jst_ni, jst_o, jI_i, jcpy_out, w32_id, jdiv_nn, jshr_k, jand_255] <;> first | done | omega | assumption)) | (intros; simp (disch := omega) only [jst_eq, jst_ne, jst_ni, jst_o, jI_i, jcpy_out, w32_id, jdiv_nn, *] <;> first | done | omega) | (intros; simp (disch := omega) only [jst_eq, jst_ne, jst_ni, jst_o, jI_i, jcpy_out, w32_id, jdiv_nn] at * <;> first | done | omega | assumption) | (intros; first | rfl | (exfalso; omega) | ((repeat' apply And.intro) <;> first | assumption | rfl | omega | trivial)))) ?_ -- o6
    refine OK_jb2 (vX14_faulty _ (by (rcases X11 with ⟨z, e, x, y⟩ | ⟨p, e, x, _⟩; { exact ⟨x, by rw [y.1]; decide, by rw [y.1]; decide⟩ }; { have nk : fkLo E p ≠ 1000000 := (fun z => c1 (x.1 z)); obtain ⟨y1, y2, y3, y4, y5, _⟩ := x.2 nk; exact ⟨y1, by omega, by omega⟩ }))) (fun v14 h15 r2 => ?_)
    try dsimp only [Sum.elim_inl, Sum.elim_inr, jt2, jt3, jt4, jt5, jt6, jt7, jt8] at r2
    obtain ⟨vv2, fr2⟩ := r2
    try simp (disch := omega) only [jst_eq, jst_ne, jst_ni, jI_i, jcmp_lt, jcmp_gt, w32_id, jcpy_out, Sum.elim_inl, Sum.elim_inr, jt2, jt3, jt4, jt5, jt6, jt7, jt8] at vv2
    try simp (disch := omega) only [jst_eq, jst_ne, jst_ni, jI_i, jcmp_lt, jcmp_gt, w32_id, jcpy_out, Sum.elim_inl, Sum.elim_inr, jt2, jt3, jt4, jt5, jt6, jt7, jt8] at fr2
    refine OK_some ?_
    try dsimp only [Sum.elim_inl, Sum.elim_inr, jt2, jt3, jt4, jt5, jt6, jt7, jt8]
    try dsimp only [Sum.elim_inl, Sum.elim_inr, jt2, jt3, jt4, jt5, jt6, jt7, jt8]
    refine ⟨?_, ?_, ?_⟩
    · (rcases X11 with ⟨z, e, x, y⟩ | ⟨p, e, x, _⟩; { rw [e, fr2]; exact ⟨by rw [vv2, y.1]; decide, by rw [jst_eq]; exact y.2⟩ }; { have nk : fkLo E p ≠ 1000000 := (fun z => c1 (x.1 z)); have y := x.2 nk; rw [e, fr2]; exact ⟨fun z => absurd z nk, fun _ => ⟨by rw [vv2, y.2.1], by rw [jst_eq]; exact y.2.2.1⟩⟩ }) -- o8 e1.1
    · exact Or.inl ⟨by (rcases X11 with ⟨z, e, x, y⟩ | ⟨p, e, x, _⟩; { rw [vv2, y.1]; decide }; { have nk : fkLo E p ≠ 1000000 := (fun z => c1 (x.1 z)); have y := x.2 nk; rw [vv2]; omega }), by rw [fr2]; exact fun b s y1 y2 y3 y4 y5 y6 y7 y8 => (by rw [jst_o y8]; exact F11 b s y1 y2 y3 y4 y5 y6 y7)⟩ -- o9 e1.2
    · (rw [fr2]; obtain ⟨m1, m2, m3, m4⟩ := MB11; refine ⟨⟨?_, ?_⟩, fun p p0 p1 => ?_, ⟨?_, ?_⟩, fun p p0 p1 => ?_⟩; { rw [jst_o (by omega)]; exact m1.1 }; { rw [jst_o (by omega)]; omega }; { rw [jst_o (by omega), jst_o (by omega)]; exact m2 p p0 p1 }; { rw [jst_o (by omega)]; exact m3.1 }; { rw [jst_o (by omega)]; omega }; { rw [jst_o (by omega), jst_o (by omega)]; exact m4 p p0 p1 }) -- o10 e1.3
  · skip
    obtain ⟨p, eP, rk, lc⟩ := X11.resolve_left (fun ⟨z, _, x, _⟩ => by omega)
    have KF : fkLo E p = 1000000 := Classical.byContradiction fun z => by { have := (rk.2 z).1; omega }
    refine OK_jl ?_
    have F16 : ∀ b s, ¬ (b = 454 ∧ s = 92) → jst h11 454 92 t0 b s = h11 b s := fun b s y => jst_o y
    have V16 : jst h11 454 92 t0 454 92 = t0 := jst_eq
    generalize jst h11 454 92 t0 = g16 at *
    have A11 : ∀ b s, s < 0 → h11 b s = h b s := fun b s z => F11 b s (by omega) (by omega) (by omega) (by omega) (by omega) (by omega) (by omega)
    obtain ⟨LM, VX⟩ := loC_lo (h' := g16) om.1.2.1 om.2.2.1 om.1.2.2.2.2.2.1 hB n0 n2 eP KF lo.1 lc lo.2.2.2.2 V16 F16 (by rw [A11 _ _ (by decide), A11 _ _ (by decide), A11 _ _ (by decide), A11 _ _ (by decide), A11 _ _ (by decide), A11 _ _ (by decide)]; exact ⟨ar.1, ar.2.2.1, ar.2.2.2⟩)
    have G16 : ∀ b s, ¬ (b = 454 ∧ (s = 17 ∨ (26 ≤ s ∧ s ≤ 31) ∨ s = 34 ∨ s = 92)) → ¬ (b = 472 ∧ (s = 6 ∨ s = 7)) → ¬ (460 ≤ b ∧ b ≤ 470 ∧ b ≠ 464 ∧ D ≤ s ∧ s < D + 1100) → ¬ (b = 464 ∧ 3 * D ≤ s ∧ s < 3 * D + 3300) → ¬ (805 ≤ b ∧ b ≤ 814 ∧ 0 ≤ s) → ¬ ((b = 474 ∨ b = 475) ∧ 0 ≤ s ∧ s < 3) → g16 b s = h b s := fun b s y1 y2 y3 y4 y5 y6 => by { rw [F16 b s (by omega)]; exact F11 b s (by omega) y2 y3 y4 (by omega) (by omega) y6 }
    have OM16 : ownsM g16 E Rf := ownsM_fr om.1 (G16 _ _ (by omega) (by omega) (by omega) (by omega) (by omega) (by omega)) (fun a s a0 a1 => G16 _ _ (by omega) (by omega) (by omega) (by omega) (by omega) (by omega)) ⟨fun a s a0 a1 a2 s0 s1 => G16 _ _ (by omega) (by omega) (by omega) (by omega) (by omega) (by omega), fun s s0 s1 => G16 _ _ (by omega) (by omega) (by omega) (by omega) (by omega) (by omega)⟩
    have WM : wkM g16 E Rf W := ⟨enuM_of OM16.1 OM16.2.1 om.2.1 (fun z => by rw [om.2.2.1] at z; exact absurd z (by decide)) OM16.2.2.1 OM16.2.2.2.1 OM16.2.2.2.2.2.1 (Or.inl (by decide)), by { rw [G16 _ _ (by omega) (by omega) (by omega) (by omega) (by omega) (by omega)]; exact cs.1 }, by { rw [G16 _ _ (by omega) (by omega) (by omega) (by omega) (by omega) (by omega)]; exact cs.2 }⟩
    have RN16 : rnM g16 E Rf W (LEo E p) := ⟨WM, loP_M LM, VX⟩
    have MB16 : mkB g16 N := by { obtain ⟨m1, m2, m3, m4⟩ := MB11; refine ⟨?_, fun p p0 p1 => ?_, ?_, fun p p0 p1 => ?_⟩; { rw [F16 _ _ (by omega)]; exact m1 }; { rw [F16 _ _ (by omega), F16 _ _ (by omega)]; exact m2 p p0 p1 }; { rw [F16 _ _ (by omega)]; exact m3 }; { rw [F16 _ _ (by omega), F16 _ _ (by omega)]; exact m4 p p0 p1 } }
    refine OK_jb (vX14_playAll (N := N) _ _ (by exact ⟨MB16, by omega⟩)) (fun h18 r3 => ?_)
    try dsimp only [Sum.elim_inl, Sum.elim_inr, jt2, jt3, jt4, jt5, jt6, jt7, jt8] at r3
    obtain ⟨sn3, cs3, fr3⟩ := r3
    try simp (disch := omega) only [jst_eq, jst_ne, jst_ni, jI_i, jcmp_lt, jcmp_gt, w32_id, jcpy_out, Sum.elim_inl, Sum.elim_inr, jt2, jt3, jt4, jt5, jt6, jt7, jt8] at sn3
    try simp (disch := omega) only [jst_eq, jst_ne, jst_ni, jI_i, jcmp_lt, jcmp_gt, w32_id, jcpy_out, Sum.elim_inl, Sum.elim_inr, jt2, jt3, jt4, jt5, jt6, jt7, jt8] at cs3
    try simp (disch := omega) only [jst_eq, jst_ne, jst_ni, jI_i, jcmp_lt, jcmp_gt, w32_id, jcpy_out, Sum.elim_inl, Sum.elim_inr, jt2, jt3, jt4, jt5, jt6, jt7, jt8] at fr3
    have G18 : fPl g16 h18 := fun b s y1 y2 => fr3 b s (by omega)
    have RN18 : rnM h18 E Rf W (LEo E p) := rnM_f RN16 (by unfold bd20; rw [fr3 454 20 (by omega)]; exact WM.2.2) G18
    refine OK_jb (vX14_loop_l65 (E := E) (Rf := Rf) (W := W) (L := LEo E p) (k := 0) (N := N + 1) _ (by exact RN18) (by (refine ⟨⟨?_, fun p p0 p1 => ?_, ?_, fun p p0 p1 => ?_⟩, by omega⟩; { rw [fr3 _ _ (by omega)]; have := MB16.1; omega }; { rw [fr3 _ _ (by omega), fr3 _ _ (by omega)]; exact MB16.2.1 p p0 p1 }; { have := MB16.2.2.1; omega }; { rw [fr3 _ _ (by omega)]; have := MB16.2.2.2 p p0 p1; omega })) (by exact cs3.1) (by exact ⟨by decide, by decide⟩) (by exact sn3 _) (by rfl)) (fun o19 r4 => ?_)
    try dsimp only [Sum.elim_inl, Sum.elim_inr, jt2, jt3, jt4, jt5, jt6, jt7, jt8] at r4
    obtain ⟨q14, q24, fr4, bb4⟩ := r4
    try simp (disch := omega) only [jst_eq, jst_ne, jst_ni, jI_i, jcmp_lt, jcmp_gt, w32_id, jcpy_out, Sum.elim_inl, Sum.elim_inr, jt2, jt3, jt4, jt5, jt6, jt7, jt8] at q14
    try simp (disch := omega) only [jst_eq, jst_ne, jst_ni, jI_i, jcmp_lt, jcmp_gt, w32_id, jcpy_out, Sum.elim_inl, Sum.elim_inr, jt2, jt3, jt4, jt5, jt6, jt7, jt8] at q24
    try simp (disch := omega) only [jst_eq, jst_ne, jst_ni, jI_i, jcmp_lt, jcmp_gt, w32_id, jcpy_out, Sum.elim_inl, Sum.elim_inr, jt2, jt3, jt4, jt5, jt6, jt7, jt8] at fr4
    try simp (disch := omega) only [jst_eq, jst_ne, jst_ni, jI_i, jcmp_lt, jcmp_gt, w32_id, jcpy_out, Sum.elim_inl, Sum.elim_inr, jt2, jt3, jt4, jt5, jt6, jt7, jt8] at bb4
    obtain ⟨H, H1, H2⟩ := q14
    have IB := inN_b VX
    refine OK_some ?_
    try dsimp only [Sum.elim_inl, Sum.elim_inr, jt2, jt3, jt4, jt5, jt6, jt7, jt8]
    try dsimp only [Sum.elim_inl, Sum.elim_inr, jt2, jt3, jt4, jt5, jt6, jt7, jt8]
    refine ⟨?_, ?_, ?_⟩
    · (rw [eP]; exact ⟨fun _ => ⟨by rw [fr4.1 _ _ (by omega) (by omega), fr3 _ _ (by omega), F16 _ _ (by omega)]; exact F11 _ _ (by omega) (by omega) (by omega) (by omega) (by omega) (by omega) (by omega), H, H1, ⟨rnM_f RN18 bb4 fr4.1, loP_f LM (by rw [fr4.1 _ _ (by omega) (by omega), fr3 _ _ (by omega)]) (fun b s b0 b1 => by rw [V16] at b0 b1; rw [fr4.1 b s (by omega) (by omega)]; exact fr3 b s (by omega)) ⟨fun b s b0 b1 b2 s0 s1 => by rw [fr4.1 b s (by omega) (by omega)]; exact fr3 b s (by omega), fun s s0 s1 => by rw [fr4.1 _ _ (by omega) (by omega)]; exact fr3 _ _ (by omega)⟩⟩, H2.2.2.1, by rw [fr4.1 _ _ (by omega) (by omega), fr3 _ _ (by omega)]; exact V16⟩, fun z => absurd KF z⟩) -- o18 e2.1
    · exact Or.inr ⟨by (rw [H2.2.2.1]; exact (cntR_b H).1), fun b s y1 y2 y3 y4 y5 y6 y7 => (by rw [fr4.1 b s (by omega) y7, fr3 b s (by omega)]; exact G16 b s (by omega) y2 y3 y4 y5 y6)⟩ -- o19 e2.2
    · (have e97 := fr3 454 97 (by omega); have e1 := q24.1; have e2 := fr4.2.2; have e3 := cs3.2; have b1 := MB16.1; have b2 := MB16.2.2.1; exact ⟨⟨by omega, by omega⟩, q24.2, ⟨by omega, by omega⟩, snM_9 H2⟩) -- o20 e2.3
theorem vX14_loop {h : AH} {B : Int → Int} {n N : Int} {E : EV} {Rf : Int → TR} {W : Int → Int → Int → VW} (hB : ∀ i, 0 ≤ i → i < n → 0 ≤ B i ∧ B i < 256) (tb : n = h 454 53 ∧ 0 ≤ n ∧ n ≤ 2000 ∧ ∀ i, 0 ≤ i → i < n → h 790 i = B i) (om : ownsM h E Rf ∧ wOK E Rf W ∧ E.2.2.1 = 0 ∧ (0 ≤ h 454 35 ∧ h 454 35 ≤ 2000)) (ar : arM h) (mb : mkB h N ∧ N ≤ 890000000) (cs : h 454 21 = -1 ∧ bd20 h) (dn : h 454 54 = 0 ∨ h 454 54 = 1) (l92 : h 454 92 = 0 ∨ h 454 92 = 805 ∨ h 454 92 = 810) : OK (gX14_loop h) (fun r => jt2 r fun v h' => (h 454 54 = 1 → v = -5 ∧ h' = jst h 454 51 0) ∧ (h 454 54 = 0 → outLo E (bS (beg B n) (pLo B n)) (h 454 55) v (h' 454 55) (fun p => ∃ H, HS W (LEo E p) (inN (LEo E p)).toNat H ∧ (rnM h' E Rf W (LEo E p) ∧ loP h' (LEo E p)) ∧ v = cntR H ∧ (h' 454 92 = 805 ∨ h' 454 92 = 810))) ∧ (v < 0 → ∀ b s, ¬ (b = 454 ∧ (s = 17 ∨ (25 ≤ s ∧ s ≤ 31) ∨ s = 34 ∨ s = 51 ∨ s = 53 ∨ s = 55)) → ¬ (b = 472 ∧ (s = 6 ∨ s = 7)) → ¬ (460 ≤ b ∧ b ≤ 470 ∧ 0 ≤ s ∧ ((h 454 92 = 805 ∧ ((b ≠ 464 ∧ 3300 ≤ s ∧ s < 4400) ∨ (b = 464 ∧ 9900 ≤ s ∧ s < 13200))) ∨ (h 454 92 ≠ 805 ∧ ((b ≠ 464 ∧ 2200 ≤ s ∧ s < 3300) ∨ (b = 464 ∧ 6600 ≤ s ∧ s < 9900))))) → ¬ (0 ≤ s ∧ ((h 454 92 = 805 ∧ 810 ≤ b ∧ b ≤ 814) ∨ (h 454 92 ≠ 805 ∧ 805 ≤ b ∧ b ≤ 809))) → ¬ ((b = 474 ∨ b = 475) ∧ 0 ≤ s ∧ s < 3) → True → ¬ (b = 473 ∧ 0 ≤ s ∧ s < 2000) → h' b s = h b s) ∧ (∀ b s, ¬ (b = 454 ∧ (s = 17 ∨ s = 20 ∨ (25 ≤ s ∧ s ≤ 31) ∨ s = 34 ∨ s = 51 ∨ s = 53 ∨ s = 55 ∨ (92 ≤ s ∧ s ≤ 95) ∨ s = 97 ∨ (99 ≤ s ∧ s ≤ 108))) → ¬ (b = 472 ∧ (s = 6 ∨ s = 7)) → ¬ (460 ≤ b ∧ b ≤ 470 ∧ b ≠ 464 ∧ 2200 ≤ s ∧ s < 4400) → ¬ (b = 464 ∧ 6600 ≤ s ∧ s < 13200) → ¬ (805 ≤ b ∧ b ≤ 814 ∧ 0 ≤ s) → ¬ ((b = 474 ∨ b = 475) ∧ 0 ≤ s ∧ s < 3) → ¬ ((b = 815 ∨ b = 816) ∧ 0 ≤ s) → ¬ (b = 473 ∧ 0 ≤ s ∧ s < 2000) → h' b s = h b s) ∧ (mkB h' (N + 257))) := by
  have T1 := tb.2.1
  have T2 := tb.2.2.1
  unfold gX14_loop
  refine OK_jb2 (vX14_isDown (by (first | assumption | omega | ((try dsimp only [jt2, jt3, jt4]); first | omega | (simp (disch := omega) only [jst_eq, jst_ne, jst_ni, jst_o, jI_i, jcpy_out, w32_id, jdiv_nn, jshr_k, jand_255] <;> first | done | omega | assumption)) | (intros; simp (disch := omega) only [jst_eq, jst_ne, jst_ni, jst_o, jI_i, jcpy_out, w32_id, jdiv_nn, *] <;> first | done | omega) | (intros; simp (disch := omega) only [jst_eq, jst_ne, jst_ni, jst_o, jI_i, jcpy_out, w32_id, jdiv_nn] at * <;> first | done | omega | assumption) | (intros; first | rfl | (exfalso; omega) | ((repeat' apply And.intro) <;> first | assumption | rfl | omega | trivial))))) (fun v2 h3 r1 => ?_)
  try dsimp only [Sum.elim_inl, Sum.elim_inr, jt2, jt3, jt4, jt5, jt6, jt7, jt8] at r1
  obtain ⟨dv1, dh1⟩ := r1
  try simp (disch := omega) only [jst_eq, jst_ne, jst_ni, jI_i, jcmp_lt, jcmp_gt, w32_id, jcpy_out, Sum.elim_inl, Sum.elim_inr, jt2, jt3, jt4, jt5, jt6, jt7, jt8] at dv1
  try simp (disch := omega) only [jst_eq, jst_ne, jst_ni, jI_i, jcmp_lt, jcmp_gt, w32_id, jcpy_out, Sum.elim_inl, Sum.elim_inr, jt2, jt3, jt4, jt5, jt6, jt7, jt8] at dh1
  have F3 : ∀ a s, ¬ (a = 454 ∧ s = 51) → h3 a s = h a s := fun a s y => by { rw [dh1]; exact jst_o y }
  have n53 : h3 454 53 = n := by { rw [F3 _ _ (by omega)]; exact tb.1.symm }
  refine OK_if (fun c1 => ?_) (fun c1 => ?_)
  · skip
    try simp (disch := omega) only [jst_eq, jst_ne, jst_ni, jI_i, jcmp_lt, jcmp_gt, w32_id, jcpy_out, Sum.elim_inl, Sum.elim_inr, jt2, jt3, jt4, jt5, jt6, jt7, jt8] at c1
    refine OK_jb (vX14_takeTape (by (rw [n53]; exact ⟨T1, T2⟩))) (fun h6 r2 => ?_)
    try dsimp only [Sum.elim_inl, Sum.elim_inr, jt2, jt3, jt4, jt5, jt6, jt7, jt8] at r2
    obtain ⟨z2, b2, fr2⟩ := r2
    try simp (disch := omega) only [jst_eq, jst_ne, jst_ni, jI_i, jcmp_lt, jcmp_gt, w32_id, jcpy_out, Sum.elim_inl, Sum.elim_inr, jt2, jt3, jt4, jt5, jt6, jt7, jt8] at z2
    try simp (disch := omega) only [jst_eq, jst_ne, jst_ni, jI_i, jcmp_lt, jcmp_gt, w32_id, jcpy_out, Sum.elim_inl, Sum.elim_inr, jt2, jt3, jt4, jt5, jt6, jt7, jt8] at b2
    try simp (disch := omega) only [jst_eq, jst_ne, jst_ni, jI_i, jcmp_lt, jcmp_gt, w32_id, jcpy_out, Sum.elim_inl, Sum.elim_inr, jt2, jt3, jt4, jt5, jt6, jt7, jt8] at fr2
    have F6 : ∀ a s, ¬ (a = 454 ∧ (s = 25 ∨ s = 51 ∨ s = 53)) → ¬ (a = 473 ∧ 0 ≤ s ∧ s < 2000) → h6 a s = h a s := fun a s y1 y2 => by { rw [fr2 a s y1 (by omega), F3 a s (by omega)] }
    have TM6 : TM B n h6 := ⟨by { rw [z2.2.2]; exact n53 }, T1, T2, fun i i0 i1 => by { rw [b2 i i0 (by omega), F3 _ _ (by omega)]; exact tb.2.2.2 i i0 i1 }⟩
    have OM6 : ownsM h6 E Rf ∧ wOK E Rf W ∧ E.2.2.1 = 0 ∧ (0 ≤ h6 454 35 ∧ h6 454 35 ≤ 2000) := ⟨ownsM_fr om.1 (F6 _ _ (by omega) (by omega)) (fun a s a0 a1 => F6 _ _ (by omega) (by omega)) ⟨fun a s a0 a1 a2 a3 a4 => F6 _ _ (by omega) (by omega), fun s s0 s1 => F6 _ _ (by omega) (by omega)⟩, om.2.1, om.2.2.1, by { rw [F6 _ _ (by omega) (by omega)]; exact om.2.2.2 }⟩
    have E92 : h6 454 92 = h 454 92 := F6 _ _ (by omega) (by omega)
    have AR6 : arM h6 := ⟨by { rw [F6 _ _ (by omega) (by omega), F6 _ _ (by omega) (by omega)]; exact ar.1 }, fun a ha => by { rw [F6 _ _ (by omega) (by omega), F6 _ _ (by omega) (by omega), F6 _ _ (by omega) (by omega), F6 _ _ (by omega) (by omega), F6 _ _ (by omega) (by omega), F6 _ _ (by omega) (by omega), F6 _ _ (by omega) (by omega), F6 _ _ (by omega) (by omega)]; exact ar.2 a ha }⟩
    have MB6 : mkB h6 N := by { obtain ⟨m1, m2, m3, m4⟩ := mb.1; refine ⟨?_, fun p p0 p1 => ?_, ?_, fun p p0 p1 => ?_⟩; { rw [F6 _ _ (by omega) (by omega)]; exact m1 }; { rw [F6 _ _ (by omega) (by omega), F6 _ _ (by omega) (by omega)]; exact m2 p p0 p1 }; { rw [F6 _ _ (by omega) (by omega)]; exact m3 }; { rw [F6 _ _ (by omega) (by omega), F6 _ _ (by omega) (by omega)]; exact m4 p p0 p1 } }
    have CS6 : h6 454 21 = -1 ∧ bd20 h6 := ⟨by { rw [F6 _ _ (by omega) (by omega)]; exact cs.1 }, by { unfold bd20; rw [F6 _ _ (by omega) (by omega)]; exact cs.2 }⟩
    refine OK_jg (by (first | assumption | omega | ((try dsimp only [jt2, jt3, jt4]); first | omega | (simp (disch := omega) only [jst_eq, jst_ne, jst_ni, jst_o, jI_i, jcpy_out, w32_id, jdiv_nn, jshr_k, jand_255] <;> first | done | omega | assumption)) | (intros; simp (disch := omega) only [jst_eq, jst_ne, jst_ni, jst_o, jI_i, jcpy_out, w32_id, jdiv_nn, *] <;> first | done | omega) | (intros; simp (disch := omega) only [jst_eq, jst_ne, jst_ni, jst_o, jI_i, jcpy_out, w32_id, jdiv_nn] at * <;> first | done | omega | assumption) | (intros; first | rfl | (exfalso; omega) | ((repeat' apply And.intro) <;> first | assumption | rfl | omega | trivial)))) ?_ -- o3
    refine OK_if (fun c2 => ?_) (fun c2 => ?_)
    · skip
      try simp (disch := omega) only [jst_eq, jst_ne, jst_ni, jI_i, jcmp_lt, jcmp_gt, w32_id, jcpy_out, Sum.elim_inl, Sum.elim_inr, jt2, jt3, jt4, jt5, jt6, jt7, jt8] at c2
      refine OK_mono (vX14_loop_j36 (B := B) (n := n) (N := N) (E := E) (Rf := Rf) (W := W) _ (by exact hB) (by exact ⟨Or.inr rfl, AR6.1.2, by decide, by decide, by decide⟩) (by exact TM6) (by exact OM6) (by exact AR6.2 810 (Or.inr rfl)) (by exact ⟨MB6, mb.2⟩) (by exact CS6)) (fun r r3 => ?_)
      obtain ⟨y1, y2⟩ := r
      try dsimp only [Sum.elim_inl, Sum.elim_inr, jt2, jt3, jt4, jt5, jt6, jt7, jt8] at r3
      obtain ⟨oo3, fr3, mb3⟩ := r3
      try simp (disch := omega) only [jst_eq, jst_ne, jst_ni, jI_i, jcmp_lt, jcmp_gt, w32_id, jcpy_out, Sum.elim_inl, Sum.elim_inr, jt2, jt3, jt4, jt5, jt6, jt7, jt8] at oo3
      try simp (disch := omega) only [jst_eq, jst_ne, jst_ni, jI_i, jcmp_lt, jcmp_gt, w32_id, jcpy_out, Sum.elim_inl, Sum.elim_inr, jt2, jt3, jt4, jt5, jt6, jt7, jt8] at fr3
      try simp (disch := omega) only [jst_eq, jst_ne, jst_ni, jI_i, jcmp_lt, jcmp_gt, w32_id, jcpy_out, Sum.elim_inl, Sum.elim_inr, jt2, jt3, jt4, jt5, jt6, jt7, jt8] at mb3
      try dsimp only [Sum.elim_inl, Sum.elim_inr, jt2, jt3, jt4, jt5, jt6, jt7, jt8]
      try dsimp only [Sum.elim_inl, Sum.elim_inr, jt2, jt3, jt4, jt5, jt6, jt7, jt8]
      refine ⟨?_, ?_, ?_, ?_, ?_⟩
      · (first | assumption | omega | ((try dsimp only [jt2, jt3, jt4]); first | omega | (simp (disch := omega) only [jst_eq, jst_ne, jst_ni, jst_o, jI_i, jcpy_out, w32_id, jdiv_nn, jshr_k, jand_255] <;> first | done | omega | assumption)) | (intros; simp (disch := omega) only [jst_eq, jst_ne, jst_ni, jst_o, jI_i, jcpy_out, w32_id, jdiv_nn, *] <;> first | done | omega) | (intros; simp (disch := omega) only [jst_eq, jst_ne, jst_ni, jst_o, jI_i, jcpy_out, w32_id, jdiv_nn] at * <;> first | done | omega | assumption) | (intros; first | rfl | (exfalso; omega) | ((repeat' apply And.intro) <;> first | assumption | rfl | omega | trivial))) -- o11 e1.1
      · (intro _; rw [F6 _ _ (by omega) (by omega)] at oo3; unfold outLo at oo3 ⊢; cases e : bS (beg B n) (pLo B n) with | inl z => (rw [e] at oo3; exact oo3) | inr p => (rw [e] at oo3; exact ⟨fun k => ⟨(oo3.1 k).1, by obtain ⟨H, x1, x2, x3, x4⟩ := (oo3.1 k).2; exact ⟨H, x1, x2, x3, Or.inr x4⟩⟩, oo3.2⟩)) -- o12 e1.2
      · (intro z; rcases fr3 with ⟨_, f⟩ | ⟨f, _⟩; { exact fun b s y1 y2 y3 y4 y5 y6 y7 => (by rw [f b s (by omega) y2 (by omega) (by omega) (by omega) (by omega) y5 (by omega)]; exact F6 b s (by omega) y7) }; { omega }) -- o13 e1.3
      · (rcases fr3 with ⟨_, f⟩ | ⟨_, f⟩; { exact fun b s y1 y2 y3 y4 y5 y6 y7 y8 => (by rw [f b s (by omega) y2 (by omega) (by omega) (by omega) (by omega) y6 (by omega)]; exact F6 b s (by omega) y8) }; { exact fun b s y1 y2 y3 y4 y5 y6 y7 y8 => (by rw [f b s (by omega) y2 (by omega) (by omega) y5 y6 y7]; exact F6 b s (by omega) y8) }) -- o14 e1.4
      · (first | assumption | omega | ((try dsimp only [jt2, jt3, jt4]); first | omega | (simp (disch := omega) only [jst_eq, jst_ne, jst_ni, jst_o, jI_i, jcpy_out, w32_id, jdiv_nn, jshr_k, jand_255] <;> first | done | omega | assumption)) | (intros; simp (disch := omega) only [jst_eq, jst_ne, jst_ni, jst_o, jI_i, jcpy_out, w32_id, jdiv_nn, *] <;> first | done | omega) | (intros; simp (disch := omega) only [jst_eq, jst_ne, jst_ni, jst_o, jI_i, jcpy_out, w32_id, jdiv_nn] at * <;> first | done | omega | assumption) | (intros; first | rfl | (exfalso; omega) | ((repeat' apply And.intro) <;> first | assumption | rfl | omega | trivial))) -- o15 e1.5
    · skip
      try simp (disch := omega) only [jst_eq, jst_ne, jst_ni, jI_i, jcmp_lt, jcmp_gt, w32_id, jcpy_out, Sum.elim_inl, Sum.elim_inr, jt2, jt3, jt4, jt5, jt6, jt7, jt8] at c2
      refine OK_mono (vX14_loop_j36 (B := B) (n := n) (N := N) (E := E) (Rf := Rf) (W := W) _ (by exact hB) (by exact ⟨Or.inl rfl, AR6.1.1, by decide, by decide, by decide⟩) (by exact TM6) (by exact OM6) (by exact AR6.2 805 (Or.inl rfl)) (by exact ⟨MB6, mb.2⟩) (by exact CS6)) (fun r r4 => ?_)
      obtain ⟨y3, y4⟩ := r
      try dsimp only [Sum.elim_inl, Sum.elim_inr, jt2, jt3, jt4, jt5, jt6, jt7, jt8] at r4
      obtain ⟨oo4, fr4, mb4⟩ := r4
      try simp (disch := omega) only [jst_eq, jst_ne, jst_ni, jI_i, jcmp_lt, jcmp_gt, w32_id, jcpy_out, Sum.elim_inl, Sum.elim_inr, jt2, jt3, jt4, jt5, jt6, jt7, jt8] at oo4
      try simp (disch := omega) only [jst_eq, jst_ne, jst_ni, jI_i, jcmp_lt, jcmp_gt, w32_id, jcpy_out, Sum.elim_inl, Sum.elim_inr, jt2, jt3, jt4, jt5, jt6, jt7, jt8] at fr4
      try simp (disch := omega) only [jst_eq, jst_ne, jst_ni, jI_i, jcmp_lt, jcmp_gt, w32_id, jcpy_out, Sum.elim_inl, Sum.elim_inr, jt2, jt3, jt4, jt5, jt6, jt7, jt8] at mb4
      try dsimp only [Sum.elim_inl, Sum.elim_inr, jt2, jt3, jt4, jt5, jt6, jt7, jt8]
      try dsimp only [Sum.elim_inl, Sum.elim_inr, jt2, jt3, jt4, jt5, jt6, jt7, jt8]
      refine ⟨?_, ?_, ?_, ?_, ?_⟩
      · (first | assumption | omega | ((try dsimp only [jt2, jt3, jt4]); first | omega | (simp (disch := omega) only [jst_eq, jst_ne, jst_ni, jst_o, jI_i, jcpy_out, w32_id, jdiv_nn, jshr_k, jand_255] <;> first | done | omega | assumption)) | (intros; simp (disch := omega) only [jst_eq, jst_ne, jst_ni, jst_o, jI_i, jcpy_out, w32_id, jdiv_nn, *] <;> first | done | omega) | (intros; simp (disch := omega) only [jst_eq, jst_ne, jst_ni, jst_o, jI_i, jcpy_out, w32_id, jdiv_nn] at * <;> first | done | omega | assumption) | (intros; first | rfl | (exfalso; omega) | ((repeat' apply And.intro) <;> first | assumption | rfl | omega | trivial))) -- o23 e2.1
      · (intro _; rw [F6 _ _ (by omega) (by omega)] at oo4; unfold outLo at oo4 ⊢; cases e : bS (beg B n) (pLo B n) with | inl z => (rw [e] at oo4; exact oo4) | inr p => (rw [e] at oo4; exact ⟨fun k => ⟨(oo4.1 k).1, by obtain ⟨H, x1, x2, x3, x4⟩ := (oo4.1 k).2; exact ⟨H, x1, x2, x3, Or.inl x4⟩⟩, oo4.2⟩)) -- o24 e2.2
      · (intro z; rcases fr4 with ⟨_, f⟩ | ⟨f, _⟩; { exact fun b s y1 y2 y3 y4 y5 y6 y7 => (by rw [f b s (by omega) y2 (by omega) (by omega) (by omega) (by omega) y5 (by omega)]; exact F6 b s (by omega) y7) }; { omega }) -- o25 e2.3
      · (rcases fr4 with ⟨_, f⟩ | ⟨_, f⟩; { exact fun b s y1 y2 y3 y4 y5 y6 y7 y8 => (by rw [f b s (by omega) y2 (by omega) (by omega) (by omega) (by omega) y6 (by omega)]; exact F6 b s (by omega) y8) }; { exact fun b s y1 y2 y3 y4 y5 y6 y7 y8 => (by rw [f b s (by omega) y2 (by omega) (by omega) y5 y6 y7]; exact F6 b s (by omega) y8) }) -- o26 e2.4
      · (first | assumption | omega | ((try dsimp only [jt2, jt3, jt4]); first | omega | (simp (disch := omega) only [jst_eq, jst_ne, jst_ni, jst_o, jI_i, jcpy_out, w32_id, jdiv_nn, jshr_k, jand_255] <;> first | done | omega | assumption)) | (intros; simp (disch := omega) only [jst_eq, jst_ne, jst_ni, jst_o, jI_i, jcpy_out, w32_id, jdiv_nn, *] <;> first | done | omega) | (intros; simp (disch := omega) only [jst_eq, jst_ne, jst_ni, jst_o, jI_i, jcpy_out, w32_id, jdiv_nn] at * <;> first | done | omega | assumption) | (intros; first | rfl | (exfalso; omega) | ((repeat' apply And.intro) <;> first | assumption | rfl | omega | trivial))) -- o27 e2.5
  · skip
    try simp (disch := omega) only [jst_eq, jst_ne, jst_ni, jI_i, jcmp_lt, jcmp_gt, w32_id, jcpy_out, Sum.elim_inl, Sum.elim_inr, jt2, jt3, jt4, jt5, jt6, jt7, jt8] at c1
    refine OK_some ?_
    try dsimp only [Sum.elim_inl, Sum.elim_inr, jt2, jt3, jt4, jt5, jt6, jt7, jt8]
    try dsimp only [Sum.elim_inl, Sum.elim_inr, jt2, jt3, jt4, jt5, jt6, jt7, jt8]
    refine ⟨?_, ?_, ?_, ?_, ?_⟩
    · (first | assumption | omega | ((try dsimp only [jt2, jt3, jt4]); first | omega | (simp (disch := omega) only [jst_eq, jst_ne, jst_ni, jst_o, jI_i, jcpy_out, w32_id, jdiv_nn, jshr_k, jand_255] <;> first | done | omega | assumption)) | (intros; simp (disch := omega) only [jst_eq, jst_ne, jst_ni, jst_o, jI_i, jcpy_out, w32_id, jdiv_nn, *] <;> first | done | omega) | (intros; simp (disch := omega) only [jst_eq, jst_ne, jst_ni, jst_o, jI_i, jcpy_out, w32_id, jdiv_nn] at * <;> first | done | omega | assumption) | (intros; first | rfl | (exfalso; omega) | ((repeat' apply And.intro) <;> first | assumption | rfl | omega | trivial))) -- o28 e3.1
    · (first | assumption | omega | ((try dsimp only [jt2, jt3, jt4]); first | omega | (simp (disch := omega) only [jst_eq, jst_ne, jst_ni, jst_o, jI_i, jcpy_out, w32_id, jdiv_nn, jshr_k, jand_255] <;> first | done | omega | assumption)) | (intros; simp (disch := omega) only [jst_eq, jst_ne, jst_ni, jst_o, jI_i, jcpy_out, w32_id, jdiv_nn, *] <;> first | done | omega) | (intros; simp (disch := omega) only [jst_eq, jst_ne, jst_ni, jst_o, jI_i, jcpy_out, w32_id, jdiv_nn] at * <;> first | done | omega | assumption) | (intros; first | rfl | (exfalso; omega) | ((repeat' apply And.intro) <;> first | assumption | rfl | omega | trivial))) -- o29 e3.2
    · (intro _; exact fun b s y1 y2 y3 y4 y5 y6 y7 => F3 b s (by omega)) -- o30 e3.3
    · exact fun b s y1 y2 y3 y4 y5 y6 y7 y8 => F3 b s (by omega) -- o31 e3.4
    · (obtain ⟨m1, m2, m3, m4⟩ := mb.1; refine ⟨⟨?_, ?_⟩, fun p p0 p1 => ?_, ⟨?_, ?_⟩, fun p p0 p1 => ?_⟩; { rw [F3 _ _ (by omega)]; exact m1.1 }; { rw [F3 _ _ (by omega)]; omega }; { rw [F3 _ _ (by omega), F3 _ _ (by omega)]; exact m2 p p0 p1 }; { rw [F3 _ _ (by omega)]; exact m3.1 }; { rw [F3 _ _ (by omega)]; omega }; { rw [F3 _ _ (by omega), F3 _ _ (by omega)]; exact m4 p p0 p1 }) -- o32 e3.5

