/-! a value told, worked out alone: m -/
theorem vwM_own {lo hi : Int} (l0 : 0 ≤ lo) : ∀ {R : TR} {h : AH} {d j w z np N : Int}, (∀ hh, agR lo hi h hh → resM hh R d j) → cgT np N R → 0 ≤ j → (w < lo ∨ hi ≤ w) → vwM h w z R d j
  | .leaf i, h, d, j, w, z, np, N, s, c, j0, ho => by
    obtain ⟨r1, r2, r3, r4, r5, r6, r7, r8, r9, r10, r11⟩ := s h agR_rfl
    have rg : lo ≤ d ∧ d < hi := Classical.byContradiction fun y => by
      have q := s (jst h 465 d (j + 1)) ⟨fun a s a0 a1 a2 a3 a4 => jst_o (by omega), fun s s0 s1 => jst_o (by omega)⟩
      have e := q.2.2.1
      rw [jst_eq] at e
      omega
    exact ⟨r1, r2, Or.inr ⟨by omega, r3, r6, r7, r8, r9, c.1⟩⟩
  | .branch b s r, h, d, j, w, z, np, N, S, c, j0, ho => by
    obtain ⟨r1, r2, r3⟩ := S h agR_rfl
    have key : ∀ {r : TR} {j : Int}, (∀ hh, agR lo hi h hh → resM hh r d j) → 0 ≤ j → lo ≤ d ∧ d < hi := by
      intro r
      induction r with
      | leaf i =>
        intro j S _
        refine Classical.byContradiction fun y => ?_
        have q := S (jst h 465 d (j + 1)) ⟨fun a s a0 a1 a2 a3 a4 => jst_o (by omega), fun s s0 s1 => jst_o (by omega)⟩
        have e := q.2.2.1
        rw [jst_eq] at e
        omega
      | branch b s r _ ih => intro j S j0; exact ih (fun hh g => (S hh g).2.2) (by omega)
    have rg := key (fun hh g => (S hh g).2.2) (show 0 ≤ j + 1 by omega)
    refine ⟨by omega, j0, r1, vwM_own l0 (fun hh g => ?_) c.1 (Int.le_refl _) ho, vwM_own l0 (fun hh g => (S hh g).2.2) c.2 (by omega) ho⟩
    have q := (S hh g).2.1
    rw [g.2 _ (by omega) (by omega)] at q
    exact q
theorem enuM_of {h : AH} {E : EV} {Rf : Int → TR} {W : Int → Int → Int → VW} {f : Int → Int → Int → Int} {w : Int} (am : actM h E) (ac : acE E) (wk : wOK E Rf W) (ft : fTy E f) (ow : ownM h E.1.1 E.1.2.2.2.1 Rf) (ot : owT E Rf) (ew : ∀ a, 26 ≤ a → 0 ≤ E.1.2.2.2.1 a) (hw : w < 5500 ∨ 6800 ≤ w) : enuM h E Rf W f w := by
  refine ⟨am, ac, wk, ft, fun a a0 a1 => ?_, ew⟩
  obtain ⟨o1, o2, o3, o4, o5⟩ := ow a a0 a1
  obtain ⟨t1, t2, t3⟩ := ot a a0 a1
  have dp := dpE_wt ew o3
  exact ⟨fun z => vwM_own (by decide) o5 t1 (Int.le_refl _) hw, t2, by omega, o1, o2, cgT_ns t1⟩
theorem toE_u {E : EV} {t : TR} (g : gT t) : toE E t (-1) = wfE E t := by
  have o := gT_i g
  have o2 := o.2.1
  unfold toE wfE
  rw [if_neg (fun z => z.1 rfl)]
  by_cases c : 40 < wtE E t
  · rw [if_pos c]; omega
  · rw [if_neg c]; omega
theorem w32_w64 (x : Int) : w32 (w64 x) = w32 x := by unfold w32 w64; omega
def frW (h h' : AH) : Prop := ∀ a s, ¬ (a = 454 ∧ (s = 17 ∨ s = 20 ∨ (25 ≤ s ∧ s ≤ 31) ∨ s = 34 ∨ s = 35 ∨ s = 51 ∨ s = 53 ∨ s = 55 ∨ s = 64 ∨ s = 66)) → ¬ (a = 472 ∧ (s = 6 ∨ s = 7)) → ¬ (460 ≤ a ∧ a ≤ 470 ∧ a ≠ 464 ∧ 4400 ≤ s ∧ s < 5500) → ¬ (a = 464 ∧ 13200 ≤ s ∧ s < 16500) → ¬ ((a = 474 ∨ a = 475) ∧ 0 ≤ s ∧ s < 3) → ¬ (a = 473 ∧ 0 ≤ s ∧ s < 2000) → h' a s = h a s
/-- what is known of own acts: m -/
def ownsM (h : AH) (E : EV) (Rf : Int → TR) : Prop := actM h E ∧ acE E ∧ ownM h E.1.1 E.1.2.2.2.1 Rf ∧ owT E Rf ∧ ewO E
theorem ownsM_fr {h h' : AH} {E : EV} {Rf : Int → TR} (o : ownsM h E Rf) (f5 : h' 454 5 = h 454 5) (f : ∀ a s, 455 ≤ a → a ≤ 459 → h' a s = h a s) (g : agR 5500 6800 h h') : ownsM h' E Rf := ⟨actM_fr o.1 f5 (fun a s a0 a1 => f a s a0 (by omega)), o.2.1, ownM_fr o.2.2.1 g (fun a _ _ => f _ _ (by decide) (by decide)), o.2.2.2⟩
theorem resR_l {B : Int → Int} {n : Int} {E : EV} {R : PR} {t v : Int} {h : AH} (r : resR B n E R t v h) (c : ¬ t = 0) : ∃ z, R = .inl z ∧ t = 472 ∧ h 472 6 = 1 ∧ h 472 7 = z := by
  cases R with
  | inl z => exact ⟨z, rfl, r.1, r.2.1, r.2.2⟩
  | inr x => exact absurd r.1 c
theorem resR_r {B : Int → Int} {n : Int} {E : EV} {R : PR} {t v : Int} {h : AH} (r : resR B n E R t v h) (c : t = 0) : ∃ T q, R = .inr (T, q) ∧ v = 4400 ∧ MS B n q h ∧ MI h ∧ MK h = min (fkE E T 0 0) (wfE E T) ∧ h 454 66 = kch (kdE E T) ∧ h 454 35 = hlT T ∧ sz T ≤ 1001 ∧ (fkE E T 0 0 = 1000000 → resM h (rsE E T 0) 4400 0) ∧ h 468 4400 = (inf T).2.2.2 ∧ gT T ∧ wpT T ∧ dpT T ≤ 12 ∧ rawS h T 4400 0 4401 (-1) := by
  cases R with
  | inl z => have := r.1; omega
  | inr x => exact ⟨x.1, x.2, rfl, r.2⟩
theorem pA_l {B : Int → Int} {n z : Int} {sk : Bool} {R : Int ⊕ Int} (e : bdT R (pT B n sk 13) = .inl z) : pA B n sk R = .inl z := by unfold pA; rw [e]
theorem pA_r {B : Int → Int} {n q : Int} {sk : Bool} {R : Int ⊕ Int} {T : TR} (e : bdT R (pT B n sk 13) = .inr (T, q)) : pA B n sk R = if tO B n q = 0 then .inr T else .inl (tS B n q) := by unfold pA; rw [e]
theorem vX14_value {h : AH} {B : Int → Int} {n : Int} {E : EV} {Rf : Int → TR} {W : Int → Int → Int → VW} (hB : ∀ i, 0 ≤ i → i < n → 0 ≤ B i ∧ B i < 256) (tb : n = h 454 53 ∧ 0 ≤ n ∧ n ≤ 2000 ∧ ∀ i, 0 ≤ i → i < n → h 790 i = B i) (om : ownsM h E Rf) (wk : wOK E Rf W) (l0 : E.2.2.1 = 0) (p0 : E.2.1.1 = 0) (dn : h 454 54 = 0 ∨ h 454 54 = 1) (w21 : h 454 21 = -1) : OK (gX14_value h) (fun r => jt2 r fun v h' => (h 454 54 = 1 → v = -5 ∧ h' = jst h 454 51 0) ∧ (h 454 54 = 0 → outV E W (pA B n false (beg B n)) (h 454 55) (h 454 64) v (h' 454 55) (h' 454 64)) ∧ (frW h h')) := by
  have ac := om.2.1
  have ew := om.2.2.2.2.2.1
  have T1 := tb.2.1
  have T2 := tb.2.2.1
  unfold gX14_value
  refine OK_jb2 (vX14_isDown (by (first | assumption | omega | ((try dsimp only [jt2, jt3, jt4]); first | omega | (simp (disch := omega) only [jst_eq, jst_ne, jst_ni, jst_o, jI_i, jcpy_out, w32_id, jdiv_nn, jshr_k, jand_255] <;> first | done | omega | assumption)) | (intros; simp (disch := omega) only [jst_eq, jst_ne, jst_ni, jst_o, jI_i, jcpy_out, w32_id, jdiv_nn, *] <;> first | done | omega) | (intros; simp (disch := omega) only [jst_eq, jst_ne, jst_ni, jst_o, jI_i, jcpy_out, w32_id, jdiv_nn] at * <;> first | done | omega | assumption) | (intros; first | rfl | (exfalso; omega) | ((repeat' apply And.intro) <;> first | assumption | rfl | omega | trivial))))) (fun v2 h3 r1 => ?_)
  try dsimp only [Sum.elim_inl, Sum.elim_inr, jt2, jt3, jt4, jt5, jt6, jt7, jt8] at r1
  obtain ⟨dv1, dh1⟩ := r1
  try simp (disch := omega) only [jst_eq, jst_ne, jst_ni, jI_i, jcmp_lt, jcmp_gt, w32_id, jcpy_out, Sum.elim_inl, Sum.elim_inr, jt2, jt3, jt4, jt5, jt6, jt7, jt8] at dv1
  try simp (disch := omega) only [jst_eq, jst_ne, jst_ni, jI_i, jcmp_lt, jcmp_gt, w32_id, jcpy_out, Sum.elim_inl, Sum.elim_inr, jt2, jt3, jt4, jt5, jt6, jt7, jt8] at dh1
  have F3 : ∀ a s, ¬ (a = 454 ∧ s = 51) → h3 a s = h a s := fun a s y => by { rw [dh1]; exact jst_o y }
  have n53 : h3 454 53 = n := by { rw [F3 _ _ (by omega)]; exact tb.1.symm }
  refine OK_if (fun c1 => ?_) (fun c1 => ?_)
  · skip
    try simp (disch := omega) only [jst_eq, jst_ne, jst_ni, jI_i, jcmp_lt, jcmp_gt, w32_id, jcpy_out, Sum.elim_inl, Sum.elim_inr, jt2, jt3, jt4, jt5, jt6, jt7, jt8] at c1
    refine OK_jb (vX14_takeTape (by (rw [n53]; exact ⟨T1, T2⟩))) (fun h6 r2 => ?_)
    try dsimp only [Sum.elim_inl, Sum.elim_inr, jt2, jt3, jt4, jt5, jt6, jt7, jt8] at r2
    obtain ⟨z2, b2, fr2⟩ := r2
    try simp (disch := omega) only [jst_eq, jst_ne, jst_ni, jI_i, jcmp_lt, jcmp_gt, w32_id, jcpy_out, Sum.elim_inl, Sum.elim_inr, jt2, jt3, jt4, jt5, jt6, jt7, jt8] at z2
    try simp (disch := omega) only [jst_eq, jst_ne, jst_ni, jI_i, jcmp_lt, jcmp_gt, w32_id, jcpy_out, Sum.elim_inl, Sum.elim_inr, jt2, jt3, jt4, jt5, jt6, jt7, jt8] at b2
    try simp (disch := omega) only [jst_eq, jst_ne, jst_ni, jI_i, jcmp_lt, jcmp_gt, w32_id, jcpy_out, Sum.elim_inl, Sum.elim_inr, jt2, jt3, jt4, jt5, jt6, jt7, jt8] at fr2
    have F6 : ∀ a s, ¬ (a = 454 ∧ (s = 25 ∨ s = 51 ∨ s = 53)) → ¬ (a = 473 ∧ 0 ≤ s ∧ s < 2000) → h6 a s = h a s := fun a s y1 y2 => by { rw [fr2 a s y1 (by omega), F3 a s (by omega)] }
    have TM6 : TM B n h6 := ⟨by { rw [z2.2.2]; exact n53 }, T1, T2, fun i i0 i1 => by { rw [b2 i i0 (by omega), F3 _ _ (by omega)]; exact tb.2.2.2 i i0 i1 }⟩
    have om6 := ownsM_fr om (F6 _ _ (by omega) (by omega)) (fun a s a0 a1 => F6 _ _ (by omega) (by omega)) ⟨fun a s a0 a1 a2 a3 a4 => F6 _ _ (by omega) (by omega), fun s s0 s1 => F6 _ _ (by omega) (by omega)⟩
    refine OK_jb3 (vX14_readTerm (B := B) (n := n) (sk := false) (E := E) (Rf := Rf) _ _ (by exact hB) (by exact TM6) (by rfl) (by exact om6.1) (by exact om6.2.2.2.2) (by exact om6.2.2.1) (by (first | assumption | omega | ((try dsimp only [jt2, jt3, jt4]); first | omega | (simp (disch := omega) only [jst_eq, jst_ne, jst_ni, jst_o, jI_i, jcpy_out, w32_id, jdiv_nn, jshr_k, jand_255] <;> first | done | omega | assumption)) | (intros; simp (disch := omega) only [jst_eq, jst_ne, jst_ni, jst_o, jI_i, jcpy_out, w32_id, jdiv_nn, *] <;> first | done | omega) | (intros; simp (disch := omega) only [jst_eq, jst_ne, jst_ni, jst_o, jI_i, jcpy_out, w32_id, jdiv_nn] at * <;> first | done | omega | assumption) | (intros; first | rfl | (exfalso; omega) | ((repeat' apply And.intro) <;> first | assumption | rfl | omega | trivial)))) (by exact fun _ => p0) (by exact fun y => absurd rfl y)) (fun t8 v9 h10 r3 => ?_)
    try dsimp only [Sum.elim_inl, Sum.elim_inr, jt2, jt3, jt4, jt5, jt6, jt7, jt8] at r3
    have rr3 := r3
    clear r3
    try simp (disch := omega) only [jst_eq, jst_ne, jst_ni, jI_i, jcmp_lt, jcmp_gt, w32_id, jcpy_out, Sum.elim_inl, Sum.elim_inr, jt2, jt3, jt4, jt5, jt6, jt7, jt8] at rr3
    obtain ⟨rr3, F10⟩ := rr3
    have G10 : frW h h10 := fun a s y1 y2 y3 y4 y5 y6 => by { rw [F10 a s (by omega) y2 y3 y4 y5]; exact F6 a s (by omega) y6 }
    have g64 : h10 454 64 = h 454 64 := (F10 _ _ (by omega) (by omega) (by omega) (by omega) (by omega)).trans (F6 _ _ (by omega) (by omega))
    refine OK_jq (fun c2 => ?_) (fun c2 => ?_)
    · skip
      obtain ⟨z, eR, t472, mf1, mf2⟩ := resR_l rr3 c2
      refine OK_jg (by (first | assumption | omega | ((try dsimp only [jt2, jt3, jt4]); first | omega | (simp (disch := omega) only [jst_eq, jst_ne, jst_ni, jst_o, jI_i, jcpy_out, w32_id, jdiv_nn, jshr_k, jand_255] <;> first | done | omega | assumption)) | (intros; simp (disch := omega) only [jst_eq, jst_ne, jst_ni, jst_o, jI_i, jcpy_out, w32_id, jdiv_nn, *] <;> first | done | omega) | (intros; simp (disch := omega) only [jst_eq, jst_ne, jst_ni, jst_o, jI_i, jcpy_out, w32_id, jdiv_nn] at * <;> first | done | omega | assumption) | (intros; first | rfl | (exfalso; omega) | ((repeat' apply And.intro) <;> first | assumption | rfl | omega | trivial)))) ?_ -- o12
      refine OK_jb2 (vX14_faulty _ (by (first | assumption | omega | ((try dsimp only [jt2, jt3, jt4]); first | omega | (simp (disch := omega) only [jst_eq, jst_ne, jst_ni, jst_o, jI_i, jcpy_out, w32_id, jdiv_nn, jshr_k, jand_255] <;> first | done | omega | assumption)) | (intros; simp (disch := omega) only [jst_eq, jst_ne, jst_ni, jst_o, jI_i, jcpy_out, w32_id, jdiv_nn, *] <;> first | done | omega) | (intros; simp (disch := omega) only [jst_eq, jst_ne, jst_ni, jst_o, jI_i, jcpy_out, w32_id, jdiv_nn] at * <;> first | done | omega | assumption) | (intros; first | rfl | (exfalso; omega) | ((repeat' apply And.intro) <;> first | assumption | rfl | omega | trivial))))) (fun v13 h14 r4 => ?_)
      try dsimp only [Sum.elim_inl, Sum.elim_inr, jt2, jt3, jt4, jt5, jt6, jt7, jt8] at r4
      obtain ⟨vv4, fr4⟩ := r4
      try simp (disch := omega) only [jst_eq, jst_ne, jst_ni, jI_i, jcmp_lt, jcmp_gt, w32_id, jcpy_out, Sum.elim_inl, Sum.elim_inr, jt2, jt3, jt4, jt5, jt6, jt7, jt8] at vv4
      try simp (disch := omega) only [jst_eq, jst_ne, jst_ni, jI_i, jcmp_lt, jcmp_gt, w32_id, jcpy_out, Sum.elim_inl, Sum.elim_inr, jt2, jt3, jt4, jt5, jt6, jt7, jt8] at fr4
      refine OK_some ?_
      try dsimp only [Sum.elim_inl, Sum.elim_inr, jt2, jt3, jt4, jt5, jt6, jt7, jt8]
      try dsimp only [Sum.elim_inl, Sum.elim_inr, jt2, jt3, jt4, jt5, jt6, jt7, jt8]
      refine ⟨?_, ?_, ?_⟩
      · (first | assumption | omega | ((try dsimp only [jt2, jt3, jt4]); first | omega | (simp (disch := omega) only [jst_eq, jst_ne, jst_ni, jst_o, jI_i, jcpy_out, w32_id, jdiv_nn, jshr_k, jand_255] <;> first | done | omega | assumption)) | (intros; simp (disch := omega) only [jst_eq, jst_ne, jst_ni, jst_o, jI_i, jcpy_out, w32_id, jdiv_nn, *] <;> first | done | omega) | (intros; simp (disch := omega) only [jst_eq, jst_ne, jst_ni, jst_o, jI_i, jcpy_out, w32_id, jdiv_nn] at * <;> first | done | omega | assumption) | (intros; first | rfl | (exfalso; omega) | ((repeat' apply And.intro) <;> first | assumption | rfl | omega | trivial))) -- o14 e1.1
      · (intro _; rw [pA_l eR, fr4]; exact ⟨by omega, by rw [jst_eq]; exact mf2, (jst_o (by omega)).trans g64⟩) -- o15 e1.2
      · (intro a s y1 y2 y3 y4 y5 y6; rw [fr4, jst_o (by omega)]; exact G10 a s y1 y2 y3 y4 y5 y6) -- o16 e1.3
    · skip
      obtain ⟨T, q1, eR, v4, ms, mi, mk, k66, h35, szT, res, pl, gt, wpt, dpt, rs0⟩ := resR_r rr3 c2
      obtain ⟨q, eb, eT⟩ := bdT_inr eR
      have eA := pA_r eR
      have kK : keyE E (-1) T = MK h10 := by { unfold keyE; rw [toE_u gt]; exact mk.symm }
      refine OK_jb2 (vX14_finish (B := B) (n := n) (q := q1) (by (first | assumption | omega | ((try dsimp only [jt2, jt3, jt4]); first | omega | (simp (disch := omega) only [jst_eq, jst_ne, jst_ni, jst_o, jI_i, jcpy_out, w32_id, jdiv_nn, jshr_k, jand_255] <;> first | done | omega | assumption)) | (intros; simp (disch := omega) only [jst_eq, jst_ne, jst_ni, jst_o, jI_i, jcpy_out, w32_id, jdiv_nn, *] <;> first | done | omega) | (intros; simp (disch := omega) only [jst_eq, jst_ne, jst_ni, jst_o, jI_i, jcpy_out, w32_id, jdiv_nn] at * <;> first | done | omega | assumption) | (intros; first | rfl | (exfalso; omega) | ((repeat' apply And.intro) <;> first | assumption | rfl | omega | trivial)))) (by (first | assumption | omega | ((try dsimp only [jt2, jt3, jt4]); first | omega | (simp (disch := omega) only [jst_eq, jst_ne, jst_ni, jst_o, jI_i, jcpy_out, w32_id, jdiv_nn, jshr_k, jand_255] <;> first | done | omega | assumption)) | (intros; simp (disch := omega) only [jst_eq, jst_ne, jst_ni, jst_o, jI_i, jcpy_out, w32_id, jdiv_nn, *] <;> first | done | omega) | (intros; simp (disch := omega) only [jst_eq, jst_ne, jst_ni, jst_o, jI_i, jcpy_out, w32_id, jdiv_nn] at * <;> first | done | omega | assumption) | (intros; first | rfl | (exfalso; omega) | ((repeat' apply And.intro) <;> first | assumption | rfl | omega | trivial))))) (fun t16 h18 r5 => ?_)
      try dsimp only [Sum.elim_inl, Sum.elim_inr, jt2, jt3, jt4, jt5, jt6, jt7, jt8] at r5
      obtain ⟨bad5, good5, flt5, fr5⟩ := r5
      try simp (disch := omega) only [jst_eq, jst_ne, jst_ni, jI_i, jcmp_lt, jcmp_gt, w32_id, jcpy_out, Sum.elim_inl, Sum.elim_inr, jt2, jt3, jt4, jt5, jt6, jt7, jt8] at bad5
      try simp (disch := omega) only [jst_eq, jst_ne, jst_ni, jI_i, jcmp_lt, jcmp_gt, w32_id, jcpy_out, Sum.elim_inl, Sum.elim_inr, jt2, jt3, jt4, jt5, jt6, jt7, jt8] at good5
      try simp (disch := omega) only [jst_eq, jst_ne, jst_ni, jI_i, jcmp_lt, jcmp_gt, w32_id, jcpy_out, Sum.elim_inl, Sum.elim_inr, jt2, jt3, jt4, jt5, jt6, jt7, jt8] at flt5
      try simp (disch := omega) only [jst_eq, jst_ne, jst_ni, jI_i, jcmp_lt, jcmp_gt, w32_id, jcpy_out, Sum.elim_inl, Sum.elim_inr, jt2, jt3, jt4, jt5, jt6, jt7, jt8] at fr5
      have G18 : frW h h18 := fun a s y1 y2 y3 y4 y5 y6 => by { rw [fr5 a s y2]; exact G10 a s y1 y2 y3 y4 y5 y6 }
      refine OK_jq (fun c3 => ?_) (fun c3 => ?_)
      · skip
        have ft : t16 = 472 ∧ 1 ≤ h18 472 6 ∧ h18 472 6 ≤ 6 ∧ ((tO B n q1 ≠ 0 ∧ h18 472 6 = 1 ∧ h18 472 7 = tS B n q1) ∨ (tO B n q1 = 0 ∧ MK h10 ≠ 1000000 ∧ h18 472 6 = MK h10 % 8 ∧ h18 472 7 = MK h10 / 8)) := by { by_cases o : tO B n q1 = 0; { have nb : MK h10 ≠ 1000000 := fun y => c3 (good5 o y); have f := flt5 o nb; exact ⟨f.1, by omega, by omega, Or.inr ⟨o, nb, f.2.1, f.2.2.1⟩⟩ }; { have f := bad5 o; have f1 := f.2.1; have f2 := f.2.2; exact ⟨f.1, by omega, by omega, Or.inl ⟨o, f1, f2⟩⟩ } }
        refine OK_jg (by (first | assumption | omega | ((try dsimp only [jt2, jt3, jt4]); first | omega | (simp (disch := omega) only [jst_eq, jst_ne, jst_ni, jst_o, jI_i, jcpy_out, w32_id, jdiv_nn, jshr_k, jand_255] <;> first | done | omega | assumption)) | (intros; simp (disch := omega) only [jst_eq, jst_ne, jst_ni, jst_o, jI_i, jcpy_out, w32_id, jdiv_nn, *] <;> first | done | omega) | (intros; simp (disch := omega) only [jst_eq, jst_ne, jst_ni, jst_o, jI_i, jcpy_out, w32_id, jdiv_nn] at * <;> first | done | omega | assumption) | (intros; first | rfl | (exfalso; omega) | ((repeat' apply And.intro) <;> first | assumption | rfl | omega | trivial)))) ?_ -- o19
        refine OK_jb2 (vX14_faulty _ (by (first | assumption | omega | ((try dsimp only [jt2, jt3, jt4]); first | omega | (simp (disch := omega) only [jst_eq, jst_ne, jst_ni, jst_o, jI_i, jcpy_out, w32_id, jdiv_nn, jshr_k, jand_255] <;> first | done | omega | assumption)) | (intros; simp (disch := omega) only [jst_eq, jst_ne, jst_ni, jst_o, jI_i, jcpy_out, w32_id, jdiv_nn, *] <;> first | done | omega) | (intros; simp (disch := omega) only [jst_eq, jst_ne, jst_ni, jst_o, jI_i, jcpy_out, w32_id, jdiv_nn] at * <;> first | done | omega | assumption) | (intros; first | rfl | (exfalso; omega) | ((repeat' apply And.intro) <;> first | assumption | rfl | omega | trivial))))) (fun v21 h22 r6 => ?_)
        try dsimp only [Sum.elim_inl, Sum.elim_inr, jt2, jt3, jt4, jt5, jt6, jt7, jt8] at r6
        obtain ⟨vv6, fr6⟩ := r6
        try simp (disch := omega) only [jst_eq, jst_ne, jst_ni, jI_i, jcmp_lt, jcmp_gt, w32_id, jcpy_out, Sum.elim_inl, Sum.elim_inr, jt2, jt3, jt4, jt5, jt6, jt7, jt8] at vv6
        try simp (disch := omega) only [jst_eq, jst_ne, jst_ni, jI_i, jcmp_lt, jcmp_gt, w32_id, jcpy_out, Sum.elim_inl, Sum.elim_inr, jt2, jt3, jt4, jt5, jt6, jt7, jt8] at fr6
        refine OK_some ?_
        try dsimp only [Sum.elim_inl, Sum.elim_inr, jt2, jt3, jt4, jt5, jt6, jt7, jt8]
        try dsimp only [Sum.elim_inl, Sum.elim_inr, jt2, jt3, jt4, jt5, jt6, jt7, jt8]
        refine ⟨?_, ?_, ?_⟩
        · (first | assumption | omega | ((try dsimp only [jt2, jt3, jt4]); first | omega | (simp (disch := omega) only [jst_eq, jst_ne, jst_ni, jst_o, jI_i, jcpy_out, w32_id, jdiv_nn, jshr_k, jand_255] <;> first | done | omega | assumption)) | (intros; simp (disch := omega) only [jst_eq, jst_ne, jst_ni, jst_o, jI_i, jcpy_out, w32_id, jdiv_nn, *] <;> first | done | omega) | (intros; simp (disch := omega) only [jst_eq, jst_ne, jst_ni, jst_o, jI_i, jcpy_out, w32_id, jdiv_nn] at * <;> first | done | omega | assumption) | (intros; first | rfl | (exfalso; omega) | ((repeat' apply And.intro) <;> first | assumption | rfl | omega | trivial))) -- o21 e2.1
        · (intro _; have g55 : h18 454 64 = h 454 64 := (fr5 _ _ (by omega)).trans g64; rw [eA, fr6]; rcases ft.2.2.2 with ⟨o, x1, x2⟩ | ⟨o, nb, x1, x2⟩; { rw [if_neg o]; exact ⟨by omega, by rw [jst_eq]; exact x2, (jst_o (by omega)).trans g55⟩ }; { rw [if_pos o]; exact ⟨fun y => absurd (kK.symm.trans y) nb, fun _ => ⟨by rw [kK]; omega, by rw [jst_eq, kK]; exact x2, (jst_o (by omega)).trans g55⟩⟩ }) -- o22 e2.2
        · (intro a s y1 y2 y3 y4 y5 y6; rw [fr6, jst_o (by omega)]; exact G18 a s y1 y2 y3 y4 y5 y6) -- o23 e2.3
      · skip
        have o0 : tO B n q1 = 0 := Classical.byContradiction fun y => by { have := (bad5 y).1; omega }
        have kB : MK h10 = 1000000 := Classical.byContradiction fun y => by { have := (flt5 o0 y).1; omega }
        rw [if_pos o0] at eA
        have q5 : tO B n q ≠ 5 ∧ 0 ≤ q ∧ q ≤ n := by { unfold beg at eb; by_cases y : tO B n 0 = 5; { rw [if_pos y] at eb; cases eb }; { rw [if_neg y] at eb; cases eb; exact ⟨y, by omega, by omega⟩ } }
        have TO := told_ok (W := -1) ac ⟨by omega, fun k k0 k1 => by omega⟩ ew hB T2 q5.2.1 q5.2.2 q5.1 eT (by rw [kK]; exact kB)
        rw [p0] at TO
        have nh := nhT_rs (E := E) 0 (pT_h0 13 q T q1 eT) gt
        have cv := evV_cg (W := W) (f := fun _ _ _ => 0) (hl := fun _ => 0) (p := p3 0 0 0) (by rw [l0]; decide) TO.1 nh
        refine OK_jl ?_
        have F23 : ∀ a s, ¬ (a = 454 ∧ s = 20) → jst h18 454 20 0 a s = h18 a s := fun a s y => jst_o y
        have C23 : jst h18 454 20 0 454 20 = 0 := jst_eq
        generalize e23 : jst h18 454 20 0 = hq at *
        have om23 : ownsM hq E Rf := ownsM_fr om6 (by rw [F23 _ _ (by omega), fr5 _ _ (by omega), F10 _ _ (by omega) (by omega) (by omega) (by omega) (by omega)]) (fun a s a0 a1 => by rw [F23 _ _ (by omega), fr5 _ _ (by omega), F10 _ _ (by omega) (by omega) (by omega) (by omega) (by omega)]) ⟨fun a s a0 a1 a2 a3 a4 => by rw [F23 _ _ (by omega), fr5 _ _ (by omega), F10 _ _ (by omega) (by omega) (by omega) (by omega) (by omega)], fun s s0 s1 => by rw [F23 _ _ (by omega), fr5 _ _ (by omega), F10 _ _ (by omega) (by omega) (by omega) (by omega) (by omega)]⟩
        have PV : preV hq E Rf W (fun _ _ _ => 0) (-1) 0 0 E.2.1.2.2 0 0 0 0 (rsE E T 0) v9 := ⟨enuM_of om23.1 ac wk (fun z => by omega) om23.2.2.1 om23.2.2.2.1 ew (by omega), by { rw [v4]; exact vwM_fr (h := h10) (fun a s a0 a1 => by rw [F23 _ _ (by omega), fr5 _ _ (by omega)]) (resM_vw (res TO.2.2.2.2.2) nh (by decide)) }, TO.1, by { rw [F23 _ _ (by omega), fr5 _ _ (by omega), F10 _ _ (by omega) (by omega) (by omega) (by omega) (by omega), F6 _ _ (by omega) (by omega)]; exact w21 }, Or.inl rfl, fun c c0 c1 => by omega, by decide, by decide, Or.inl (cgT_ns (ty_cg (by rw [l0]; decide) TO.1 nh)), by omega, by omega⟩
        refine OK_jb2 (vX14_answer (E := E) (Rf := Rf) (W := W) (f := fun _ _ _ => 0) (w := -1) (wv := 0) (np := 0) (kp := E.2.1.2.2) (hl := fun _ => 0) (R := rsE E T 0) _ _ _ _ _ (by (first | assumption | omega | ((try dsimp only [jt2, jt3, jt4]); first | omega | (simp (disch := omega) only [jst_eq, jst_ne, jst_ni, jst_o, jI_i, jcpy_out, w32_id, jdiv_nn, jshr_k, jand_255] <;> first | done | omega | assumption)) | (intros; simp (disch := omega) only [jst_eq, jst_ne, jst_ni, jst_o, jI_i, jcpy_out, w32_id, jdiv_nn, *] <;> first | done | omega) | (intros; simp (disch := omega) only [jst_eq, jst_ne, jst_ni, jst_o, jI_i, jcpy_out, w32_id, jdiv_nn] at * <;> first | done | omega | assumption) | (intros; first | rfl | (exfalso; omega) | ((repeat' apply And.intro) <;> first | assumption | rfl | omega | trivial)))) (by (have := TO.2.1; omega)) (by exact fun _ _ _ => ⟨by decide, by decide⟩)) (fun v25 h26 r7 => ?_)
        try dsimp only [Sum.elim_inl, Sum.elim_inr, jt2, jt3, jt4, jt5, jt6, jt7, jt8] at r7
        obtain ⟨ev7, pe7⟩ := r7
        try simp (disch := omega) only [jst_eq, jst_ne, jst_ni, jI_i, jcmp_lt, jcmp_gt, w32_id, jcpy_out, Sum.elim_inl, Sum.elim_inr, jt2, jt3, jt4, jt5, jt6, jt7, jt8] at ev7
        try simp (disch := omega) only [jst_eq, jst_ne, jst_ni, jI_i, jcmp_lt, jcmp_gt, w32_id, jcpy_out, Sum.elim_inl, Sum.elim_inr, jt2, jt3, jt4, jt5, jt6, jt7, jt8] at pe7
        rw [cv] at ev7 pe7
        refine OK_jl ?_
        refine OK_some ?_
        try dsimp only [Sum.elim_inl, Sum.elim_inr, jt2, jt3, jt4, jt5, jt6, jt7, jt8]
        try dsimp only [Sum.elim_inl, Sum.elim_inr, jt2, jt3, jt4, jt5, jt6, jt7, jt8]
        refine ⟨?_, ?_, ?_⟩
        · (intro z; omega) -- o27 e3.1
        · (intro _; rw [eA]; refine ⟨fun _ => ⟨ev7, ?_, ?_⟩, fun y => by omega⟩; { rw [jst_eq, pe7.1, C23, w32_w64, Int.zero_add] }; { rw [jst_o (by omega), pe7.2 _ _ (by omega), F23 _ _ (by omega), fr5 _ _ (by omega), F10 _ _ (by omega) (by omega) (by omega) (by omega) (by omega)]; exact F6 _ _ (by omega) (by omega) }) -- o28 e3.2
        · (intro a s y1 y2 y3 y4 y5 y6; rw [jst_o (by omega), pe7.2 _ _ (by omega), F23 _ _ (by omega)]; exact G18 a s y1 y2 y3 y4 y5 y6) -- o29 e3.3
  · skip
    try simp (disch := omega) only [jst_eq, jst_ne, jst_ni, jI_i, jcmp_lt, jcmp_gt, w32_id, jcpy_out, Sum.elim_inl, Sum.elim_inr, jt2, jt3, jt4, jt5, jt6, jt7, jt8] at c1
    refine OK_some ?_
    try dsimp only [Sum.elim_inl, Sum.elim_inr, jt2, jt3, jt4, jt5, jt6, jt7, jt8]
    try dsimp only [Sum.elim_inl, Sum.elim_inr, jt2, jt3, jt4, jt5, jt6, jt7, jt8]
    refine ⟨?_, ?_, ?_⟩
    · (first | assumption | omega | ((try dsimp only [jt2, jt3, jt4]); first | omega | (simp (disch := omega) only [jst_eq, jst_ne, jst_ni, jst_o, jI_i, jcpy_out, w32_id, jdiv_nn, jshr_k, jand_255] <;> first | done | omega | assumption)) | (intros; simp (disch := omega) only [jst_eq, jst_ne, jst_ni, jst_o, jI_i, jcpy_out, w32_id, jdiv_nn, *] <;> first | done | omega) | (intros; simp (disch := omega) only [jst_eq, jst_ne, jst_ni, jst_o, jI_i, jcpy_out, w32_id, jdiv_nn] at * <;> first | done | omega | assumption) | (intros; first | rfl | (exfalso; omega) | ((repeat' apply And.intro) <;> first | assumption | rfl | omega | trivial))) -- o30 e4.1
    · (first | assumption | omega | ((try dsimp only [jt2, jt3, jt4]); first | omega | (simp (disch := omega) only [jst_eq, jst_ne, jst_ni, jst_o, jI_i, jcpy_out, w32_id, jdiv_nn, jshr_k, jand_255] <;> first | done | omega | assumption)) | (intros; simp (disch := omega) only [jst_eq, jst_ne, jst_ni, jst_o, jI_i, jcpy_out, w32_id, jdiv_nn, *] <;> first | done | omega) | (intros; simp (disch := omega) only [jst_eq, jst_ne, jst_ni, jst_o, jI_i, jcpy_out, w32_id, jdiv_nn] at * <;> first | done | omega | assumption) | (intros; first | rfl | (exfalso; omega) | ((repeat' apply And.intro) <;> first | assumption | rfl | omega | trivial))) -- o31 e4.2
    · (intro a s y1 y2 y3 y4 y5 y6; exact F3 a s (by omega)) -- o32 e4.3

