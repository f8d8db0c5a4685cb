/-! m: an ask is read: its pieces -/
def pcI (B : Int → Int) (n a D K : Int) (E : EV) (WV : Int ⊕ (List (Int × Int) × Int)) (l : List (Int × Int)) (q : Int) (h : AH) : Prop := pcQM B n a D E l h ∧ MS B n q h ∧ (∃ k : Nat, WV = pPcs B n k l q ∧ 2002 ≤ (k : Int) + q) ∧ MK h = min K (pkL B n E [] l) ∧ 2 * (h 454 17 - D) ≤ q ∧ (l.length : Int) ≤ q ∧ (12 < l.length → MK h ≤ tS B n q * 8 + 5)
/-- pieces, read -/
def pcZ (B : Int → Int) (n a D K : Int) (E : EV) (l : List (Int × Int)) (q : Int) (h : AH) : Prop := pcQM B n a D E l h ∧ MS B n q h ∧ MK h = min K (pkL B n E [] l) ∧ 2 * (h 454 17 - D) ≤ q + 1
theorem pk1_le {B : Int → Int} {n : Int} {E : EV} {l : List (Int × Int)} {q : Int} (z : 12 ≤ l.length) : pk1 B n E l q ≤ tS B n q * 8 + 5 := by
  unfold pk1
  rw [if_pos z]
  omega
theorem frPm_t {a D : Int} {h h1 h2 : AH} (x : frPm a D h h1) (y : frPm a D h1 h2) : frPm a D h h2 := fun b s y1 y2 y3 y4 y5 => (y b s y1 y2 y3 y4 y5).trans (x b s y1 y2 y3 y4 y5)
theorem pcQM_n {B : Int → Int} {n a D : Int} {E : EV} {l : List (Int × Int)} {h h' : AH} (x : pcQM B n a D E l h) (f : ∀ b s, ¬ (b = 454 ∧ 26 ≤ s ∧ s ≤ 29) → ¬ (b = 472 ∧ (s = 6 ∨ s = 7)) → h' b s = h b s) : pcQM B n a D E l h' := by
  obtain ⟨x1, x2, x3, ⟨x4, x5, x6⟩, ⟨x7, x8, x9⟩, x10⟩ := x
  have LA : a = 476 ∨ a = 615 := x4
  have e17 : h' 454 17 = h 454 17 := f _ _ (by omega) (by omega)
  refine ⟨TM_fr x1 (f _ _ (by omega) (by omega)) (fun s => f _ _ (by omega) (by omega)), MI_fr (f _ _ (by omega) (by omega)) (f _ _ (by omega) (by omega)) x2, actM_fr x3 (f _ _ (by omega) (by omega)) (fun b s b0 b1 => f _ _ (by omega) (by omega)), ⟨x4, by rw [f _ _ (by omega) (by omega)]; exact x5, x6⟩, ⟨x7, by omega, by omega⟩, ?_⟩
  rw [e17]
  exact pcsM_f x10 (fun b s y => f b s (by omega) (by omega))
theorem pPc_te {B : Int → Int} {n q q1 : Int} {p : Int × Int} (hB : ∀ i, 0 ≤ i → i < n → 0 ≤ B i ∧ B i < 256) (q0 : 0 ≤ q) (qn : q ≤ n) (o5 : tO B n q ≠ 5) (o0 : tO B n q ≠ 0) (w : pPc B n q = .inr (p, q1)) : tE B n q ≤ q1 := by
  rw [pPc_e] at w
  by_cases c : isVl B n q ∨ tO B n q = 1
  · rw [if_pos c] at w
    obtain ⟨r, e, w⟩ := bS_r w
    have nr := nx_r hB q0 qn o5 o0 e
    have := pPq_r hB (by omega) nr.2.2.1 nr.2.2.2 w
    omega
  · rw [if_neg c] at w; cases w
theorem vX14_readAsk_l72 (i1 : Int) {h0 : AH} {B : Int → Int} {n D K q0 : Int} {E : EV} {WV : Int ⊕ (List (Int × Int) × Int)} (hB : ∀ i, 0 ≤ i → i < n → 0 ≤ B i ∧ B i < 256) (ni : pcI B n i1 D K E WV [] q0 h0) (dd : D ≤ 1100) : OK (gX14_readAsk_l72 i1 h0) (Sum.elim (fun h' => (∃ l q, WV = .inr (l, q) ∧ pcZ B n i1 D K E l q h') ∧ (frPm i1 D h0 h')) (fun r => jt2 r fun t h' => (∃ z, WV = .inl z ∧ t = 472 ∧ MF z h') ∧ (frPm i1 D h0 h'))) := by
  unfold gX14_readAsk_l72
  refine OK_jit (I := (fun (h : AH) => (∃ l q, pcI B n i1 D K E WV l q h) ∧ (frPm i1 D h0 h))) (m := (fun (h : AH) => (3000 - h i1 5).toNat)) ?_ ?_
  · intro h hs
    try dsimp only at hs
    obtain ⟨q1, fr⟩ := hs
    unfold gX14_readAsk_b72
    obtain ⟨l, q, PQ, M1, ⟨k, W1, k1⟩, K1, R1, L1, U1⟩ := q1
    obtain ⟨x1, x2, x3, ⟨x4, x5, x6⟩, ⟨x7, x8, x9⟩, x10⟩ := id PQ
    have LA : i1 = 476 ∨ i1 = 615 := x4
    have n2 := x1.2.2.1
    have qb := M1.2
    obtain ⟨k', rfl⟩ : ∃ m : Nat, k = m + 1 := ⟨k - 1, by omega⟩
    refine OK_jb2 (vX14_piece (B := B) (n := n) (q := q) (D := D) (E := E) (l := l) _ (by exact hB) (by exact PQ) (by exact M1) (by omega) (by exact U1)) (fun t86 h88 r1 => ?_)
    try dsimp only [Sum.elim_inl, Sum.elim_inr, jt2, jt3, jt4, jt5, jt6, jt7, jt8] at r1
    obtain ⟨ok1, fr1⟩ := r1
    try simp (disch := omega) only [jst_eq, jst_ne, jst_ni, jI_i, jcmp_lt, jcmp_gt, w32_id, jcpy_out, Sum.elim_inl, Sum.elim_inr, jt2, jt3, jt4, jt5, jt6, jt7, jt8] at ok1
    try simp (disch := omega) only [jst_eq, jst_ne, jst_ni, jI_i, jcmp_lt, jcmp_gt, w32_id, jcpy_out, Sum.elim_inl, Sum.elim_inr, jt2, jt3, jt4, jt5, jt6, jt7, jt8] at fr1
    refine OK_jq (fun c1 => ?_) (fun c1 => ?_)
    · skip
      refine OK_ir ?_
      try dsimp only [Sum.elim_inl, Sum.elim_inr, jt2, jt3, jt4, jt5, jt6, jt7, jt8]
      refine ⟨?_, ?_⟩
      · (cases e : pPc B n q with | inl z => (rw [e] at ok1; exact ⟨z, W1.trans (pPcs_l e), ok1⟩) | inr x => (obtain ⟨p, q1⟩ := x; rw [e] at ok1; exact absurd ok1.1 c1)) -- o6 e1.1
      · exact frPm_t fr fr1 -- o7 e1.2
    · skip
      obtain ⟨p, q1, e1⟩ : ∃ p q1, pPc B n q = .inr (p, q1) := by { cases e : pPc B n q with | inl z => (rw [e] at ok1; have := ok1.1; omega) | inr x => exact ⟨x.1, x.2, rfl⟩ }
      rw [e1] at ok1
      obtain ⟨_, ms2, mi2, mk2, pc2, c52, t1, t2⟩ := ok1
      obtain ⟨pe, lt1, q1n, o5, _, _, o0⟩ := pPc_r hB qb.2.1 qb.2.2 qb.1 e1
      have te1 := pPc_te hB qb.2.1 qb.2.2 qb.1 o0 e1
      have TE1 := tE_r hB qb.2.1 qb.2.2 qb.1
      have LB : (l ++ [p]).length = l.length + 1 := by { rw [List.length_append]; rfl }
      have SQ := (tS_r (B := B) qb.2.2)
      have PQ2 : pcQM B n i1 D E (l ++ [p]) h88 := ⟨TM_fr x1 (fr1 _ _ (by omega) (by omega) (by omega) (by omega) (by omega)) (fun s => fr1 _ _ (by omega) (by omega) (by omega) (by omega) (by omega)), mi2, actM_fr x3 (fr1 _ _ (by omega) (by omega) (by omega) (by omega) (by omega)) (fun b s b0 b1 => fr1 _ _ (by omega) (by omega) (by omega) (by omega) (by omega)), ⟨x4, by rw [LB]; exact c52, by omega⟩, ⟨x7, by omega, by omega⟩, pc2⟩
      have K2 : MK h88 = min K (pkL B n E [] (l ++ [p])) := by { rw [pkL_app]; show MK h88 = min K (min (pkL B n E [] l) (pk1 B n E l p.1)); omega }
      have U2 : 12 < (l ++ [p]).length → MK h88 ≤ tS B n q * 8 + 5 := fun z => by { rw [pe] at mk2; have := pk1_le (B := B) (n := n) (E := E) (l := l) (q := q) (by omega); omega }
      obtain ⟨WC, WN⟩ := pPcs_r (k := k') (l := l) e1
      refine OK_jb3 (vX14_skipSign (B := B) (n := n) (q := q1) _ (by exact PQ2.1) (by exact hB) (by exact ms2)) (fun t91 v92 h93 r2 => ?_)
      try dsimp only [Sum.elim_inl, Sum.elim_inr, jt2, jt3, jt4, jt5, jt6, jt7, jt8] at r2
      obtain ⟨no2, r2, v12, fr2⟩ := r2
      try simp (disch := omega) only [jst_eq, jst_ne, jst_ni, jI_i, jcmp_lt, jcmp_gt, w32_id, jcpy_out, Sum.elim_inl, Sum.elim_inr, jt2, jt3, jt4, jt5, jt6, jt7, jt8] at no2
      try simp (disch := omega) only [jst_eq, jst_ne, jst_ni, jI_i, jcmp_lt, jcmp_gt, w32_id, jcpy_out, Sum.elim_inl, Sum.elim_inr, jt2, jt3, jt4, jt5, jt6, jt7, jt8] at r2
      try simp (disch := omega) only [jst_eq, jst_ne, jst_ni, jI_i, jcmp_lt, jcmp_gt, w32_id, jcpy_out, Sum.elim_inl, Sum.elim_inr, jt2, jt3, jt4, jt5, jt6, jt7, jt8] at v12
      try simp (disch := omega) only [jst_eq, jst_ne, jst_ni, jI_i, jcmp_lt, jcmp_gt, w32_id, jcpy_out, Sum.elim_inl, Sum.elim_inr, jt2, jt3, jt4, jt5, jt6, jt7, jt8] at fr2
      refine OK_jq (fun c2 => ?_) (fun c2 => ?_)
      · skip
        have g : isSg B n q1 44 := Classical.byContradiction (fun z => c2 (no2 z).1)
        refine OK_ir ?_
        try dsimp only [Sum.elim_inl, Sum.elim_inr, jt2, jt3, jt4, jt5, jt6, jt7, jt8]
        refine ⟨?_, ?_⟩
        · (obtain ⟨z, e, t1, mf⟩ := rM_l (r2 g) c2; exact ⟨z, W1.trans ((WC g).trans (by rw [e]; rfl)), t1, mf⟩) -- o11 e2.1
        · exact frPm_t fr (frPm_t fr1 (fun b s y1 y2 _ _ _ => fr2 b s (by omega) y2)) -- o12 e2.2
      · skip
        refine OK_if (fun c3 => ?_) (fun c3 => ?_)
        · skip
          try simp (disch := omega) only [jst_eq, jst_ne, jst_ni, jI_i, jcmp_lt, jcmp_gt, w32_id, jcpy_out, Sum.elim_inl, Sum.elim_inr, jt2, jt3, jt4, jt5, jt6, jt7, jt8] at c3
          have g : ¬ isSg B n q1 44 := fun z => by { have := v12 z c2; omega }
          have H93 : h93 = h88 := (no2 g).2.2
          refine OK_ir ?_
          try dsimp only [Sum.elim_inl, Sum.elim_inr, jt2, jt3, jt4, jt5, jt6, jt7, jt8]
          refine ⟨?_, ?_⟩
          · exact ⟨l ++ [p], q1, W1.trans (WN g), by rw [H93]; exact ⟨PQ2, ms2, K2, by omega⟩⟩ -- o13 e3.1
          · (rw [H93]; exact frPm_t fr fr1) -- o14 e3.2
        · skip
          try simp (disch := omega) only [jst_eq, jst_ne, jst_ni, jI_i, jcmp_lt, jcmp_gt, w32_id, jcpy_out, Sum.elim_inl, Sum.elim_inr, jt2, jt3, jt4, jt5, jt6, jt7, jt8] at c3
          have g : isSg B n q1 44 := Classical.byContradiction (fun z => c3 (no2 z).2.1)
          obtain ⟨q2, e2, ms3⟩ := rM_r (r2 g) c2
          have L2 := (nx_r hB (by omega) q1n o5 (by have := g.1; omega) e2).2
          have SQ2 := (tS_r (B := B) L2.2.1)
          refine OK_il ?_ ?_
          · try dsimp only [Sum.elim_inl, Sum.elim_inr, jt2, jt3, jt4, jt5, jt6, jt7, jt8]
            refine ⟨?_, ?_⟩
            · exact ⟨l ++ [p], q2, pcQM_n PQ2 fr2, ms3, ⟨k', W1.trans ((WC g).trans (by rw [e2]; rfl)), by omega⟩, (MK_fr (fr2 _ _ (by omega) (by omega)) (fr2 _ _ (by omega) (by omega))).trans K2, by rw [fr2 _ _ (by omega) (by omega)]; omega, by omega, fun z => by (rw [MK_fr (fr2 _ _ (by omega) (by omega)) (fr2 _ _ (by omega) (by omega))]; have := U2 z; omega)⟩ -- o15 e4i.1
            · exact frPm_t fr (frPm_t fr1 (fun b s y1 y2 _ _ _ => fr2 b s (by omega) y2)) -- o16 e4i.2
          · (rw [fr2 _ _ (by omega) (by omega), c52, x5]; omega) -- o17 e4m
  · try dsimp only [Sum.elim_inl, Sum.elim_inr, jt2, jt3, jt4, jt5, jt6, jt7, jt8]
    refine ⟨?_, ?_⟩
    · exact ⟨_, _, ni⟩ -- o18 init.1
    · exact fun _ _ _ _ _ _ _ => rfl -- o19 init.2

