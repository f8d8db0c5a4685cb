/-! x: a law is read, whole -/
theorem pNm_le {B : Int → Int} {n q q1 : Int} {p : Int × Int} (hB : ∀ i, 0 ≤ i → i < n → 0 ≤ B i ∧ B i < 256) (q0 : 0 ≤ q) (qn : q ≤ n) (o5 : tO B n q ≠ 5) (w : pNm B n q = .inr (p, q1)) : q ≤ q1 ∧ q1 ≤ n ∧ tO B n q1 ≠ 5 := by
  obtain ⟨o1, q2, e2, g, _, e3⟩ := pNm_r w
  cases ea : nx B n q with
  | inl z => rw [ea] at e2; cases e2
  | inr r =>
    rw [ea] at e2
    have nr := nx_r hB q0 qn o5 (by rw [o1]; decide) ea
    have e4 : pW B n 58 r = .inr q2 := e2
    unfold pW at e4
    by_cases c : tO B n r = 4 ∧ tV B n r = 58
    · rw [if_pos c] at e4
      have n2 := nx_r hB (by omega) nr.2.2.1 nr.2.2.2 (by rw [c.1]; decide) e4
      have n3 := nx_r hB (by omega) n2.2.2.1 n2.2.2.2 (by rcases g with y | y | y <;> (rw [y.1]; decide)) e3
      exact ⟨by omega, n3.2.2.1, n3.2.2.2⟩
    · rw [if_neg c] at e4; cases e4
theorem pNs_le {B : Int → Int} {n q q1 : Int} {ns : List (Int × Int)} (hB : ∀ i, 0 ≤ i → i < n → 0 ≤ B i ∧ B i < 256) (q0 : 0 ≤ q) (qn : q ≤ n) (o5 : tO B n q ≠ 5) (w : pNs B n q = .inr (ns, q1)) : q ≤ q1 ∧ q1 ≤ n ∧ tO B n q1 ≠ 5 := by
  unfold pNs at w
  obtain ⟨x, e1, w⟩ := bS_r w
  obtain ⟨p, r⟩ := x
  obtain ⟨a1, a2, a3⟩ := pNm_le hB q0 qn o5 e1
  by_cases c : tO B n r = 1
  · have w2 : (bS (pNm B n r) fun y => .inr ([p, y.1], y.2) : Int ⊕ (List (Int × Int) × Int)) = .inr (ns, q1) := (if_pos c).symm.trans w
    obtain ⟨y, e2, w3⟩ := bS_r w2
    obtain ⟨p2, r2⟩ := y
    obtain ⟨b1, b2, b3⟩ := pNm_le hB (by omega) a2 a3 e2
    cases w3
    exact ⟨by omega, b2, b3⟩
  · have w2 : (.inr ([p], r) : Int ⊕ (List (Int × Int) × Int)) = .inr (ns, q1) := (if_neg c).symm.trans w
    cases w2
    exact ⟨a1, a2, a3⟩
theorem pLw_ns {B : Int → Int} {n q : Int} {ns : List (Int × Int)} {R : Int ⊕ Int} {r : LWt} (w : bS R (pLw B n ns) = .inr (r, q)) : r.1 = ns ∧ ∃ q0, R = .inr q0 := by
  obtain ⟨q0, e0, w⟩ := bS_r w
  unfold pLw at w
  obtain ⟨_, _, w⟩ := bS_r w
  obtain ⟨_, _, w⟩ := bS_r w
  obtain ⟨_, _, w⟩ := bS_r w
  obtain ⟨_, _, w⟩ := bS_r w
  obtain ⟨_, _, w⟩ := bS_r w
  cases w
  exact ⟨rfl, q0, e0⟩
theorem lwQ_k {B : Int → Int} {n A a T : Int} {E : EV} {ks : List Int} {la m room N N' : Int} {K K' : LWt → Int} {W : Int ⊕ (LWt × Int)} {h : AH} (le : N' ≤ N) (e : ∀ r q, W = .inr (r, q) → K r = K' r) (o : lwQ B n A a T E ks la m room N K W h) : lwQ B n A a T E ks la m room N' K' W h := by
  cases W with
  | inl z => exact o
  | inr x =>
    obtain ⟨r, q⟩ := x
    exact ⟨o.1, o.2.1, o.2.2.1, o.2.2.2.1.trans (e r q rfl), ⟨o.2.2.2.2.1.1, Int.le_trans le o.2.2.2.2.1.2⟩, o.2.2.2.2.2⟩
noncomputable def lwK0 (B : Int → Int) (n : Int) (E : EV) (ks : List Int) (la : Int) (r : LWt) : Int := min (nmL B n [] r.1) (min (keyE (EVA B n E ks la r.1) (-1) r.2.1) (keyE (EVA B n E ks la r.1) (kdE (EVA B n E ks la r.1) r.2.1) r.2.2))
/-- the text behind names -/
def pLa2 (B : Int → Int) (n q : Int) : Int ⊕ (LWt × Int) := bS (pNs B n q) fun x => pLw B n x.1 x.2
theorem nsQ_of {B : Int → Int} {n K T a4 : Int} {R0 : Int ⊕ Int} {h : AH} (hB : ∀ i, 0 ≤ i → i < n → 0 ≤ B i ∧ B i < 256) (s0 : nsQ B n K R0 a4 h) (ne : nmE B n a4 h) (c : a4 ≠ 0) (rm : rmT B n T R0 h) (g0 : ∀ q, R0 = .inr q → 0 ≤ q ∧ q ≤ n ∧ tO B n q ≠ 5) : ∃ (R1 : Int ⊕ Int) (ns : List (Int × Int)), Sx B n R1 h ∧ (ns.length : Int) = a4 ∧ nmXl B n ns h ∧ bS R0 (pLa2 B n) = bS R1 (pLw B n ns) ∧ rmT B n T R1 h ∧ ∀ q, R1 = .inr q → FK h = min K (nmL B n [] ns) := by
  have x := s0.2 c
  obtain ⟨u, u0, u1, u2, u3, u4⟩ := rm
  have W : bS R0 (pLa2 B n) = bS (bS R0 (pNs B n)) fun x => pLw B n x.1 x.2 := bS_a
  cases e : bS R0 (pNs B n) with
  | inl z =>
    rw [e] at x W
    obtain ⟨ns, l, m⟩ := ne
    exact ⟨.inl z, ns, x, l, m, W, ⟨u, u0, u1, u2, u3, fun q e => by cases e⟩, fun q e => by cases e⟩
  | inr y =>
    obtain ⟨ns, q⟩ := y
    rw [e] at x W
    obtain ⟨x1, x2, x3, x4⟩ := x
    obtain ⟨q0, e0, e1⟩ := bS_r e
    obtain ⟨g1, g2, g3⟩ := g0 q0 e0
    have le := (pNs_le hB g1 g2 g3 e1).1
    have := u4 q0 e0
    exact ⟨.inr q, ns, x4, x1, x2, W, ⟨u, u0, u1, u2, u3, fun q' e' => by cases e'; omega⟩, fun _ _ => x3⟩
theorem vX13_law_j314 (a2 : Int) (a4 : Int) {h : AH} {B : Int → Int} {n A a T la m K : Int} {E : EV} {ks : List Int} {R0 : Int ⊕ Int} (hB : ∀ i, 0 ≤ i → i < n → 0 ≤ B i ∧ B i < 256) (st : lwS B n A a T E ks la m h) (s0 : nsQ B n K R0 a4 h) (ne : nmE B n a4 h) (ar : 0 ≤ a4 ∧ a4 ≤ 2) (rm : rmT B n T R0 h) (g0 : ∀ q, R0 = .inr q → 0 ≤ q ∧ q ≤ n ∧ tO B n q ≠ 5) (ro : (a2 = 0 ∨ a2 = 1) ∧ (a2 = 1 → m < 4)) : OK (gX13_law_j314 a2 a4 h) (fun h' => (lwQ B n A a T E ks la m a2 (h T 0) (fun r => min K (lwK0 B n E ks la r)) (bS R0 (pLa2 B n)) h') ∧ (frLw a T m (h T 0) h h')) := by
  have LA : a = 271 ∨ a = 289 := st.2.2.2.1.1
  have eT : T = a + 12 := st.2.2.2.1.2.2
  unfold gX13_law_j314
  refine OK_if (fun c1 => ?_) (fun c1 => ?_)
  · skip
    try simp (disch := omega) only [jst_eq, jst_ne, jst_ni, jI_i, jcmp_lt, jcmp_gt, w32_id, jcpy_out, Sum.elim_inl, Sum.elim_inr, jt2, jt3, jt4, jt5, jt6, jt7, jt8] at c1
    obtain ⟨S0, N0⟩ := s0.1 c1
    obtain ⟨ns0, l0, n0⟩ := ne
    refine OK_jb (vX13_no (B := B) (n := n) (r := R0) (by exact S0)) (fun h21 r1 => ?_)
    try dsimp only [Sum.elim_inl, Sum.elim_inr, jt2, jt3, jt4, jt5, jt6, jt7, jt8] at r1
    obtain ⟨nb1, fr1⟩ := r1
    try simp (disch := omega) only [jst_eq, jst_ne, jst_ni, jI_i, jcmp_lt, jcmp_gt, w32_id, jcpy_out, Sum.elim_inl, Sum.elim_inr, jt2, jt3, jt4, jt5, jt6, jt7, jt8] at nb1
    try simp (disch := omega) only [jst_eq, jst_ne, jst_ni, jI_i, jcmp_lt, jcmp_gt, w32_id, jcpy_out, Sum.elim_inl, Sum.elim_inr, jt2, jt3, jt4, jt5, jt6, jt7, jt8] at fr1
    have F21 : f8X h21 := f8X_f st.2.2.2.2.2.2.2.2.2 (fun s y => fr1 _ _ (by omega))
    refine OK_mono (vX13_law_j323 (B := B) (n := n) (A := A) (a := a) (T := T) (la := la) (m := m) (E := E) (ks := ks) _ _ (by exact hB) (by exact lwS_f st (fun b s y => fr1 b s (fun z => y (Or.inl (by omega)))) (by rw [fr1 _ _ (by omega)]; exact st.2.2.2.2.2.2.2.1.2.2) ⟨by rw [fr1 _ _ (by omega)]; exact st.2.2.2.2.2.2.1.1, st.2.2.2.2.2.2.1.2⟩ F21) (by exact Sx_l nb1.1 nb1.2) (by (obtain ⟨u, u0, u1, u2, u3, u4⟩ := rm; exact ⟨u, u0, u1, by rw [fr1 _ _ (by omega)]; exact u2, by rw [fr1 _ _ (by omega)]; exact u3, fun q e => by cases e⟩)) (by exact ⟨fun k p ep => by (rw [fr1 442 k (by omega), fr1 443 k (by omega), fr1 444 k (by omega)]; exact n0 k p ep), l0, ar.2⟩) (by exact ro)) (fun r r2 => ?_)
    try dsimp only [Sum.elim_inl, Sum.elim_inr, jt2, jt3, jt4, jt5, jt6, jt7, jt8] at r2
    obtain ⟨ok2, fr2⟩ := r2
    try simp (disch := omega) only [jst_eq, jst_ne, jst_ni, jI_i, jcmp_lt, jcmp_gt, w32_id, jcpy_out, Sum.elim_inl, Sum.elim_inr, jt2, jt3, jt4, jt5, jt6, jt7, jt8] at ok2
    try simp (disch := omega) only [jst_eq, jst_ne, jst_ni, jI_i, jcmp_lt, jcmp_gt, w32_id, jcpy_out, Sum.elim_inl, Sum.elim_inr, jt2, jt3, jt4, jt5, jt6, jt7, jt8] at fr2
    try dsimp only [Sum.elim_inl, Sum.elim_inr, jt2, jt3, jt4, jt5, jt6, jt7, jt8]
    try dsimp only [Sum.elim_inl, Sum.elim_inr, jt2, jt3, jt4, jt5, jt6, jt7, jt8]
    refine ⟨?_, ?_⟩
    · (have W0 : bS R0 (pLa2 B n) = .inl (plc B n R0) := (by cases eR : R0 with | inl z => rfl | inr q => (have o := N0 q eR; show bS (bS (pNm B n q) _) _ = _; have e : pNm B n q = .inl (tS B n q) := if_neg o; rw [e]; rfl)); rw [W0]; exact ok2) -- o8 e1.1
    · exact fun b s y1 y2 y3 y4 y5 y6 y7 y8 => by (have z0 : h21 T 0 = h T 0 := fr1 _ _ (by omega); exact (fr2 b s y1 y2 y3 (by omega) (by omega) y6 y7 y8).trans (fr1 b s (by omega))) -- o9 e1.2
  · skip
    try simp (disch := omega) only [jst_eq, jst_ne, jst_ni, jI_i, jcmp_lt, jcmp_gt, w32_id, jcpy_out, Sum.elim_inl, Sum.elim_inr, jt2, jt3, jt4, jt5, jt6, jt7, jt8] at c1
    obtain ⟨R1, ns1, S1, LN, NM, W1, RM1, FKe⟩ := nsQ_of hB s0 ne c1 rm g0
    refine OK_mono (vX13_law_j323 (B := B) (n := n) (A := A) (a := a) (T := T) (la := la) (m := m) (E := E) (ks := ks) _ _ (by exact hB) (by exact st) (by exact S1) (by exact RM1) (by exact ⟨NM, LN, ar.2⟩) (by exact ro)) (fun r r3 => ?_)
    try dsimp only [Sum.elim_inl, Sum.elim_inr, jt2, jt3, jt4, jt5, jt6, jt7, jt8] at r3
    obtain ⟨ok3, fr3⟩ := r3
    try simp (disch := omega) only [jst_eq, jst_ne, jst_ni, jI_i, jcmp_lt, jcmp_gt, w32_id, jcpy_out, Sum.elim_inl, Sum.elim_inr, jt2, jt3, jt4, jt5, jt6, jt7, jt8] at ok3
    try simp (disch := omega) only [jst_eq, jst_ne, jst_ni, jI_i, jcmp_lt, jcmp_gt, w32_id, jcpy_out, Sum.elim_inl, Sum.elim_inr, jt2, jt3, jt4, jt5, jt6, jt7, jt8] at fr3
    try dsimp only [Sum.elim_inl, Sum.elim_inr, jt2, jt3, jt4, jt5, jt6, jt7, jt8]
    try dsimp only [Sum.elim_inl, Sum.elim_inr, jt2, jt3, jt4, jt5, jt6, jt7, jt8]
    refine ⟨?_, ?_⟩
    · (rw [W1]; exact lwQ_k (Int.le_refl _) (fun r q w => by (obtain ⟨en, q0, eq⟩ := pLw_ns w; have f := FKe q0 eq; show min (FK h) (min (keyE (EVA B n E ks la r.1) (-1) r.2.1) (keyE (EVA B n E ks la r.1) (kdE (EVA B n E ks la r.1) r.2.1) r.2.2)) = min K (min (nmL B n [] r.1) (min (keyE (EVA B n E ks la r.1) (-1) r.2.1) (keyE (EVA B n E ks la r.1) (kdE (EVA B n E ks la r.1) r.2.1) r.2.2))); rw [f, Int.min_assoc, en])) ok3) -- o16 e2.1
    · (first | assumption | omega | ((try dsimp only [jt2, jt3, jt4]); first | omega | (simp (disch := omega) only [jst_eq, jst_ne, jst_ni, jst_o, jI_i, jcpy_out, w32_id, jdiv_nn, jshr_k, jand_255] <;> first | done | omega | assumption)) | (intros; simp (disch := omega) only [jst_eq, jst_ne, jst_ni, jst_o, jI_i, jcpy_out, w32_id, jdiv_nn, *] <;> first | done | omega) | (intros; simp (disch := omega) only [jst_eq, jst_ne, jst_ni, jst_o, jI_i, jcpy_out, w32_id, jdiv_nn] at * <;> first | done | omega | assumption) | (intros; first | rfl | (exfalso; omega) | ((repeat' apply And.intro) <;> first | assumption | rfl | omega | trivial))) -- o17 e2.2
theorem T0_a {a T : Int} {h h18 : AH} (LA : a = 271 ∨ a = 289) (eT : T = a + 12) (g : ∀ b s, ¬ (b = 441 ∧ 2 ≤ s ∧ s ≤ 9) → ¬ ((b = 442 ∨ b = 443 ∨ b = 444) ∧ 0 ≤ s) → h18 b s = h b s) : h18 T 0 = h T 0 := g _ _ (by omega) (by omega)
theorem frLw_a {a T m : Int} {h h18 h' : AH} (le : h18 T 0 = h T 0) (f : frLw a T m (h18 T 0) h18 h') (g : ∀ b s, ¬ (b = 441 ∧ 2 ≤ s ∧ s ≤ 9) → ¬ ((b = 442 ∨ b = 443 ∨ b = 444) ∧ 0 ≤ s) → h18 b s = h b s) : frLw a T m (h T 0) h h' := fun b s y1 y2 y3 y4 y5 y6 y7 y8 => by
  rw [le] at f
  exact (f b s y1 y2 y3 y4 y5 y6 y7 y8).trans (g b s (by omega) (by omega))
theorem vX13_law_j116 (a2 : Int) {h : AH} {B : Int → Int} {n A a T la m q : Int} {E : EV} {ks : List Int} (hB : ∀ i, 0 ≤ i → i < n → 0 ≤ B i ∧ B i < 256) (st : lwS B n A a T E ks la m h) (nb : NB B n q h ∧ tO B n q = 1) (rm : rmT B n T (.inr q) h) (ro : (a2 = 0 ∨ a2 = 1) ∧ (a2 = 1 → m < 4)) : OK (gX13_law_j116 a2 h) (fun h' => (lwQ B n A a T E ks la m a2 (h T 0) (fun r => min (FK h) (lwK0 B n E ks la r)) (pLaw B n q) h') ∧ (frLw a T m (h T 0) h h')) := by
  have LA : a = 271 ∨ a = 289 := st.2.2.2.1.1
  have eT : T = a + 12 := st.2.2.2.1.2.2
  have FH := st.2.2.2.2.2.2.2.2.2
  have n5 : tO B n q ≠ 5 := by { rw [nb.2]; decide }
  have nq := nb.1.2.2
  unfold gX13_law_j116
  refine OK_jb (vX13_nextS (B := B) (n := n) (A := A) (q := q) (by exact st.1) (by exact hB) (by exact nb.1) (by exact n5)) (fun h14 r1 => ?_)
  try dsimp only [Sum.elim_inl, Sum.elim_inr, jt2, jt3, jt4, jt5, jt6, jt7, jt8] at r1
  obtain ⟨sx1, fr1⟩ := r1
  try simp (disch := omega) only [jst_eq, jst_ne, jst_ni, jI_i, jcmp_lt, jcmp_gt, w32_id, jcpy_out, Sum.elim_inl, Sum.elim_inr, jt2, jt3, jt4, jt5, jt6, jt7, jt8] at sx1
  try simp (disch := omega) only [jst_eq, jst_ne, jst_ni, jI_i, jcmp_lt, jcmp_gt, w32_id, jcpy_out, Sum.elim_inl, Sum.elim_inr, jt2, jt3, jt4, jt5, jt6, jt7, jt8] at fr1
  have F14 : f8X h14 := f8X_f FH (fun s y => fr1 _ _ (by omega))
  have K14 : FK h14 = FK h := FK_fr (fr1 _ _ (by omega)) (fr1 _ _ (by omega))
  have L14 : lwS B n A a T E ks la m h14 := lwS_f st (fun b s y => fr1 b s (fun z => y (Or.inl (by omega)))) (by rw [fr1 _ _ (by omega)]; exact st.2.2.2.2.2.2.2.1.2.2) ⟨by rw [fr1 _ _ (by omega)]; exact st.2.2.2.2.2.2.1.1, st.2.2.2.2.2.2.1.2⟩ F14
  have NR : ∀ q', nx B n q = .inr q' → q ≤ q' ∧ 0 ≤ q' ∧ q' ≤ n ∧ tO B n q' ≠ 5 := fun q' e => by { have nr := nx_r hB nq.1 nq.2 n5 (by rw [nb.2]; decide) e; exact ⟨by omega, by omega, nr.2.2.1, nr.2.2.2⟩ }
  refine OK_jb (vX13_law_l123 (B := B) (n := n) (A := A) (K := FK h) (R0 := nx B n q) _ _ (by exact hB) (by exact L14.1) (by exact sx1) (by exact L14.2.2.1) (by exact F14) (by (have := FH.2.2; omega)) (by rfl)) (fun o15 r2 => ?_)
  obtain ⟨y17, h18⟩ := o15
  refine OK_jt2 ?_
  try dsimp only [Sum.elim_inl, Sum.elim_inr, jt2, jt3, jt4, jt5, jt6, jt7, jt8] at r2
  obtain ⟨ok2, fr2⟩ := r2
  try simp (disch := omega) only [jst_eq, jst_ne, jst_ni, jI_i, jcmp_lt, jcmp_gt, w32_id, jcpy_out, Sum.elim_inl, Sum.elim_inr, jt2, jt3, jt4, jt5, jt6, jt7, jt8] at ok2
  try simp (disch := omega) only [jst_eq, jst_ne, jst_ni, jI_i, jcmp_lt, jcmp_gt, w32_id, jcpy_out, Sum.elim_inl, Sum.elim_inr, jt2, jt3, jt4, jt5, jt6, jt7, jt8] at fr2
  obtain ⟨Q1, Q2, Q3, Q4⟩ := ok2
  have G18 : ∀ b s, ¬ (b = 441 ∧ 2 ≤ s ∧ s ≤ 9) → ¬ ((b = 442 ∨ b = 443 ∨ b = 444) ∧ 0 ≤ s) → h18 b s = h b s := fun b s y1 y2 => (fr2 b s y1 y2).trans (fr1 b s (by omega))
  have L18 : lwS B n A a T E ks la m h18 := lwS_f st (fun b s y => G18 b s (fun z => y (Or.inl (by omega))) (fun z => y (Or.inr (Or.inl (by omega))))) (by rw [G18 _ _ (by omega) (by omega)]; exact st.2.2.2.2.2.2.2.1.2.2) ⟨by rw [G18 _ _ (by omega) (by omega)]; exact st.2.2.2.2.2.2.1.1, st.2.2.2.2.2.2.1.2⟩ Q2
  refine OK_mono (vX13_law_j314 (B := B) (n := n) (A := A) (a := a) (T := T) (la := la) (m := m) (E := E) (ks := ks) (K := FK h) (R0 := nx B n q) _ _ (by exact hB) (by exact L18) (by exact Q1) (by exact Q3) (by exact Q4) (by (obtain ⟨u, u0, u1, u2, u3, u4⟩ := rm; have e : h18 T 0 = h T 0 := T0_a LA eT G18; exact ⟨u, u0, u1, by omega, by omega, fun q' e' => by (have := NR q' e'; have := u4 q rfl; omega)⟩)) (by exact fun q' e => (NR q' e).2) (by exact ro)) (fun r r3 => ?_)
  try dsimp only [Sum.elim_inl, Sum.elim_inr, jt2, jt3, jt4, jt5, jt6, jt7, jt8] at r3
  obtain ⟨ok3, fr3⟩ := r3
  try simp (disch := omega) only [jst_eq, jst_ne, jst_ni, jI_i, jcmp_lt, jcmp_gt, w32_id, jcpy_out, Sum.elim_inl, Sum.elim_inr, jt2, jt3, jt4, jt5, jt6, jt7, jt8] at ok3
  try simp (disch := omega) only [jst_eq, jst_ne, jst_ni, jI_i, jcmp_lt, jcmp_gt, w32_id, jcpy_out, Sum.elim_inl, Sum.elim_inr, jt2, jt3, jt4, jt5, jt6, jt7, jt8] at fr3
  try dsimp only [Sum.elim_inl, Sum.elim_inr, jt2, jt3, jt4, jt5, jt6, jt7, jt8]
  try dsimp only [Sum.elim_inl, Sum.elim_inr, jt2, jt3, jt4, jt5, jt6, jt7, jt8]
  refine ⟨?_, ?_⟩
  · exact lwQ_k (Int.le_of_eq (T0_a LA eT G18).symm) (fun _ _ _ => rfl) ok3 -- o20 e1.1
  · exact frLw_a (T0_a LA eT G18) fr3 G18 -- o21 e1.2
theorem vX13_law_j109 (a1 : Int) (a2 : Int) {h : AH} {B : Int → Int} {n A a T la m q : Int} {E : EV} {ks : List Int} (hB : ∀ i, 0 ≤ i → i < n → 0 ≤ B i ∧ B i < 256) (st : lwS B n A a T E ks la m h) (nb : NB B n q h ∧ tO B n q = 1) (rm : rmT B n T (.inr q) h) (ro : (a2 = 0 ∨ a2 = 1) ∧ (a2 = 1 → m < 4)) (w1 : a1 = tS B n q) : OK (gX13_law_j109 a1 a2 h) (fun h' => (lwQ B n A a T E ks la m a2 (h T 0) (fun r => min (min (FK h) (a1 * 8 + 6)) (lwK0 B n E ks la r)) (pLaw B n q) h') ∧ (frLw a T m (h T 0) h h')) := by
  have LA : a = 271 ∨ a = 289 := st.2.2.2.1.1
  have eT : T = a + 12 := st.2.2.2.1.2.2
  have FH := st.2.2.2.2.2.2.2.2.2
  have nq := nb.1.2.2
  have SR := tS_r (B := B) nq.2
  have n2 := st.1.2.2.2.1
  unfold gX13_law_j109
  refine OK_jb (vX13_err _ _ (by exact ⟨FH.1, FH.2.1⟩) (by omega)) (fun h92 r1 => ?_)
  try dsimp only [Sum.elim_inl, Sum.elim_inr, jt2, jt3, jt4, jt5, jt6, jt7, jt8] at r1
  obtain ⟨f1, k1, fr1⟩ := r1
  try simp (disch := omega) only [jst_eq, jst_ne, jst_ni, jI_i, jcmp_lt, jcmp_gt, w32_id, jcpy_out, Sum.elim_inl, Sum.elim_inr, jt2, jt3, jt4, jt5, jt6, jt7, jt8] at f1
  try simp (disch := omega) only [jst_eq, jst_ne, jst_ni, jI_i, jcmp_lt, jcmp_gt, w32_id, jcpy_out, Sum.elim_inl, Sum.elim_inr, jt2, jt3, jt4, jt5, jt6, jt7, jt8] at k1
  try simp (disch := omega) only [jst_eq, jst_ne, jst_ni, jI_i, jcmp_lt, jcmp_gt, w32_id, jcpy_out, Sum.elim_inl, Sum.elim_inr, jt2, jt3, jt4, jt5, jt6, jt7, jt8] at fr1
  have F92 : f8X h92 := ⟨f1.1, f1.2, by rw [k1]; have := FH.2.2; omega⟩
  refine OK_mono (vX13_law_j116 (B := B) (n := n) (A := A) (a := a) (T := T) (la := la) (m := m) (E := E) (ks := ks) (q := q) _ (by exact hB) (by exact lwS_f st (fun b s y => fr1 b s (fun z => y (Or.inl (by omega)))) (by rw [fr1 _ _ (by omega)]; exact st.2.2.2.2.2.2.2.1.2.2) ⟨by rw [fr1 _ _ (by omega)]; exact st.2.2.2.2.2.2.1.1, st.2.2.2.2.2.2.1.2⟩ F92) (by exact ⟨NB_fr nb.1 (fun s s0 s1 => fr1 _ _ (by omega)), nb.2⟩) (by (obtain ⟨u, u0, u1, u2, u3, u4⟩ := rm; exact ⟨u, u0, u1, by rw [fr1 _ _ (by omega)]; exact u2, by rw [fr1 _ _ (by omega)]; exact u3, u4⟩)) (by exact ro)) (fun r r2 => ?_)
  try dsimp only [Sum.elim_inl, Sum.elim_inr, jt2, jt3, jt4, jt5, jt6, jt7, jt8] at r2
  obtain ⟨ok2, fr2⟩ := r2
  try simp (disch := omega) only [jst_eq, jst_ne, jst_ni, jI_i, jcmp_lt, jcmp_gt, w32_id, jcpy_out, Sum.elim_inl, Sum.elim_inr, jt2, jt3, jt4, jt5, jt6, jt7, jt8] at ok2
  try simp (disch := omega) only [jst_eq, jst_ne, jst_ni, jI_i, jcmp_lt, jcmp_gt, w32_id, jcpy_out, Sum.elim_inl, Sum.elim_inr, jt2, jt3, jt4, jt5, jt6, jt7, jt8] at fr2
  try dsimp only [Sum.elim_inl, Sum.elim_inr, jt2, jt3, jt4, jt5, jt6, jt7, jt8]
  try dsimp only [Sum.elim_inl, Sum.elim_inr, jt2, jt3, jt4, jt5, jt6, jt7, jt8]
  refine ⟨?_, ?_⟩
  · exact lwQ_k (by have e : h92 T 0 = h T 0 := fr1 _ _ (by omega); omega) (fun r q' _ => by (show min (FK h92) (lwK0 B n E ks la r) = min (min (FK h) (a1 * 8 + 6)) (lwK0 B n E ks la r); rw [k1])) ok2 -- o8 e1.1
  · exact fun b s y1 y2 y3 y4 y5 y6 y7 y8 => by (have e : h92 T 0 = h T 0 := fr1 _ _ (by omega); exact (fr2 b s y1 y2 y3 (by omega) (by omega) y6 y7 y8).trans (fr1 b s (by omega))) -- o9 e1.2
theorem vX13_law_j48 (a1 : Int) (a2 : Int) (t0 : Int) {h : AH} {B : Int → Int} {n A a T la m q : Int} {E : EV} {ks : List Int} (hB : ∀ i, 0 ≤ i → i < n → 0 ≤ B i ∧ B i < 256) (st : lwS B n A a T E ks la m h) (nb : NB B n q h ∧ tO B n q = 1) (rm : rmT B n T (.inr q) h) (ro : (a2 = 0 ∨ a2 = 1) ∧ (a2 = 1 → m < 4)) (w1 : a1 = tS B n q) (tz : (t0 = 0 ∨ t0 = 1) ∧ (t0 = 1 ↔ la = 2)) : OK (gX13_law_j48 a1 a2 t0 h) (fun h' => (lwQ B n A a T E ks la m a2 (h T 0) (fun r => min (min (FK h) (cif (lw6 ks la) (a1 * 8 + 6) 1000000)) (lwK0 B n E ks la r)) (pLaw B n q) h') ∧ (frLw a T m (h T 0) h h')) := by
  have LA : a = 271 ∨ a = 289 := st.2.2.2.1.1
  have FH := st.2.2.2.2.2.2.2.2.2
  have E20 := st.2.2.2.1.2.1
  have KD := st.2.2.2.2.1
  unfold gX13_law_j48
  refine OK_jb (vX13_law_l52 (ks := ks) _ _ _ _ (by (rw [E20]; exact ⟨LA, KD.1, KD.2.2.1, KD.2.2.2⟩)) (by exact ⟨rfl, tz.1⟩)) (fun o7 r1 => ?_)
  try dsimp only [Sum.elim_inl, Sum.elim_inr, jt2, jt3, jt4, jt5, jt6, jt7, jt8] at r1
  have v1 := r1
  clear r1
  try simp (disch := omega) only [jst_eq, jst_ne, jst_ni, jI_i, jcmp_lt, jcmp_gt, w32_id, jcpy_out, Sum.elim_inl, Sum.elim_inr, jt2, jt3, jt4, jt5, jt6, jt7, jt8] at v1
  refine OK_if (fun c1 => ?_) (fun c1 => ?_)
  · skip
    try simp (disch := omega) only [jst_eq, jst_ne, jst_ni, jI_i, jcmp_lt, jcmp_gt, w32_id, jcpy_out, Sum.elim_inl, Sum.elim_inr, jt2, jt3, jt4, jt5, jt6, jt7, jt8] at c1
    have N2 : ¬ (la = 2 ∨ 2 ∈ ks) := fun z => by { have := v1.2.mpr (z.elim (fun y => Or.inl (tz.2.mpr y)) Or.inr); omega }
    refine OK_jg (by (first | ((rw [E20]; unfold isX4; omega)) | (first | assumption | omega | ((try dsimp only [jt2, jt3, jt4]); first | omega | (simp (disch := omega) only [jst_eq, jst_ne, jst_ni, jst_o, jI_i, jcpy_out, w32_id, jdiv_nn, jshr_k, jand_255] <;> first | done | omega | assumption)) | (intros; simp (disch := omega) only [jst_eq, jst_ne, jst_ni, jst_o, jI_i, jcpy_out, w32_id, jdiv_nn, *] <;> first | done | omega) | (intros; simp (disch := omega) only [jst_eq, jst_ne, jst_ni, jst_o, jI_i, jcpy_out, w32_id, jdiv_nn] at * <;> first | done | omega | assumption) | (intros; first | rfl | (exfalso; omega) | ((repeat' apply And.intro) <;> first | assumption | rfl | omega | trivial))))) ?_ -- o3
    refine OK_jb (vX4_allPoints (ks := ks) _ (by (rw [E20]; exact ⟨KD.1, KD.2.2.1, KD.2.2.2⟩))) (fun v11 r2 => ?_)
    try dsimp only [Sum.elim_inl, Sum.elim_inr, jt2, jt3, jt4, jt5, jt6, jt7, jt8] at r2
    have v2 := r2
    clear r2
    try simp (disch := omega) only [jst_eq, jst_ne, jst_ni, jI_i, jcmp_lt, jcmp_gt, w32_id, jcpy_out, Sum.elim_inl, Sum.elim_inr, jt2, jt3, jt4, jt5, jt6, jt7, jt8] at v2
    refine OK_if (fun c2 => ?_) (fun c2 => ?_)
    · skip
      try simp (disch := omega) only [jst_eq, jst_ne, jst_ni, jI_i, jcmp_lt, jcmp_gt, w32_id, jcpy_out, Sum.elim_inl, Sum.elim_inr, jt2, jt3, jt4, jt5, jt6, jt7, jt8] at c2
      have NL : ¬ lw6 ks la := fun z => by { rcases z with z | z | z; { exact N2 (Or.inl z) }; { exact N2 (Or.inr z) }; { rw [← apN_pt (fun y => N2 (Or.inr y))] at z; omega } }
      refine OK_mono (vX13_law_j116 (B := B) (n := n) (A := A) (a := a) (T := T) (la := la) (m := m) (E := E) (ks := ks) (q := q) _ (by exact hB) (by exact st) (by exact nb) (by exact rm) (by exact ro)) (fun r r3 => ?_)
      try dsimp only [Sum.elim_inl, Sum.elim_inr, jt2, jt3, jt4, jt5, jt6, jt7, jt8] at r3
      obtain ⟨ok3, fr3⟩ := r3
      try simp (disch := omega) only [jst_eq, jst_ne, jst_ni, jI_i, jcmp_lt, jcmp_gt, w32_id, jcpy_out, Sum.elim_inl, Sum.elim_inr, jt2, jt3, jt4, jt5, jt6, jt7, jt8] at ok3
      try simp (disch := omega) only [jst_eq, jst_ne, jst_ni, jI_i, jcmp_lt, jcmp_gt, w32_id, jcpy_out, Sum.elim_inl, Sum.elim_inr, jt2, jt3, jt4, jt5, jt6, jt7, jt8] at fr3
      try dsimp only [Sum.elim_inl, Sum.elim_inr, jt2, jt3, jt4, jt5, jt6, jt7, jt8]
      try dsimp only [Sum.elim_inl, Sum.elim_inr, jt2, jt3, jt4, jt5, jt6, jt7, jt8]
      refine ⟨?_, ?_⟩
      · exact lwQ_k (Int.le_refl _) (fun r q' _ => by (show min (FK h) (lwK0 B n E ks la r) = min (min (FK h) (cif (lw6 ks la) (a1 * 8 + 6) 1000000)) (lwK0 B n E ks la r); rw [cif_n NL]; have := FH.2.2; omega)) ok3 -- o10 e1.1
      · exact fr3 -- o11 e1.2
    · skip
      try simp (disch := omega) only [jst_eq, jst_ne, jst_ni, jI_i, jcmp_lt, jcmp_gt, w32_id, jcpy_out, Sum.elim_inl, Sum.elim_inr, jt2, jt3, jt4, jt5, jt6, jt7, jt8] at c2
      have YL : lw6 ks la := Or.inr (Or.inr (by { rw [← apN_pt (fun y => N2 (Or.inr y))]; omega }))
      refine OK_mono (vX13_law_j109 (B := B) (n := n) (A := A) (a := a) (T := T) (la := la) (m := m) (E := E) (ks := ks) (q := q) _ _ (by exact hB) (by exact st) (by exact nb) (by exact rm) (by exact ro) (by exact w1)) (fun r r4 => ?_)
      try dsimp only [Sum.elim_inl, Sum.elim_inr, jt2, jt3, jt4, jt5, jt6, jt7, jt8] at r4
      obtain ⟨ok4, fr4⟩ := r4
      try simp (disch := omega) only [jst_eq, jst_ne, jst_ni, jI_i, jcmp_lt, jcmp_gt, w32_id, jcpy_out, Sum.elim_inl, Sum.elim_inr, jt2, jt3, jt4, jt5, jt6, jt7, jt8] at ok4
      try simp (disch := omega) only [jst_eq, jst_ne, jst_ni, jI_i, jcmp_lt, jcmp_gt, w32_id, jcpy_out, Sum.elim_inl, Sum.elim_inr, jt2, jt3, jt4, jt5, jt6, jt7, jt8] at fr4
      try dsimp only [Sum.elim_inl, Sum.elim_inr, jt2, jt3, jt4, jt5, jt6, jt7, jt8]
      try dsimp only [Sum.elim_inl, Sum.elim_inr, jt2, jt3, jt4, jt5, jt6, jt7, jt8]
      refine ⟨?_, ?_⟩
      · exact lwQ_k (Int.le_refl _) (fun r q' _ => by (show min (min (FK h) (a1 * 8 + 6)) (lwK0 B n E ks la r) = min (min (FK h) (cif (lw6 ks la) (a1 * 8 + 6) 1000000)) (lwK0 B n E ks la r); rw [cif_p YL])) ok4 -- o18 e2.1
      · exact fr4 -- o19 e2.2
  · skip
    try simp (disch := omega) only [jst_eq, jst_ne, jst_ni, jI_i, jcmp_lt, jcmp_gt, w32_id, jcpy_out, Sum.elim_inl, Sum.elim_inr, jt2, jt3, jt4, jt5, jt6, jt7, jt8] at c1
    have Y2 : lw6 ks la := by { have o1 : o7 = 1 := (by omega); rcases v1.2.mp o1 with y | y; { exact Or.inl (tz.2.mp y) }; { exact Or.inr (Or.inl y) } }
    refine OK_mono (vX13_law_j109 (B := B) (n := n) (A := A) (a := a) (T := T) (la := la) (m := m) (E := E) (ks := ks) (q := q) _ _ (by exact hB) (by exact st) (by exact nb) (by exact rm) (by exact ro) (by exact w1)) (fun r r5 => ?_)
    try dsimp only [Sum.elim_inl, Sum.elim_inr, jt2, jt3, jt4, jt5, jt6, jt7, jt8] at r5
    obtain ⟨ok5, fr5⟩ := r5
    try simp (disch := omega) only [jst_eq, jst_ne, jst_ni, jI_i, jcmp_lt, jcmp_gt, w32_id, jcpy_out, Sum.elim_inl, Sum.elim_inr, jt2, jt3, jt4, jt5, jt6, jt7, jt8] at ok5
    try simp (disch := omega) only [jst_eq, jst_ne, jst_ni, jI_i, jcmp_lt, jcmp_gt, w32_id, jcpy_out, Sum.elim_inl, Sum.elim_inr, jt2, jt3, jt4, jt5, jt6, jt7, jt8] at fr5
    try dsimp only [Sum.elim_inl, Sum.elim_inr, jt2, jt3, jt4, jt5, jt6, jt7, jt8]
    try dsimp only [Sum.elim_inl, Sum.elim_inr, jt2, jt3, jt4, jt5, jt6, jt7, jt8]
    refine ⟨?_, ?_⟩
    · exact lwQ_k (Int.le_refl _) (fun r q' _ => by (show min (min (FK h) (a1 * 8 + 6)) (lwK0 B n E ks la r) = min (min (FK h) (cif (lw6 ks la) (a1 * 8 + 6) 1000000)) (lwK0 B n E ks la r); rw [cif_p Y2])) ok5 -- o26 e3.1
    · exact fr5 -- o27 e3.2
theorem vX13_law_j32 (a1 : Int) (a2 : Int) {h : AH} {B : Int → Int} {n A a T la m q : Int} {E : EV} {ks : List Int} (hB : ∀ i, 0 ≤ i → i < n → 0 ≤ B i ∧ B i < 256) (st : lwS B n A a T E ks la m h) (nb : NB B n q h ∧ tO B n q = 1) (rm : rmT B n T (.inr q) h) (ro : (a2 = 0 ∨ a2 = 1) ∧ (a2 = 1 → m < 4)) (w1 : a1 = tS B n q) : OK (gX13_law_j32 a1 a2 h) (fun h' => (lwQ B n A a T E ks la m a2 (h T 0) (fun r => min (min (FK h) (cif (lw6 ks la) (a1 * 8 + 6) 1000000)) (lwK0 B n E ks la r)) (pLaw B n q) h') ∧ (frLw a T m (h T 0) h h')) := by
  have LA : a = 271 ∨ a = 289 := st.2.2.2.1.1
  have E20 := st.2.2.2.1.2.1
  have E2 := st.2.2.2.2.2.1
  unfold gX13_law_j32
  refine OK_jg (by (first | ((rw [E20]; unfold isX4; omega)) | (first | assumption | omega | ((try dsimp only [jt2, jt3, jt4]); first | omega | (simp (disch := omega) only [jst_eq, jst_ne, jst_ni, jst_o, jI_i, jcpy_out, w32_id, jdiv_nn, jshr_k, jand_255] <;> first | done | omega | assumption)) | (intros; simp (disch := omega) only [jst_eq, jst_ne, jst_ni, jst_o, jI_i, jcpy_out, w32_id, jdiv_nn, *] <;> first | done | omega) | (intros; simp (disch := omega) only [jst_eq, jst_ne, jst_ni, jst_o, jI_i, jcpy_out, w32_id, jdiv_nn] at * <;> first | done | omega | assumption) | (intros; first | rfl | (exfalso; omega) | ((repeat' apply And.intro) <;> first | assumption | rfl | omega | trivial))))) ?_ -- o1
  refine OK_if (fun c1 => ?_) (fun c1 => ?_)
  · skip
    try simp (disch := omega) only [jst_eq, jst_ne, jst_ni, jI_i, jcmp_lt, jcmp_gt, w32_id, jcpy_out, Sum.elim_inl, Sum.elim_inr, jt2, jt3, jt4, jt5, jt6, jt7, jt8] at c1
    rw [E20, E2.1] at c1
    refine OK_mono (vX13_law_j48 (B := B) (n := n) (A := A) (a := a) (T := T) (la := la) (m := m) (E := E) (ks := ks) (q := q) _ _ _ (by exact hB) (by exact st) (by exact nb) (by exact rm) (by exact ro) (by exact w1) (by exact ⟨Or.inr rfl, fun _ => c1, fun _ => rfl⟩)) (fun r r1 => ?_)
    try dsimp only [Sum.elim_inl, Sum.elim_inr, jt2, jt3, jt4, jt5, jt6, jt7, jt8] at r1
    obtain ⟨ok1, fr1⟩ := r1
    try simp (disch := omega) only [jst_eq, jst_ne, jst_ni, jI_i, jcmp_lt, jcmp_gt, w32_id, jcpy_out, Sum.elim_inl, Sum.elim_inr, jt2, jt3, jt4, jt5, jt6, jt7, jt8] at ok1
    try simp (disch := omega) only [jst_eq, jst_ne, jst_ni, jI_i, jcmp_lt, jcmp_gt, w32_id, jcpy_out, Sum.elim_inl, Sum.elim_inr, jt2, jt3, jt4, jt5, jt6, jt7, jt8] at fr1
    try dsimp only [Sum.elim_inl, Sum.elim_inr, jt2, jt3, jt4, jt5, jt6, jt7, jt8]
    try dsimp only [Sum.elim_inl, Sum.elim_inr, jt2, jt3, jt4, jt5, jt6, jt7, jt8]
    refine ⟨?_, ?_⟩
    · exact ok1 -- o9 e1.1
    · exact fr1 -- o10 e1.2
  · skip
    try simp (disch := omega) only [jst_eq, jst_ne, jst_ni, jI_i, jcmp_lt, jcmp_gt, w32_id, jcpy_out, Sum.elim_inl, Sum.elim_inr, jt2, jt3, jt4, jt5, jt6, jt7, jt8] at c1
    rw [E20, E2.1] at c1
    refine OK_mono (vX13_law_j48 (B := B) (n := n) (A := A) (a := a) (T := T) (la := la) (m := m) (E := E) (ks := ks) (q := q) _ _ _ (by exact hB) (by exact st) (by exact nb) (by exact rm) (by exact ro) (by exact w1) (by exact ⟨Or.inl rfl, fun z => absurd z (by decide), fun z => absurd z c1⟩)) (fun r r2 => ?_)
    try dsimp only [Sum.elim_inl, Sum.elim_inr, jt2, jt3, jt4, jt5, jt6, jt7, jt8] at r2
    obtain ⟨ok2, fr2⟩ := r2
    try simp (disch := omega) only [jst_eq, jst_ne, jst_ni, jI_i, jcmp_lt, jcmp_gt, w32_id, jcpy_out, Sum.elim_inl, Sum.elim_inr, jt2, jt3, jt4, jt5, jt6, jt7, jt8] at ok2
    try simp (disch := omega) only [jst_eq, jst_ne, jst_ni, jI_i, jcmp_lt, jcmp_gt, w32_id, jcpy_out, Sum.elim_inl, Sum.elim_inr, jt2, jt3, jt4, jt5, jt6, jt7, jt8] at fr2
    try dsimp only [Sum.elim_inl, Sum.elim_inr, jt2, jt3, jt4, jt5, jt6, jt7, jt8]
    try dsimp only [Sum.elim_inl, Sum.elim_inr, jt2, jt3, jt4, jt5, jt6, jt7, jt8]
    refine ⟨?_, ?_⟩
    · exact ok2 -- o18 e2.1
    · exact fr2 -- o19 e2.2
theorem vX13_law_j21 (a1 : Int) (t0 : Int) {h : AH} {B : Int → Int} {n A a T la m q : Int} {E : EV} {ks : List Int} (hB : ∀ i, 0 ≤ i → i < n → 0 ≤ B i ∧ B i < 256) (st : lwS B n A a T E ks la m h) (nb : NB B n q h ∧ tO B n q = 1) (rm : rmT B n T (.inr q) h) (ro : (t0 = 0 ∨ t0 = 1) ∧ (t0 = 1 → m < 4)) (w1 : a1 = tS B n q) : OK (gX13_law_j21 a1 t0 h) (fun h' => (lwQ B n A a T E ks la m t0 (h T 0) (fun r => min (min (min (FK h) (if t0 = 0 then a1 * 8 + 5 else 1000000)) (cif (lw6 ks la) (a1 * 8 + 6) 1000000)) (lwK0 B n E ks la r)) (pLaw B n q) h') ∧ (frLw a T m (h T 0) h h')) := by
  have LA : a = 271 ∨ a = 289 := st.2.2.2.1.1
  have eT : T = a + 12 := st.2.2.2.1.2.2
  have FH := st.2.2.2.2.2.2.2.2.2
  have nq := nb.1.2.2
  have SR := tS_r (B := B) nq.2
  have n2 := st.1.2.2.2.1
  unfold gX13_law_j21
  refine OK_if (fun c1 => ?_) (fun c1 => ?_)
  · skip
    try simp (disch := omega) only [jst_eq, jst_ne, jst_ni, jI_i, jcmp_lt, jcmp_gt, w32_id, jcpy_out, Sum.elim_inl, Sum.elim_inr, jt2, jt3, jt4, jt5, jt6, jt7, jt8] at c1
    refine OK_jb (vX13_err _ _ (by exact ⟨FH.1, FH.2.1⟩) (by omega)) (fun h5 r1 => ?_)
    try dsimp only [Sum.elim_inl, Sum.elim_inr, jt2, jt3, jt4, jt5, jt6, jt7, jt8] at r1
    obtain ⟨f1, k1, fr1⟩ := r1
    try simp (disch := omega) only [jst_eq, jst_ne, jst_ni, jI_i, jcmp_lt, jcmp_gt, w32_id, jcpy_out, Sum.elim_inl, Sum.elim_inr, jt2, jt3, jt4, jt5, jt6, jt7, jt8] at f1
    try simp (disch := omega) only [jst_eq, jst_ne, jst_ni, jI_i, jcmp_lt, jcmp_gt, w32_id, jcpy_out, Sum.elim_inl, Sum.elim_inr, jt2, jt3, jt4, jt5, jt6, jt7, jt8] at k1
    try simp (disch := omega) only [jst_eq, jst_ne, jst_ni, jI_i, jcmp_lt, jcmp_gt, w32_id, jcpy_out, Sum.elim_inl, Sum.elim_inr, jt2, jt3, jt4, jt5, jt6, jt7, jt8] at fr1
    have F5 : f8X h5 := ⟨f1.1, f1.2, by rw [k1]; have := FH.2.2; omega⟩
    refine OK_mono (vX13_law_j32 (B := B) (n := n) (A := A) (a := a) (T := T) (la := la) (m := m) (E := E) (ks := ks) (q := q) _ _ (by exact hB) (by exact lwS_f st (fun b s y => fr1 b s (fun z => y (Or.inl (by omega)))) (by rw [fr1 _ _ (by omega)]; exact st.2.2.2.2.2.2.2.1.2.2) ⟨by rw [fr1 _ _ (by omega)]; exact st.2.2.2.2.2.2.1.1, st.2.2.2.2.2.2.1.2⟩ F5) (by exact ⟨NB_fr nb.1 (fun s s0 s1 => fr1 _ _ (by omega)), nb.2⟩) (by (obtain ⟨u, u0, u1, u2, u3, u4⟩ := rm; exact ⟨u, u0, u1, by rw [fr1 _ _ (by omega)]; exact u2, by rw [fr1 _ _ (by omega)]; exact u3, u4⟩)) (by exact ro) (by exact w1)) (fun r r2 => ?_)
    try dsimp only [Sum.elim_inl, Sum.elim_inr, jt2, jt3, jt4, jt5, jt6, jt7, jt8] at r2
    obtain ⟨ok2, fr2⟩ := r2
    try simp (disch := omega) only [jst_eq, jst_ne, jst_ni, jI_i, jcmp_lt, jcmp_gt, w32_id, jcpy_out, Sum.elim_inl, Sum.elim_inr, jt2, jt3, jt4, jt5, jt6, jt7, jt8] at ok2
    try simp (disch := omega) only [jst_eq, jst_ne, jst_ni, jI_i, jcmp_lt, jcmp_gt, w32_id, jcpy_out, Sum.elim_inl, Sum.elim_inr, jt2, jt3, jt4, jt5, jt6, jt7, jt8] at fr2
    try dsimp only [Sum.elim_inl, Sum.elim_inr, jt2, jt3, jt4, jt5, jt6, jt7, jt8]
    try dsimp only [Sum.elim_inl, Sum.elim_inr, jt2, jt3, jt4, jt5, jt6, jt7, jt8]
    refine ⟨?_, ?_⟩
    · exact lwQ_k (by have e : h5 T 0 = h T 0 := fr1 _ _ (by omega); omega) (fun r q' _ => by (show min (min (FK h5) (cif (lw6 ks la) (a1 * 8 + 6) 1000000)) (lwK0 B n E ks la r) = min (min (min (FK h) (if t0 = 0 then a1 * 8 + 5 else 1000000)) (cif (lw6 ks la) (a1 * 8 + 6) 1000000)) (lwK0 B n E ks la r); rw [k1, if_pos c1])) ok2 -- o9 e1.1
    · exact fun b s y1 y2 y3 y4 y5 y6 y7 y8 => by (have e : h5 T 0 = h T 0 := fr1 _ _ (by omega); exact (fr2 b s y1 y2 y3 (by omega) (by omega) y6 y7 y8).trans (fr1 b s (by omega))) -- o10 e1.2
  · skip
    try simp (disch := omega) only [jst_eq, jst_ne, jst_ni, jI_i, jcmp_lt, jcmp_gt, w32_id, jcpy_out, Sum.elim_inl, Sum.elim_inr, jt2, jt3, jt4, jt5, jt6, jt7, jt8] at c1
    refine OK_mono (vX13_law_j32 (B := B) (n := n) (A := A) (a := a) (T := T) (la := la) (m := m) (E := E) (ks := ks) (q := q) _ _ (by exact hB) (by exact st) (by exact nb) (by exact rm) (by exact ro) (by exact w1)) (fun r r3 => ?_)
    try dsimp only [Sum.elim_inl, Sum.elim_inr, jt2, jt3, jt4, jt5, jt6, jt7, jt8] at r3
    obtain ⟨ok3, fr3⟩ := r3
    try simp (disch := omega) only [jst_eq, jst_ne, jst_ni, jI_i, jcmp_lt, jcmp_gt, w32_id, jcpy_out, Sum.elim_inl, Sum.elim_inr, jt2, jt3, jt4, jt5, jt6, jt7, jt8] at ok3
    try simp (disch := omega) only [jst_eq, jst_ne, jst_ni, jI_i, jcmp_lt, jcmp_gt, w32_id, jcpy_out, Sum.elim_inl, Sum.elim_inr, jt2, jt3, jt4, jt5, jt6, jt7, jt8] at fr3
    try dsimp only [Sum.elim_inl, Sum.elim_inr, jt2, jt3, jt4, jt5, jt6, jt7, jt8]
    try dsimp only [Sum.elim_inl, Sum.elim_inr, jt2, jt3, jt4, jt5, jt6, jt7, jt8]
    refine ⟨?_, ?_⟩
    · exact lwQ_k (Int.le_refl _) (fun r q' _ => by (show min (min (FK h) (cif (lw6 ks la) (a1 * 8 + 6) 1000000)) (lwK0 B n E ks la r) = min (min (min (FK h) (if t0 = 0 then a1 * 8 + 5 else 1000000)) (cif (lw6 ks la) (a1 * 8 + 6) 1000000)) (lwK0 B n E ks la r); rw [if_neg c1]; have := FH.2.2; omega)) ok3 -- o17 e2.1
    · exact fr3 -- o18 e2.2
theorem vX13_law {h : AH} {B : Int → Int} {n A a T la m q : Int} {E : EV} {ks : List Int} (hB : ∀ i, 0 ≤ i → i < n → 0 ≤ B i ∧ B i < 256) (st : lwS B n A a T E ks la m h) (nb : NB B n q h ∧ tO B n q = 1) (rm : rmT B n T (.inr q) h) : OK (gX13_law h) (fun h' => (lwQ B n A a T E ks la m (if m < 4 then 1 else 0) (h T 0) (fun r => min (FK h) (lwK B n E ks la m q r)) (pLaw B n q) h') ∧ (frLw a T m (h T 0) h h')) := by
  have LA : a = 271 ∨ a = 289 := st.2.2.2.1.1
  have E20 := st.2.2.2.1.2.1
  have E11 := st.2.2.2.2.2.2.1
  have Q3 : h 441 3 = tS B n q := nb.1.2.1.1
  unfold gX13_law
  refine OK_jlx (fun x1 ex1 => ?_)
  try simp (disch := omega) only [jst_eq, jst_ne, jst_ni, jI_i, jcmp_lt, jcmp_gt, w32_id, jcpy_out, Sum.elim_inl, Sum.elim_inr, jt2, jt3, jt4, jt5, jt6, jt7, jt8] at ex1
  refine OK_jg (by (first | ((rw [E20]; unfold isX4; omega)) | (first | assumption | omega | ((try dsimp only [jt2, jt3, jt4]); first | omega | (simp (disch := omega) only [jst_eq, jst_ne, jst_ni, jst_o, jI_i, jcpy_out, w32_id, jdiv_nn, jshr_k, jand_255] <;> first | done | omega | assumption)) | (intros; simp (disch := omega) only [jst_eq, jst_ne, jst_ni, jst_o, jI_i, jcpy_out, w32_id, jdiv_nn, *] <;> first | done | omega) | (intros; simp (disch := omega) only [jst_eq, jst_ne, jst_ni, jst_o, jI_i, jcpy_out, w32_id, jdiv_nn] at * <;> first | done | omega | assumption) | (intros; first | rfl | (exfalso; omega) | ((repeat' apply And.intro) <;> first | assumption | rfl | omega | trivial))))) ?_ -- o1
  refine OK_if (fun c1 => ?_) (fun c1 => ?_)
  · skip
    try simp (disch := omega) only [jst_eq, jst_ne, jst_ni, jI_i, jcmp_lt, jcmp_gt, w32_id, jcpy_out, Sum.elim_inl, Sum.elim_inr, jt2, jt3, jt4, jt5, jt6, jt7, jt8] at c1
    rw [E20, E11.1] at c1
    refine OK_mono (vX13_law_j21 (B := B) (n := n) (A := A) (a := a) (T := T) (la := la) (m := m) (E := E) (ks := ks) (q := q) _ _ (by exact hB) (by exact st) (by exact nb) (by exact rm) (by exact ⟨Or.inl rfl, fun z => absurd z (by decide)⟩) (by exact ex1.trans Q3)) (fun r r1 => ?_)
    try dsimp only [Sum.elim_inl, Sum.elim_inr, jt2, jt3, jt4, jt5, jt6, jt7, jt8] at r1
    obtain ⟨ok1, fr1⟩ := r1
    try simp (disch := omega) only [jst_eq, jst_ne, jst_ni, jI_i, jcmp_lt, jcmp_gt, w32_id, jcpy_out, Sum.elim_inl, Sum.elim_inr, jt2, jt3, jt4, jt5, jt6, jt7, jt8] at ok1
    try simp (disch := omega) only [jst_eq, jst_ne, jst_ni, jI_i, jcmp_lt, jcmp_gt, w32_id, jcpy_out, Sum.elim_inl, Sum.elim_inr, jt2, jt3, jt4, jt5, jt6, jt7, jt8] at fr1
    try dsimp only [Sum.elim_inl, Sum.elim_inr, jt2, jt3, jt4, jt5, jt6, jt7, jt8]
    try dsimp only [Sum.elim_inl, Sum.elim_inr, jt2, jt3, jt4, jt5, jt6, jt7, jt8]
    refine ⟨?_, ?_⟩
    · (rw [if_neg (show ¬ m < 4 by omega)]; exact lwQ_k (Int.le_refl _) (fun r q' _ => by (show min (min (min (FK h) (if (0 : Int) = 0 then x1 * 8 + 5 else 1000000)) (cif (lw6 ks la) (x1 * 8 + 6) 1000000)) (lwK0 B n E ks la r) = min (FK h) (min (if 4 ≤ m then tS B n q * 8 + 5 else 1000000) (min (cif (lw6 ks la) (tS B n q * 8 + 6) 1000000) (lwK0 B n E ks la r))); rw [if_pos rfl, if_pos c1, ex1, Q3, Int.min_assoc, Int.min_assoc])) ok1) -- o8 e1.1
    · exact fr1 -- o9 e1.2
  · skip
    try simp (disch := omega) only [jst_eq, jst_ne, jst_ni, jI_i, jcmp_lt, jcmp_gt, w32_id, jcpy_out, Sum.elim_inl, Sum.elim_inr, jt2, jt3, jt4, jt5, jt6, jt7, jt8] at c1
    rw [E20, E11.1] at c1
    refine OK_mono (vX13_law_j21 (B := B) (n := n) (A := A) (a := a) (T := T) (la := la) (m := m) (E := E) (ks := ks) (q := q) _ _ (by exact hB) (by exact st) (by exact nb) (by exact rm) (by exact ⟨Or.inr rfl, fun _ => by omega⟩) (by exact ex1.trans Q3)) (fun r r2 => ?_)
    try dsimp only [Sum.elim_inl, Sum.elim_inr, jt2, jt3, jt4, jt5, jt6, jt7, jt8] at r2
    obtain ⟨ok2, fr2⟩ := r2
    try simp (disch := omega) only [jst_eq, jst_ne, jst_ni, jI_i, jcmp_lt, jcmp_gt, w32_id, jcpy_out, Sum.elim_inl, Sum.elim_inr, jt2, jt3, jt4, jt5, jt6, jt7, jt8] at ok2
    try simp (disch := omega) only [jst_eq, jst_ne, jst_ni, jI_i, jcmp_lt, jcmp_gt, w32_id, jcpy_out, Sum.elim_inl, Sum.elim_inr, jt2, jt3, jt4, jt5, jt6, jt7, jt8] at fr2
    try dsimp only [Sum.elim_inl, Sum.elim_inr, jt2, jt3, jt4, jt5, jt6, jt7, jt8]
    try dsimp only [Sum.elim_inl, Sum.elim_inr, jt2, jt3, jt4, jt5, jt6, jt7, jt8]
    refine ⟨?_, ?_⟩
    · (rw [if_pos (show m < 4 by omega)]; exact lwQ_k (Int.le_refl _) (fun r q' _ => by (show min (min (min (FK h) (if (1 : Int) = 0 then x1 * 8 + 5 else 1000000)) (cif (lw6 ks la) (x1 * 8 + 6) 1000000)) (lwK0 B n E ks la r) = min (FK h) (min (if 4 ≤ m then tS B n q * 8 + 5 else 1000000) (min (cif (lw6 ks la) (tS B n q * 8 + 6) 1000000) (lwK0 B n E ks la r))); rw [if_neg (show ¬ (1 : Int) = 0 by decide), if_neg c1, ex1, Q3, Int.min_assoc, Int.min_assoc])) ok2) -- o16 e2.1
    · exact fr2 -- o17 e2.2

