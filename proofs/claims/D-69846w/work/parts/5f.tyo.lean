/-! told terms without faults are well made -/
def gV : TR → Prop
  | .leaf i => i.1 = 0 → vlR i.2.1 i.2.2.1
  | .branch _ s r => gV s ∧ gV r
def gVL : List TR → Prop
  | [] => True
  | t :: l => gV t ∧ gVL l
theorem gV_spn {i : NI} (h : i.1 ≠ 0) : ∀ {l : List TR}, gVL l → gV (spn i l)
  | [], _ => fun z => absurd z h
  | _ :: _, g => ⟨g.1, gV_spn h g.2⟩
theorem gVL_app : ∀ {l : List TR} {t : TR}, gVL l → gV t → gVL (l ++ [t])
  | [], _, _, g => ⟨g, trivial⟩
  | _ :: _, _, a, g => ⟨a.1, gVL_app a.2 g⟩
theorem vl_ok {B : Int → Int} {n q : Int} (hB : ∀ i, 0 ≤ i → i < n → 0 ≤ B i ∧ B i < 256) (q0 : 0 ≤ q) (v : isVl B n q) : vlR (vlK B n q) (vlV B n q) := by
  unfold vlK vlV
  by_cases a : tO B n q = 2
  · rw [if_pos a, if_neg (by omega)]
    have := tok_2 hB q0 a
    exact ⟨this.1, fun _ => this.2, fun z => absurd z (by decide), fun z => absurd z (by decide)⟩
  rw [if_neg a]
  by_cases b : tO B n q = 3
  · rw [if_pos b, if_neg (by omega)]
    have := tok_3 hB q0 b
    exact ⟨this.1, fun z => absurd z (by decide), fun z => absurd z (by decide), fun _ => this.2⟩
  rw [if_neg b]
  have o1 : tO B n q = 1 := by
    unfold isVl isN at v
    omega
  rw [if_pos o1]
  by_cases c : isN B n q 407354
  · rw [if_pos c]; exact ⟨by decide, fun z => absurd z (by decide), fun _ => by decide, fun z => absurd z (by decide)⟩
  · rw [if_neg c]; exact ⟨by decide, fun z => absurd z (by decide), fun _ => by decide, fun z => absurd z (by decide)⟩
theorem pKs_gV {B : Int → Int} {n : Int} (hB : ∀ i, 0 ≤ i → i < n → 0 ≤ B i ∧ B i < 256) {P : Int → PR} (g : goodP B n P) (g2 : ∀ q t q1, 0 ≤ q → q ≤ n → tO B n q ≠ 5 → P q = .inr (t, q1) → gV t) : ∀ {k : Nat} {l : List TR} {q : Int} {l' : List TR} {q1 : Int}, 0 ≤ q → q ≤ n → tO B n q ≠ 5 → gVL l → pKs B n P k l q = .inr (l', q1) → gVL l'
  | 0, l, q, l', q1, _, _, _, _, h => by cases h
  | k + 1, l, q, l', q1, q0, qn, o5, wl, h => by
    cases e : P q with
    | inl z => rw [pKs_l e] at h; cases h
    | inr x =>
      obtain ⟨t, q2⟩ := x
      obtain ⟨g1, g3, g4, g5, g6, g7⟩ := g q t q2 q0 qn o5 e
      have wl' : gVL (l ++ [t]) := gVL_app wl (g2 q t q2 q0 qn o5 e)
      by_cases c : comma B n q2
      · rw [pKs_c e c] at h
        cases e2 : nx B n q2 with
        | inl z => rw [e2] at h; cases h
        | inr q3 =>
          rw [e2] at h
          have nr := nx_r hB (by omega) g5 g6 (by have := c.1; omega) e2
          exact pKs_gV hB g g2 (k := k) (by omega) nr.2.2.1 nr.2.2.2 wl' h
      · rw [pKs_e e c] at h
        cases h
        exact wl'
theorem pT_gV {B : Int → Int} {n : Int} (hB : ∀ i, 0 ≤ i → i < n → 0 ≤ B i ∧ B i < 256) {sk : Bool} : ∀ (d : Nat) (q : Int) (t : TR) (q1 : Int), 0 ≤ q → q ≤ n → tO B n q ≠ 5 → pT B n sk d q = .inr (t, q1) → gV t
  | 0, q, t, q1, _, _, _, h => by cases h
  | d + 1, q, t, q1, q0, qn, o5, h => by
    by_cases c0 : isVl B n q
    · rw [pT_v c0] at h
      obtain ⟨q2, e, e2⟩ := bdT_inr h
      cases e2
      exact fun _ => vl_ok hB q0 c0
    by_cases c1 : quest B n q ∧ sk = true
    · rw [pT_h c0 c1] at h
      obtain ⟨q2, e, e2⟩ := bdT_inr h
      cases e2
      exact fun z => absurd z (show ¬ (3 : Int) = 0 by decide)
    by_cases c2 : tO B n q = 1
    · rw [pT_n c0 c2] at h
      obtain ⟨q2, e, e2⟩ := bdT_inr h
      have nr := nx_r hB q0 qn o5 (by omega) e
      by_cases c3 : paren B n q2
      · rw [if_pos c3] at e2
        cases e1 : bdG (nx B n q2) (pKs B n (pT B n sk d) 2002 []) with
        | inl z => rw [pC_l e1] at e2; cases e2
        | inr x =>
          obtain ⟨l, q3⟩ := x
          rw [pC_r e1] at e2
          obtain ⟨q4, ew, e4⟩ := bdT_inr e2
          cases e4
          cases e5 : nx B n q2 with
          | inl z => rw [e5] at e1; cases e1
          | inr q5 =>
            rw [e5] at e1
            have n5 := nx_r hB (by omega) nr.2.2.1 nr.2.2.2 (by have := c3.1; omega) e5
            exact gV_spn (show ¬ (2 : Int) = 0 by decide) (pKs_gV hB (pT_wp hB (sk := sk) d) (fun q t q1 a b c e => pT_gV hB d q t q1 a b c e) (by omega) n5.2.2.1 n5.2.2.2 (l := []) trivial e1)
      · rw [if_neg c3] at e2
        cases e2
        exact fun z => absurd z (show ¬ (1 : Int) = 0 by decide)
    · rw [pT_x c0 c1 c2] at h; cases h
theorem rsE_i (E : EV) : ∀ (t : TR) (hc : Int), ∃ hc', inf (rsE E t hc) = riE E (inf t) hc'
  | .leaf i, hc => ⟨hc, rfl⟩
  | .branch b s r, hc => rsE_i E r (hc + hlT s)
theorem nk_rs (E : EV) : ∀ (t : TR) (hc : Int), nk (rsE E t hc) = nk t
  | .leaf i, hc => rfl
  | .branch b s r, hc => by show nk (rsE E r (hc + hlT s)) + 1 = nk r + 1; rw [nk_rs E r]
/-- what parameters are like -/
def paE (E : EV) : Prop := 0 ≤ E.2.1.1 ∧ ∀ k, 0 ≤ k → k < E.2.1.1 → 0 ≤ E.2.1.2.2 k ∧ E.2.1.2.2 k ≤ 2
theorem ty_leaf {E : EV} (ac : acE E) (pa : paE E) {i : NI} {j hc : Int} (ok : okI i) (gv : i.1 = 0 → vlR i.2.1 i.2.2.1) (hc0 : 0 ≤ hc) (hj : j = 0 ∨ i.1 = 2) (fk : fiE E i j hc = 1000000) : tyI E E.2.1.1 E.2.1.2.2 (riE E i hc) j := by
  obtain ⟨o1, o2, o3, o4, o5⟩ := ok
  unfold fiE fkI at fk
  unfold riE rsI tyI
  by_cases a : i.1 = 0
  · rw [if_pos a]
    have := o3 a
    exact ⟨this.1, this.2, Or.inr (Or.inl ⟨rfl, by omega, Or.inr (gv a)⟩)⟩
  rw [if_neg a]
  by_cases b : i.1 = 1
  · rw [if_pos b] at fk ⊢
    by_cases c : mky E.2.1.1 E.2.1.2.1 i.2.2.1 < 0
    · rw [if_pos c] at fk; omega
    · rw [if_neg c]
      have m : mky E.2.1.1 E.2.1.2.1 i.2.2.1 < E.2.1.1 := by
        have := fA_0 (c := E.2.1.2.1) (w := i.2.2.1) (n := E.2.1.1)
        unfold mky at c ⊢
        omega
      have k := pa.2 _ (by omega) m
      exact ⟨k.1, k.2, Or.inl ⟨rfl, by omega, Int.not_lt.mp c, m, rfl⟩⟩
  rw [if_neg b] at fk ⊢
  by_cases c : i.1 = 2
  · rw [if_pos c] at fk ⊢
    by_cases d : eRs E i.2.2.1 = -1
    · rw [if_pos d] at fk; omega
    rw [if_neg d] at fk
    have n : j = eO E (eRs E i.2.2.1) := by
      by_cases e : j ≠ eO E (eRs E i.2.2.1)
      · rw [if_pos e] at fk; omega
      · exact Classical.byContradiction e
    have ek : kdI E.2.1.1 E.2.1.2.1 E.2.1.2.2 (eRs E) (eO E) (eK E) i = eK E (eRs E i.2.2.1) (eO E (eRs E i.2.2.1)) := by
      unfold kdI; rw [if_neg a, if_neg b, if_pos c, if_neg d]
    by_cases e : eRs E i.2.2.1 = -2
    · rw [if_pos e, ek, e]
      have l : E.2.2.1 = 1 := Classical.byContradiction fun y => by
        unfold eRs at e; rw [if_neg (fun z => y z.1)] at e
        have := fA_0 (c := E.1.2.1) (w := i.2.2.1) (n := E.1.1); omega
      have A := ac.2.2.2.2 l
      have k := A.2.2 (eO E (-2)) (by omega) (Int.le_refl _)
      rw [e] at n
      exact ⟨k.1, k.2, Or.inr (Or.inr (Or.inr (Or.inr ⟨rfl, l, n, rfl⟩)))⟩
    · rw [if_neg e, ek]
      have r : 0 ≤ eRs E i.2.2.1 ∧ eRs E i.2.2.1 < E.1.1 := by
        rcases eRs_r (E := E) i.2.2.1 with z | z | z
        · exact absurd z e
        · exact absurd z d
        · exact z
      have A := ac.2.2.1 _ r.1 r.2
      have k := A.2.2.2 (eO E (eRs E i.2.2.1)) (by omega) (Int.le_refl _)
      have mx : max 0 (eRs E i.2.2.1) = eRs E i.2.2.1 := by omega
      rw [mx]
      exact ⟨k.1, k.2, Or.inr (Or.inr (Or.inr (Or.inl ⟨rfl, r.1, r.2, n, rfl⟩)))⟩
  · rw [if_neg c]
    exact ⟨by show (0 : Int) ≤ 0; decide, by show (0 : Int) ≤ 2; decide, Or.inr (Or.inr (Or.inl ⟨rfl, by omega, by show 0 ≤ min 2 hc; omega, by show min 2 hc ≤ 2; omega, rfl⟩))⟩
theorem fk_unk {E : EV} : ∀ {t : TR} {j hc : Int}, (inf t).1 = 2 → eRs E (inf t).2.2.1 = -1 → fkE E t j hc ≤ (inf t).2.2.2 * 8 + 2
  | .leaf i, j, hc, a, b => by
    have a' : i.1 = 2 := a
    have b' : eRs E i.2.2.1 = -1 := b
    show fiE E i j hc ≤ i.2.2.2 * 8 + 2
    unfold fiE fkI
    rw [if_neg (by omega), if_pos a', if_pos b']
    exact Int.le_refl _
  | .branch b2 s2 r2, j, hc, a, b => by
    have ih := fk_unk (E := E) (t := r2) (j := j + 1) (hc := hc + hlT s2) a b
    have e : inf (.branch b2 s2 r2) = inf r2 := rfl
    rw [e]
    show min _ (min _ (fkE E r2 (j + 1) (hc + hlT s2))) ≤ _
    exact Int.le_trans (Int.min_le_right _ _) (Int.le_trans (Int.min_le_right _ _) ih)
theorem ty_of {E : EV} (ac : acE E) (pa : paE E) : ∀ {t : TR} {j hc : Int}, gT t → wpT t → gV t → 0 ≤ hc → 0 ≤ j → (j = 0 ∨ (inf t).1 = 2) → fkE E t j hc = 1000000 → tyT E E.2.1.1 E.2.1.2.2 (rsE E t hc) j
  | .leaf i, j, hc, g, _, v, h0, _, hj, fk => ty_leaf ac pa g v h0 hj fk
  | .branch b s r, j, hc, g, w, v, h0, j0, hj, fk => by
    obtain ⟨g1, g2, g3⟩ := g
    have l1 := fkE_lo (E := E) g2 w.2.2.1 0 hc
    have l2 := fkE_lo (E := E) g3 w.2.2.2 (j + 1) (hc + hlT s)
    have l3 := miE_r (E := E) (i := inf r) (j := j) (k := s)
    have hs := hlT_0 s
    have fe : fkE E (.branch b s r) j hc = min (fkE E s 0 hc) (min (miE E (inf r) j s) (fkE E r (j + 1) (hc + hlT s))) := rfl
    rw [fe] at fk
    have ts := ty_of ac pa g2 w.2.2.1 v.1 h0 (Int.le_refl _) (Or.inl rfl) (t := s) (j := 0) (hc := hc) (by omega)
    have tr := ty_of ac pa g3 w.2.2.2 v.2 (by omega) (by omega) (Or.inr g1) (t := r) (j := j + 1) (hc := hc + hlT s) (by omega)
    refine ⟨ts, ?_, tr⟩
    have ks := inf_rs E s hc
    have ns := (tyT_nd ts).1
    obtain ⟨hc', er⟩ := rsE_i E r (hc + hlT s)
    have tn := tyT_nd tr
    rw [er, nk_rs] at tn
    show (inf (rsE E s hc)).2.2.1 = eK E (acI (inf (rsE E r (hc + hlT s)))) j
    rw [er]
    have n0 := nk_0 r
    have e2 : riE E (inf r) hc' = (if eRs E (inf r).2.2.1 = -2 then (4, 0, kdI E.2.1.1 E.2.1.2.1 E.2.1.2.2 (eRs E) (eO E) (eK E) (inf r), (inf r).2.2.2) else (2, max 0 (eRs E (inf r).2.2.1), kdI E.2.1.1 E.2.1.2.1 E.2.1.2.2 (eRs E) (eO E) (eK E) (inf r), (inf r).2.2.2)) := by
      unfold riE rsI; rw [if_neg (by omega), if_neg (by omega), if_pos g1]
    have mk : miE E (inf r) j s = 1000000 := by omega
    have key : acI (riE E (inf r) hc') = eRs E (inf r).2.2.1 ∧ j < eO E (eRs E (inf r).2.2.1) ∧ eRs E (inf r).2.2.1 ≠ -1 := by
      have t3 := tn.2.2
      rw [e2] at t3 ⊢
      by_cases q : eRs E (inf r).2.2.1 = -2
      · rw [if_pos q] at t3 ⊢
        rw [q]
        refine ⟨rfl, ?_, by decide⟩
        rcases t3 with z | z | z | z | z
        · exact absurd z.1 (show ¬ (4 : Int) = 0 by decide)
        · exact absurd z.1 (show ¬ (4 : Int) = 1 by decide)
        · exact absurd z.1 (show ¬ (4 : Int) = 3 by decide)
        · exact absurd z.1 (show ¬ (4 : Int) = 2 by decide)
        · have := z.2.2.1; omega
      · rw [if_neg q] at t3 ⊢
        have rr : eRs E (inf r).2.2.1 ≠ -1 := fun y => by
          have f2 : fkE E r (j + 1) (hc + hlT s) = 1000000 := by omega
          have g5 := gT_i g3
          have := fk_unk (E := E) (t := r) (j := j + 1) (hc := hc + hlT s) g1 y
          have := g5.2.1
          omega
        have mx : max 0 (eRs E (inf r).2.2.1) = eRs E (inf r).2.2.1 := by rcases eRs_r (E := E) (inf r).2.2.1 with z | z | z <;> omega
        rw [mx] at t3 ⊢
        refine ⟨rfl, ?_, rr⟩
        rcases t3 with z | z | z | z | z
        · exact absurd z.1 (show ¬ (2 : Int) = 0 by decide)
        · exact absurd z.1 (show ¬ (2 : Int) = 1 by decide)
        · exact absurd z.1 (show ¬ (2 : Int) = 3 by decide)
        · have := z.2.2.2.1; show j < eO E (eRs E (inf r).2.2.1); exact (show j + 1 + nk r = eO E (eRs E (inf r).2.2.1) from this) ▸ (by omega)
        · exact absurd z.1 (show ¬ (2 : Int) = 4 by decide)
    rw [key.1, ks]
    unfold miE misK at mk
    by_cases z : kdE E s = eK E (eRs E (inf r).2.2.1) j
    · exact z
    · rw [if_pos ⟨g1, key.2.2, key.2.1, by show kdE E s ≠ -1; rw [← ks]; omega, z⟩] at mk
      have := gT_i g2
      have := this.2.1
      omega

