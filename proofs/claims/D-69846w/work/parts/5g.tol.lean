/-! told terms in the heaps of both, ready to be worked out -/
theorem tyI_n {E : EV} (ac : acE E) {np n : Int} {kp : Int → Int} {i : NI} (t : tyI E np kp i n) : n ≤ 3 ∧ (0 < n → i.1 = 2 ∨ i.1 = 4) ∧ (i.1 = 2 → 0 ≤ i.2.1 ∧ i.2.1 < E.1.1) := by
  rcases t.2.2 with z | z | z | z | z
  · omega
  · omega
  · omega
  · have := ac.2.2.1 _ z.2.1 z.2.2.1; omega
  · have := ac.2.2.2.2 z.2.1; omega
theorem tyT_ac {E : EV} (ac : acE E) {np : Int} {kp : Int → Int} : ∀ {R : TR} {j : Int}, 0 ≤ j → tyT E np kp R j → acR E.1.1 R
  | .leaf i, j, _, t => (tyI_n ac t).2.2
  | .branch b s r, j, j0, t => by
    have n := tyI_n ac (tyT_nd t.2.2)
    have n0 := nk_0 r
    exact ⟨n.2.1 (by omega), tyT_ac ac (Int.le_refl _) t.1, tyT_ac ac (by omega) t.2.2⟩
theorem rXc_vw {h : AH} {E : EV} (ac : acE E) {np T N : Int} {kp : Int → Int} : ∀ {R : TR} {d j p : Int}, tyT E np kp R j → rXc h T R d j p → 0 ≤ j → 0 ≤ d → d < N → 0 ≤ p → p + (sz R - 1) ≤ N → vwX h T N (-1) 0 R d j
  | .leaf i, d, j, p, _, r, j0, d0, d1, _, _ => ⟨d0, d1, Or.inr ⟨by omega, r.1, r.2.1⟩⟩
  | .branch b s r, d, j, p, t, q, j0, d0, d1, p0, p1 => by
    have n := tyI_n ac (tyT_nd t.2.2)
    have n0 := nk_0 r
    have z1 := sz_pos s
    have z2 := sz_pos r
    have e : sz (.branch b s r) = sz s + sz r := rfl
    rw [e] at p1
    have j3 : j < 3 := by omega
    obtain ⟨q1, q2, q3⟩ := q
    refine ⟨by omega, j0, j3, ?_, rXc_vw ac t.2.2 q3 (by omega) d0 d1 (by omega) (by omega)⟩
    rw [q1 j3]
    exact rXc_vw ac t.1 q2 (Int.le_refl _) p0 (by omega) (by omega) (by omega)
def nhT : TR → Prop
  | .leaf i => i.1 ≠ 3
  | .branch _ s r => nhT s ∧ nhT r
theorem resM_vw {h : AH} {z : Int} : ∀ {R : TR} {d j : Int}, resM h R d j → nhT R → 0 ≤ j → vwM h (-1) z R d j
  | .leaf i, d, j, r, n, j0 => by
    obtain ⟨r1, r2, r3, r4, r5, r6, r7, r8, r9, r10, r11⟩ := r
    exact ⟨r1, r2, Or.inr ⟨by omega, r3, r6, r7, r8, r9, n⟩⟩
  | .branch b s r, d, j, q, n, j0 => by
    have k := resM_k q.2.2
    exact ⟨by omega, j0, q.1, resM_vw q.2.1 n.1 (Int.le_refl _), resM_vw q.2.2 n.2 (by omega)⟩
theorem wtR_rs {E : EV} : ∀ (t : TR) (hc : Int), wtR E.1.2.2.2.1 (rsE E t hc) = wtE E t
  | .leaf i, hc => by
    show lwI E.1.2.2.2.1 (riE E i hc) = if i.1 = 2 then 1 + eW E (eRs E i.2.2.1) else 0
    unfold riE rsI lwI
    by_cases a : i.1 = 0
    · rw [if_pos a, if_neg (show ¬ (1 : Int) = 2 by decide), if_neg (show ¬ (1 : Int) = 4 by decide), if_neg (by omega)]
    rw [if_neg a]
    by_cases b : i.1 = 1
    · rw [if_pos b]
      by_cases c : mky E.2.1.1 E.2.1.2.1 i.2.2.1 < 0
      · rw [if_pos c, if_neg (show ¬ (1 : Int) = 2 by decide), if_neg (show ¬ (1 : Int) = 4 by decide), if_neg (by omega)]
      · rw [if_neg c, if_neg (show ¬ (0 : Int) = 2 by decide), if_neg (show ¬ (0 : Int) = 4 by decide), if_neg (by omega)]
    rw [if_neg b]
    by_cases c : i.1 = 2
    · rw [if_pos c, if_pos c]
      unfold eW
      by_cases d : eRs E i.2.2.1 = -2
      · rw [if_pos d, if_neg (show ¬ (4 : Int) = 2 by decide), if_pos (show (4 : Int) = 4 by decide), if_pos (by omega)]; rfl
      · rw [if_neg d, if_pos (show (2 : Int) = 2 by decide)]
        have r := eRs_r (E := E) i.2.2.1
        by_cases e : eRs E i.2.2.1 < 26
        · rw [if_pos e, if_neg (show ¬ 26 ≤ max 0 (eRs E i.2.2.1) by omega)]
        · rw [if_neg e, if_pos (show 26 ≤ max 0 (eRs E i.2.2.1) by omega)]
          show 1 + E.1.2.2.2.1 (max 0 (eRs E i.2.2.1)) = _
          rw [show max 0 (eRs E i.2.2.1) = eRs E i.2.2.1 by omega]
    · rw [if_neg c, if_neg c, if_neg (show ¬ (3 : Int) = 2 by decide), if_neg (show ¬ (3 : Int) = 4 by decide)]
  | .branch b s r, hc => by
    show wtR E.1.2.2.2.1 (rsE E s hc) + wtR E.1.2.2.2.1 (rsE E r (hc + hlT s)) = wtE E s + wtE E r
    rw [wtR_rs s, wtR_rs r]
theorem nhT_rs {E : EV} : ∀ {t : TR} (hc : Int), hlT t = 0 → gT t → nhT (rsE E t hc)
  | .leaf i, hc, h, g => by
    have h3 : i.1 ≠ 3 := fun z => by
      have : (if i.1 = 3 then (1 : Int) else 0) = 0 := h
      rw [if_pos z] at this; omega
    have g4 := g.2.2.2
    show (riE E i hc).1 ≠ 3
    unfold riE rsI
    by_cases a : i.1 = 0
    · rw [if_pos a]; show (1 : Int) ≠ 3; decide
    rw [if_neg a]
    by_cases b : i.1 = 1
    · rw [if_pos b]
      by_cases c : mky E.2.1.1 E.2.1.2.1 i.2.2.1 < 0
      · rw [if_pos c]; show (1 : Int) ≠ 3; decide
      · rw [if_neg c]; show (0 : Int) ≠ 3; decide
    rw [if_neg b]
    have c : i.1 = 2 := by omega
    rw [if_pos c]
    by_cases d : eRs E i.2.2.1 = -2
    · rw [if_pos d]; show (4 : Int) ≠ 3; decide
    · rw [if_neg d]; show (2 : Int) ≠ 3; decide
  | .branch b s r, hc, h, g => by
    have e : hlT s + hlT r = 0 := h
    have a := hlT_0 s
    have c := hlT_0 r
    exact ⟨nhT_rs hc (by omega) g.2.1, nhT_rs _ (by omega) g.2.2⟩
theorem pKs_h0 {B : Int → Int} {n : Int} {P : Int → PR} (g2 : ∀ q t q1, P q = .inr (t, q1) → hlT t = 0) : ∀ {k : Nat} {l : List TR} {q : Int} {l' : List TR} {q1 : Int}, hlL l = 0 → pKs B n P k l q = .inr (l', q1) → hlL l' = 0
  | 0, l, q, l', q1, _, h => by cases h
  | k + 1, l, q, l', q1, wl, h => by
    cases e : P q with
    | inl z => rw [pKs_l e] at h; cases h
    | inr x =>
      obtain ⟨t, q2⟩ := x
      have h1 := g2 q t q2 e
      have wl' : hlL (l ++ [t]) = 0 := by rw [hlL_app]; show hlL l + (hlT t + 0) = 0; omega
      by_cases c : comma B n q2
      · rw [pKs_c e c] at h
        cases e2 : nx B n q2 with
        | inl z => rw [e2] at h; cases h
        | inr q3 =>
          rw [e2] at h
          exact pKs_h0 g2 (k := k) wl' h
      · rw [pKs_e e c] at h
        cases h
        exact wl'
theorem pT_h0 {B : Int → Int} {n : Int} : ∀ (d : Nat) (q : Int) (t : TR) (q1 : Int), pT B n false d q = .inr (t, q1) → hlT t = 0 := by
  intro d
  induction d with
  | zero => intro q t q1 h; cases h
  | succ d ih =>
    intro q t q1 h
    by_cases c0 : isVl B n q
    · rw [pT_v c0] at h
      obtain ⟨q2, e, e2⟩ := bdT_inr h
      cases e2
      rfl
    by_cases c1 : quest B n q ∧ false = true
    · cases c1.2
    by_cases c2 : tO B n q = 1
    · rw [pT_n c0 c2] at h
      obtain ⟨q2, e, e2⟩ := bdT_inr h
      by_cases c3 : paren B n q2
      · rw [if_pos c3] at e2
        cases e1 : bdG (nx B n q2) (pKs B n (pT B n false d) 2002 []) with
        | inl z => rw [pC_l e1] at e2; cases e2
        | inr x =>
          obtain ⟨l, q3⟩ := x
          rw [pC_r e1] at e2
          obtain ⟨q4, ew, e4⟩ := bdT_inr e2
          cases e4
          cases e5 : nx B n q2 with
          | inl z => rw [e5] at e1; cases e1
          | inr q5 =>
            rw [e5] at e1
            rw [hlT_spn (show ¬ (2 : Int) = 3 by decide)]
            exact pKs_h0 (fun q t q1 e => ih q t q1 e) (l := []) rfl e1
      · rw [if_neg c3] at e2
        cases e2
        rfl
    · rw [pT_x c0 c1 c2] at h; cases h
theorem ty_cg {E : EV} {np : Int} {kp : Int → Int} (l : E.2.2.1 ≠ 1) : ∀ {R : TR} {j : Int}, tyT E np kp R j → nhT R → cgT np E.1.1 R
  | .leaf i, j, t, n => by
    have z := t.2.2
    exact ⟨n, fun y => by rcases z with z | z | z | z | z <;> omega, fun y => by rcases z with z | z | z | z | z <;> omega, fun y => by rcases z with z | z | z | z | z <;> omega, by rcases z with z | z | z | z | z <;> omega, by rcases z with z | z | z | z | z <;> omega⟩
  | .branch b s r, j, t, n => ⟨ty_cg l t.1 n.1, ty_cg l t.2.2 n.2⟩
/-- what is known of a told term that has no fault -/
theorem told_ok {B : Int → Int} {n q q1 W : Int} {sk : Bool} {t : TR} {E : EV} (ac : acE E) (pa : paE E) (ew : ∀ a, 26 ≤ a → 0 ≤ E.1.2.2.2.1 a) (hB : ∀ i, 0 ≤ i → i < n → 0 ≤ B i ∧ B i < 256) (hn : n ≤ 2000) (q0 : 0 ≤ q) (qn : q ≤ n) (o5 : tO B n q ≠ 5) (e : pT B n sk 13 q = .inr (t, q1)) (k : keyE E W t = 1000000) : tyT E E.2.1.1 E.2.1.2.2 (rsE E t 0) 0 ∧ dpE E.1.2.2.2.1 (rsE E t 0) ≤ 40 ∧ wtE E t ≤ 40 ∧ gT t ∧ (W ≠ -1 → kdE E t = W) ∧ fkE E t 0 0 = 1000000 := by
  have kr := key_r (E := E) (W := W) hB hn q0 qn o5 e
  have gv := pT_gV hB 13 q t q1 q0 qn o5 e
  have te := toE_r (E := E) (t := t) (W := W) kr.1
  have fl := fkE_lo (E := E) kr.1 kr.2.1 0 0
  unfold keyE at k
  have fk : fkE E t 0 0 = 1000000 := by omega
  have tk : toE E t W = 1000000 := by omega
  have ty := ty_of ac pa kr.1 kr.2.1 gv (Int.le_refl 0) (Int.le_refl 0) (Or.inl rfl) fk
  have o := gT_i kr.1
  have o2 := o.2.1
  have kn := inf_rs E t 0
  have tn := (tyT_nd ty).1
  have w40 : wtE E t ≤ 40 := by
    unfold toE at tk
    by_cases c : 40 < wtE E t
    · rw [if_pos c] at tk; omega
    · omega
  have dp := dpE_wt (N := E.1.1) ew (tyT_ac ac (Int.le_refl 0) ty)
  rw [wtR_rs] at dp
  refine ⟨ty, by omega, w40, kr.1, fun hw => ?_, fk⟩
  unfold toE at tk
  by_cases c : kdE E t = W
  · exact c
  · rw [if_pos ⟨hw, by rw [← kn]; omega, c⟩] at tk; omega
theorem pKs_sz {B : Int → Int} {n : Int} (hB : ∀ i, 0 ≤ i → i < n → 0 ≤ B i ∧ B i < 256) {P : Int → PR} (g : goodP B n P) (g2 : ∀ q t q1, 0 ≤ q → q ≤ n → tO B n q ≠ 5 → P q = .inr (t, q1) → sz t ≤ q1 - q) : ∀ {k : Nat} {l : List TR} {q : Int} {l' : List TR} {q1 : Int}, 0 ≤ q → q ≤ n → tO B n q ≠ 5 → pKs B n P k l q = .inr (l', q1) → szL l' ≤ szL l + (q1 - q)
  | 0, l, q, l', q1, _, _, _, h => by cases h
  | k + 1, l, q, l', q1, q0, qn, o5, h => by
    cases e : P q with
    | inl z => rw [pKs_l e] at h; cases h
    | inr x =>
      obtain ⟨t, q2⟩ := x
      obtain ⟨g1, g3, g4, g5, g6, g7⟩ := g q t q2 q0 qn o5 e
      have h2 := g2 q t q2 q0 qn o5 e
      have hl : szL (l ++ [t]) = szL l + sz t := by rw [szL_app]; show szL l + (sz t + 0) = _; omega
      by_cases c : comma B n q2
      · rw [pKs_c e c] at h
        cases e2 : nx B n q2 with
        | inl z => rw [e2] at h; cases h
        | inr q3 =>
          rw [e2] at h
          have nr := nx_r hB (by omega) g5 g6 (by have := c.1; omega) e2
          have ih := pKs_sz hB g g2 (k := k) (by omega) nr.2.2.1 nr.2.2.2 h
          omega
      · rw [pKs_e e c] at h
        cases h
        omega
theorem pT_sz {B : Int → Int} {n : Int} (hB : ∀ i, 0 ≤ i → i < n → 0 ≤ B i ∧ B i < 256) {sk : Bool} : ∀ (d : Nat) (q : Int) (t : TR) (q1 : Int), 0 ≤ q → q ≤ n → tO B n q ≠ 5 → pT B n sk d q = .inr (t, q1) → sz t ≤ q1 - q := by
  intro d
  induction d with
  | zero => intro q t q1 _ _ _ h; cases h
  | succ d ih =>
    intro q t q1 q0 qn o5 h
    have gp := pT_wp hB (sk := sk) (d + 1) q t q1 q0 qn o5 h
    have lf : ∀ i : NI, sz (.leaf i) ≤ q1 - q := fun i => by show 1 ≤ q1 - q; omega
    by_cases c0 : isVl B n q
    · rw [pT_v c0] at h
      obtain ⟨q2, e, e2⟩ := bdT_inr h
      cases e2
      exact lf _
    by_cases c1 : quest B n q ∧ sk = true
    · rw [pT_h c0 c1] at h
      obtain ⟨q2, e, e2⟩ := bdT_inr h
      cases e2
      exact lf _
    by_cases c2 : tO B n q = 1
    · rw [pT_n c0 c2] at h
      obtain ⟨q2, e, e2⟩ := bdT_inr h
      have nr := nx_r hB q0 qn o5 (by omega) e
      by_cases c3 : paren B n q2
      · rw [if_pos c3] at e2
        cases e1 : bdG (nx B n q2) (pKs B n (pT B n sk d) 2002 []) with
        | inl z => rw [pC_l e1] at e2; cases e2
        | inr x =>
          obtain ⟨l, q3⟩ := x
          rw [pC_r e1] at e2
          obtain ⟨q4, ew, e4⟩ := bdT_inr e2
          cases e4
          cases e5 : nx B n q2 with
          | inl z => rw [e5] at e1; cases e1
          | inr q5 =>
            rw [e5] at e1
            have n5 := nx_r hB (by omega) nr.2.2.1 nr.2.2.2 (by have := c3.1; omega) e5
            have k := pKs_wp hB (pT_wp hB (sk := sk) d) (pl := tS B n q) (l := []) (by omega) n5.2.2.1 n5.2.2.2 (by have := tE_r hB q0 qn o5; have := this.2.2.2 (by omega); have := tS_r (B := B) qn; omega) trivial e1
            have s := pKs_sz hB (pT_wp hB (sk := sk) d) (fun q t q1 a b c e => ih q t q1 a b c e) (by omega) n5.2.2.1 n5.2.2.2 e1
            have w4 : q3 < q1 := by
              unfold pW at ew
              by_cases c : tO B n q3 = 4 ∧ tV B n q3 = 41
              · rw [if_pos c] at ew; have := nx_r hB (by omega) k.2.2.1 k.2.2.2.1 (by omega) ew; exact this.2.1
              · rw [if_neg c] at ew; cases ew
            rw [sz_spn]
            have s0 : szL [] = 0 := rfl
            omega
      · rw [if_neg c3] at e2
        cases e2
        exact lf _
    · rw [pT_x c0 c1 c2] at h; cases h

