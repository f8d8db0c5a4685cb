/-! What a read term is like; what its faults are at least -/
def okI (i : NI) : Prop := 0 ≤ i.2.2.2 ∧ i.2.2.2 ≤ 2001 ∧ (i.1 = 0 → 0 ≤ i.2.1 ∧ i.2.1 ≤ 2) ∧ 0 ≤ i.1 ∧ i.1 ≤ 3
def gT : TR → Prop
  | .leaf i => okI i
  | .branch _ s r => (inf r).1 = 2 ∧ gT s ∧ gT r
theorem gT_kc : ∀ {t : TR}, gT t → kcT t
  | .leaf i, q => q.2.2.2
  | .branch _ s r, q => ⟨q.1, gT_kc q.2.1, gT_kc q.2.2⟩
theorem gT_i : ∀ {t : TR}, gT t → okI (inf t)
  | .leaf i, q => q
  | .branch _ s r, q => gT_i (t := r) q.2.2
def gTL : List TR → Prop
  | [] => True
  | t :: l => gT t ∧ gTL l
theorem gT_spn {i : NI} (h2 : i.1 = 2) (hi : okI i) : ∀ {l : List TR}, gTL l → gT (spn i l)
  | [], _ => hi
  | t :: l, q => ⟨by rw [inf_spn]; exact h2, q.1, gT_spn h2 hi q.2⟩
theorem gTL_app : ∀ {l m : List TR}, gTL l → gTL m → gTL (l ++ m)
  | [], m, _, q => q
  | t :: l, m, p, q => ⟨p.1, gTL_app p.2 q⟩
def dpL : List TR → Int
  | [] => 0
  | t :: l => max (dpT t + 1) (dpL l)
theorem dpT_spn (i : NI) : ∀ l : List TR, dpT (spn i l) = dpL l
  | [] => rfl
  | t :: l => by show max (dpT t + 1) (dpT (spn i l)) = max (dpT t + 1) (dpL l); rw [dpT_spn i l]
theorem dpL_app : ∀ (l m : List TR), dpL (l ++ m) = max (dpL l) (dpL m)
  | [], m => by
    have : 0 ≤ dpL m := by
      cases m with
      | nil => exact Int.le_refl _
      | cons t m => have := dpT_0 t; show 0 ≤ max (dpT t + 1) (dpL m); omega
    show dpL m = max 0 (dpL m); omega
  | t :: l, m => by show max (dpT t + 1) (dpL (l ++ m)) = max (max (dpT t + 1) (dpL l)) (dpL m); rw [dpL_app l m]; omega
section OKP
variable {B : Int → Int} {n : Int}
theorem pKs_ok (hB : ∀ i, 0 ≤ i → i < n → 0 ≤ B i ∧ B i < 256) (hn : n ≤ 2000) {P : Int → PR} {d : Int} (g : goodP B n P) (g2 : ∀ q t q1, 0 ≤ q → q ≤ n → tO B n q ≠ 5 → P q = .inr (t, q1) → gT t ∧ dpT t ≤ d) : ∀ {k : Nat} {l : List TR} {q : Int} {l' : List TR} {q1 : Int}, 0 ≤ q → q ≤ n → tO B n q ≠ 5 → gTL l → dpL l ≤ d + 1 → pKs B n P k l q = .inr (l', q1) → gTL l' ∧ dpL l' ≤ d + 1
  | 0, l, q, l', q1, _, _, _, _, _, h => by cases h
  | k + 1, l, q, l', q1, q0, qn, o5, wl, dl, h => by
    cases e : P q with
    | inl z => rw [pKs_l e] at h; cases h
    | inr x =>
      obtain ⟨t, q2⟩ := x
      obtain ⟨g1, g3, g4, g5, g6, g7⟩ := g q t q2 q0 qn o5 e
      have ot := g2 q t q2 q0 qn o5 e
      have wl' : gTL (l ++ [t]) := gTL_app wl ⟨ot.1, trivial⟩
      have dl' : dpL (l ++ [t]) ≤ d + 1 := by
        rw [dpL_app]
        have := dpT_0 t
        show max (dpL l) (max (dpT t + 1) 0) ≤ d + 1
        omega
      by_cases c : comma B n q2
      · rw [pKs_c e c] at h
        cases e2 : nx B n q2 with
        | inl z => rw [e2] at h; cases h
        | inr q3 =>
          rw [e2] at h
          have nr := nx_r hB (by omega) g5 g6 (by have := c.1; omega) e2
          exact pKs_ok hB hn g g2 (k := k) (by omega) nr.2.2.1 nr.2.2.2 wl' dl' h
      · rw [pKs_e e c] at h
        cases h
        exact ⟨wl', dl'⟩
theorem pT_ok (hB : ∀ i, 0 ≤ i → i < n → 0 ≤ B i ∧ B i < 256) (hn : n ≤ 2000) {sk : Bool} : ∀ (d : Nat) (q : Int) (t : TR) (q1 : Int), 0 ≤ q → q ≤ n → tO B n q ≠ 5 → pT B n sk d q = .inr (t, q1) → gT t ∧ dpT t + 1 ≤ d
  | 0, q, t, q1, _, _, _, h => by cases h
  | d + 1, q, t, q1, q0, qn, o5, h => by
    have S := tS_r (B := B) qn
    by_cases c0 : isVl B n q
    · rw [pT_v c0] at h
      obtain ⟨q2, e, e2⟩ := bdT_inr h
      cases e2
      have vk : 0 ≤ vlK B n q ∧ vlK B n q ≤ 2 := by
        unfold vlK
        by_cases a : tO B n q = 2
        · rw [if_pos a]; omega
        · rw [if_neg a]
          by_cases b : tO B n q = 3
          · rw [if_pos b]; omega
          · rw [if_neg b]; omega
      exact ⟨⟨by show 0 ≤ tS B n q; omega, by show tS B n q ≤ 2001; omega, fun _ => vk, by show (0 : Int) ≤ 0; omega, by show (0 : Int) ≤ 3; omega⟩, by show (0 : Int) + 1 ≤ _; omega⟩
    by_cases c1 : quest B n q ∧ sk = true
    · rw [pT_h c0 c1] at h
      obtain ⟨q2, e, e2⟩ := bdT_inr h
      cases e2
      exact ⟨⟨by show 0 ≤ tS B n q; omega, by show tS B n q ≤ 2001; omega, fun z => absurd z (show ¬ (3 : Int) = 0 by decide), by show (0 : Int) ≤ 3; omega, by show (3 : Int) ≤ 3; omega⟩, by show (0 : Int) + 1 ≤ _; omega⟩
    by_cases c2 : tO B n q = 1
    · rw [pT_n c0 c2] at h
      obtain ⟨q2, e, e2⟩ := bdT_inr h
      have nr := nx_r hB q0 qn o5 (by omega) e
      by_cases c3 : paren B n q2
      · rw [if_pos c3] at e2
        cases e1 : bdG (nx B n q2) (pKs B n (pT B n sk d) 2002 []) with
        | inl z => rw [pC_l e1] at e2; cases e2
        | inr x =>
          obtain ⟨l, q3⟩ := x
          rw [pC_r e1] at e2
          obtain ⟨q4, ew, e4⟩ := bdT_inr e2
          cases e4
          cases e5 : nx B n q2 with
          | inl z => rw [e5] at e1; cases e1
          | inr q5 =>
            rw [e5] at e1
            have n5 := nx_r hB (by omega) nr.2.2.1 nr.2.2.2 (by have := c3.1; omega) e5
            have k := pKs_ok hB hn (d := (d : Int) - 1) (pT_wp hB (sk := sk) d) (fun q t q1 a b c e => ⟨(pT_ok hB hn d q t q1 a b c e).1, by have := (pT_ok hB hn d q t q1 a b c e).2; omega⟩) (by omega) n5.2.2.1 n5.2.2.2 (l := []) trivial (by show (0 : Int) ≤ _; omega) e1
            exact ⟨gT_spn rfl ⟨by show 0 ≤ tS B n q; omega, by show tS B n q ≤ 2001; omega, fun z => absurd z (show ¬ (2 : Int) = 0 by decide), by show (0 : Int) ≤ 2; omega, by show (2 : Int) ≤ 3; omega⟩ k.1, by rw [dpT_spn]; omega⟩
      · rw [if_neg c3] at e2
        cases e2
        exact ⟨⟨by show 0 ≤ tS B n q; omega, by show tS B n q ≤ 2001; omega, fun z => absurd z (show ¬ (1 : Int) = 0 by decide), by show (0 : Int) ≤ 1; omega, by show (1 : Int) ≤ 3; omega⟩, by show (0 : Int) + 1 ≤ _; omega⟩
    · rw [pT_x c0 c1 c2] at h; cases h
end OKP
theorem fiE_lo {E : EV} {i : NI} (o : okI i) (j hc : Int) : 8 * i.2.2.2 + 2 ≤ fiE E i j hc ∧ fiE E i j hc ≤ 1000000 := by
  obtain ⟨o1, o2, _⟩ := o
  unfold fiE fkI
  by_cases a : i.1 = 1
  · rw [if_pos a]
    by_cases b : mky E.2.1.1 E.2.1.2.1 i.2.2.1 < 0
    · rw [if_pos b]; omega
    · rw [if_neg b]; omega
  rw [if_neg a]
  by_cases b : i.1 = 2
  · rw [if_pos b]
    by_cases c : eRs E i.2.2.1 = -1
    · rw [if_pos c]; omega
    · rw [if_neg c]
      by_cases d : j ≠ eO E (eRs E i.2.2.1)
      · rw [if_pos d]; omega
      · rw [if_neg d]; omega
  rw [if_neg b]
  by_cases c : i.1 = 3
  · rw [if_pos c]
    by_cases d : 3 ≤ hc
    · rw [if_pos d]; omega
    · rw [if_neg d]; omega
  · rw [if_neg c]; omega
theorem fkE_lo {E : EV} : ∀ {t : TR}, gT t → wpT t → ∀ j hc : Int, 8 * (inf t).2.2.2 + 2 ≤ fkE E t j hc ∧ fkE E t j hc ≤ 1000000
  | .leaf i, o, _, j, hc => fiE_lo o j hc
  | .branch b s r, o, w, j, hc => by
    have a := fkE_lo (E := E) o.2.1 w.2.2.1 0 hc
    have c := fkE_lo (E := E) o.2.2 w.2.2.2 (j + 1) (hc + hlT s)
    have m := miE_r (E := E) (i := inf r) (j := j) (k := s)
    have p := w.2.1
    have e : inf (.branch b s r) = inf r := rfl
    have f : fkE E (.branch b s r) j hc = min (fkE E s 0 hc) (min (miE E (inf r) j s) (fkE E r (j + 1) (hc + hlT s))) := rfl
    rw [e, f]
    omega
theorem kch_inj {a b : Int} (ha : -1 ≤ a ∧ a ≤ 2) (hb : -1 ≤ b ∧ b ≤ 2) : kch a = kch b ↔ a = b := by
  unfold kch
  rcases (show a = -1 ∨ a = 0 ∨ a = 1 ∨ a = 2 by omega) with rfl | rfl | rfl | rfl <;> rcases (show b = -1 ∨ b = 0 ∨ b = 1 ∨ b = 2 by omega) with rfl | rfl | rfl | rfl <;> decide
theorem kch_32 {a : Int} (ha : -1 ≤ a ∧ a ≤ 2) : kch a = 32 ↔ a = -1 := by
  unfold kch
  rcases (show a = -1 ∨ a = 0 ∨ a = 1 ∨ a = 2 by omega) with rfl | rfl | rfl | rfl <;> decide

