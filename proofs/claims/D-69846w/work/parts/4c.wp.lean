/-! places in terms that were read -/
def wpT : TR → Prop
  | .leaf _ => True
  | .branch b s r => b = 0 ∧ (inf r).2.2.2 < (inf s).2.2.2 ∧ wpT s ∧ wpT r
def wpL (pl : Int) : List TR → Prop
  | [] => True
  | t :: l => pl < (inf t).2.2.2 ∧ wpT t ∧ wpL pl l
theorem wpT_spn {i : NI} : ∀ {l : List TR}, wpL i.2.2.2 l → wpT (spn i l)
  | [], _ => trivial
  | t :: l, h => ⟨rfl, by rw [inf_spn]; exact h.1, h.2.1, wpT_spn h.2.2⟩
theorem wpT_ex : ∀ {t : TR}, wpT t → ∃ l, t = spn (inf t) l ∧ wpL (inf t).2.2.2 l
  | .leaf i, _ => ⟨[], rfl, trivial⟩
  | .branch b s r, h => by
    obtain ⟨l, e, w⟩ := wpT_ex h.2.2.2
    obtain ⟨rfl, h2, h3, h4⟩ := h
    refine ⟨s :: l, ?_, h2, h3, w⟩
    show Lean.RArray.branch 0 s r = Lean.RArray.branch 0 s (spn (inf r) l)
    rw [← e]
theorem wpL_app {pl : Int} : ∀ {l m : List TR}, wpL pl (l ++ m) ↔ wpL pl l ∧ wpL pl m
  | [], m => ⟨fun h => ⟨trivial, h⟩, fun h => h.2⟩
  | t :: l, m => by
    show (_ ∧ _ ∧ wpL pl (l ++ m)) ↔ ((_ ∧ _ ∧ wpL pl l) ∧ wpL pl m)
    rw [wpL_app (l := l)]
    exact ⟨fun ⟨a, b, c, d⟩ => ⟨⟨a, b, c⟩, d⟩, fun ⟨⟨a, b, c⟩, d⟩ => ⟨a, b, c, d⟩⟩
section WP
variable {B : Int → Int} {n : Int}
/-- what a term reader gives: places behind where it began -/
def goodP (B : Int → Int) (n : Int) (P : Int → PR) : Prop := ∀ q t q1, 0 ≤ q → q ≤ n → tO B n q ≠ 5 → P q = .inr (t, q1) → wpT t ∧ q ≤ (inf t).2.2.2 ∧ q < q1 ∧ q1 ≤ n ∧ tO B n q1 ≠ 5 ∧ (inf t).2.2.2 < q1
theorem pKs_wp (hB : ∀ i, 0 ≤ i → i < n → 0 ≤ B i ∧ B i < 256) {P : Int → PR} (g : goodP B n P) {pl : Int} : ∀ {k : Nat} {l : List TR} {q : Int} {l' : List TR} {q1 : Int}, 0 ≤ q → q ≤ n → tO B n q ≠ 5 → pl < q → wpL pl l → pKs B n P k l q = .inr (l', q1) → wpL pl l' ∧ q < q1 ∧ q1 ≤ n ∧ tO B n q1 ≠ 5 ∧ l' ≠ []
  | 0, l, q, l', q1, _, _, _, _, _, h => by cases h
  | k + 1, l, q, l', q1, q0, qn, o5, pq, wl, h => by
    cases e : P q with
    | inl z => rw [pKs_l e] at h; cases h
    | inr x =>
      obtain ⟨t, q2⟩ := x
      obtain ⟨g1, g2, g3, g4, g5, g6⟩ := g q t q2 q0 qn o5 e
      have wl' : wpL pl (l ++ [t]) := wpL_app.mpr ⟨wl, by omega, g1, trivial⟩
      by_cases c : comma B n q2
      · rw [pKs_c e c] at h
        cases e2 : nx B n q2 with
        | inl z => rw [e2] at h; cases h
        | inr q3 =>
          rw [e2] at h
          have nr := nx_r hB (by omega) g4 g5 (by have := c.1; omega) e2
          have ih := pKs_wp hB g (k := k) (by omega) nr.2.2.1 nr.2.2.2 (by omega) wl' h
          exact ⟨ih.1, by omega, ih.2.2.1, ih.2.2.2.1, ih.2.2.2.2⟩
      · rw [pKs_e e c] at h
        cases h
        exact ⟨wl', g3, g4, g5, by simp⟩
theorem pT_wp (hB : ∀ i, 0 ≤ i → i < n → 0 ≤ B i ∧ B i < 256) {sk : Bool} : ∀ d : Nat, goodP B n (pT B n sk d)
  | 0 => fun q t q1 _ _ _ h => by cases h
  | d + 1 => fun q t q1 q0 qn o5 h => by
    have pl := pT_pl h
    have S := tS_r (B := B) qn
    have lf : ∀ (i : NI) (q2 : Int), tO B n q ≠ 0 → i.2.2.2 = tS B n q → nx B n q = .inr q2 → wpT (.leaf i) ∧ q ≤ (inf (.leaf i)).2.2.2 ∧ q < q2 ∧ q2 ≤ n ∧ tO B n q2 ≠ 5 ∧ (inf (.leaf i)).2.2.2 < q2 := fun i q2 o0 ei e => by
      have nr := nx_r hB q0 qn o5 o0 e
      have te := tE_r hB q0 qn o5
      have := te.2.2.2 o0
      have h1 : (inf (.leaf i)).2.2.2 = i.2.2.2 := rfl
      exact ⟨trivial, by omega, nr.2.1, nr.2.2.1, nr.2.2.2, by omega⟩
    by_cases c0 : isVl B n q
    · have o0 : tO B n q ≠ 0 := by rcases c0 with y | y | y | y; · omega
                                   · omega
                                   · have := y.1; omega
                                   · have := y.1; omega
      rw [pT_v c0] at h
      obtain ⟨q2, e, e2⟩ := bdT_inr h
      cases e2
      exact lf _ _ o0 rfl e
    by_cases c1 : quest B n q ∧ sk = true
    · have o0 : tO B n q ≠ 0 := by have := c1.1.1; omega
      rw [pT_h c0 c1] at h
      obtain ⟨q2, e, e2⟩ := bdT_inr h
      cases e2
      exact lf _ _ o0 rfl e
    by_cases c2 : tO B n q = 1
    · rw [pT_n c0 c2] at h
      obtain ⟨q2, e, e2⟩ := bdT_inr h
      have nr := nx_r hB q0 qn o5 (by omega) e
      by_cases c3 : paren B n q2
      · rw [if_pos c3] at e2
        cases e1 : bdG (nx B n q2) (pKs B n (pT B n sk d) 2002 []) with
        | inl z => rw [pC_l e1] at e2; cases e2
        | inr x =>
          obtain ⟨l, q3⟩ := x
          rw [pC_r e1] at e2
          obtain ⟨q4, ew, e4⟩ := bdT_inr e2
          cases e4
          cases e5 : nx B n q2 with
          | inl z => rw [e5] at e1; cases e1
          | inr q5 =>
            rw [e5] at e1
            have n5 := nx_r hB (by omega) nr.2.2.1 nr.2.2.2 (by have := c3.1; omega) e5
            have te := tE_r hB q0 qn o5
            have := te.2.2.2 (by omega)
            have k := pKs_wp hB (pT_wp hB d) (pl := tS B n q) (by omega) n5.2.2.1 n5.2.2.2 (by omega) (l := []) trivial e1
            have w4 : q3 < q1 ∧ q1 ≤ n ∧ tO B n q1 ≠ 5 := by
              unfold pW at ew
              by_cases c : tO B n q3 = 4 ∧ tV B n q3 = 41
              · rw [if_pos c] at ew; have := nx_r hB (by omega) k.2.2.1 k.2.2.2.1 (by omega) ew; exact ⟨this.2.1, this.2.2.1, this.2.2.2⟩
              · rw [if_neg c] at ew; cases ew
            have h1 : (inf (spn (2, 0, tV B n q, tS B n q) l)).2.2.2 = tS B n q := by rw [inf_spn]
            exact ⟨wpT_spn k.1, by omega, by omega, w4.2.1, w4.2.2, by omega⟩
      · rw [if_neg c3] at e2
        cases e2
        exact lf _ _ (by omega) rfl e
    · rw [pT_x c0 c1 c2] at h; cases h
end WP

