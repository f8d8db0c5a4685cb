/-! x: an act is told -/
theorem nm_act {h : AH} (o : Od h) : nmS h 44 830 := old_nm o [97, 99, 116] rfl (by decide) (by decide) (by decide) (by decide) (by decide) (by decide)
theorem nkE_le {B : Int → Int} {n q : Int} {E : EV} : nkE B n E q ≤ 1000000 := by unfold nkE; split <;> omega
def xaF (B : Int → Int) (n : Int) (E : EV) (v : Int) (h' : AH) : Prop := match bS (beg B n) (pOw B n) with
  | .inl z => v = -11 ∧ h' 200 56 = z
  | .inr (q, l, kr, T) => min (nkE B n E q) (keyE (EL E l) kr T) ≠ 1000000 ∧ v = -10 - min (nkE B n E q) (keyE (EL E l) kr T) % 8 ∧ h' 200 56 = min (nkE B n E q) (keyE (EL E l) kr T) / 8 ∧ 1 ≤ min (nkE B n E q) (keyE (EL E l) kr T) % 8 ∧ min (nkE B n E q) (keyE (EL E l) kr T) % 8 ≤ 6
def xaO (B : Int → Int) (n : Int) (E : EV) (q : Int) (l : List Int) (kr : Int) (T : TR) : Prop := bS (beg B n) (pOw B n) = .inr (q, l, kr, T) ∧ min (nkE B n E q) (keyE (EL E l) kr T) = 1000000
def xaT (B : Int → Int) (n : Int) (E : EV) (q : Int) (l : List Int) (kr : Int) (T : TR) (h : AH) : Prop := h 324 0 = sz T ∧ h 441 23 = 0 ∧ rXc h 324 (rsE (EL E l) T 0) 0 0 1 ∧ h 441 24 = kr ∧ h 441 13 = (l.length : Int) ∧ (∀ k, 0 ≤ k → k < (l.length : Int) → h 444 k = kL l k) ∧ h 441 21 = tS B n q ∧ h 441 22 = tE B n q
theorem xa_b {B : Int → Int} {n K : Int} {E : EV} {P : Int ⊕ (Int × List Int × Int × TR)} {h : AH} (o : vOw B n E K P h) : h 441 6 = 0 ∨ h 441 6 = 1 := by
  cases P with
  | inl z =>
    have o : h 441 6 = 1 ∧ h 441 7 = z := o
    exact Or.inr o.1
  | inr x =>
    obtain ⟨q, l, kr, T⟩ := x
    have o : vO3 E (min K (nkE B n E q)) (.inr (l, kr, T)) h ∧ h 441 21 = tS B n q ∧ h 441 22 = tE B n q := o
    obtain ⟨⟨o1, _⟩, _⟩ := o
    exact Or.inl o1
theorem xa_cs {B : Int → Int} {n v : Int} {E : EV} {h9 h12 : AH} (ow : vOw B n E 1000000 (bS (beg B n) (pOw B n)) h9) (r1 : h9 441 6 = 1 → v = -11 ∧ h12 = jst h9 200 56 (h9 441 7)) (r2 : h9 441 6 = 0 → FK h9 = 1000000 → v = 0 ∧ h12 = h9) (r3 : h9 441 6 = 0 → FK h9 ≠ 1000000 → v = -10 - FK h9 % 8 ∧ h12 = jst h9 200 56 (FK h9 / 8) ∧ 1 ≤ FK h9 % 8 ∧ FK h9 % 8 ≤ 6) : (v < 0 ∧ xaF B n E v h12 ∧ ∀ a s, ¬ (a = 200 ∧ s = 56) → h12 a s = h9 a s) ∨ (v = 0 ∧ h12 = h9 ∧ ∃ q l kr T, xaO B n E q l kr T ∧ xaT B n E q l kr T h9) := by
  cases e : bS (beg B n) (pOw B n) with
  | inl z =>
    rw [e] at ow
    have ow : h9 441 6 = 1 ∧ h9 441 7 = z := ow
    obtain ⟨rv, rh⟩ := r1 ow.1
    refine Or.inl ⟨by omega, ?_, ?_⟩
    · unfold xaF; rw [e]
      show v = -11 ∧ h12 200 56 = z
      rw [rh]; exact ⟨rv, by rw [jst_eq]; exact ow.2⟩
    · rw [rh]; exact fun a s y => jst_o (by omega)
  | inr x =>
    obtain ⟨q, l, kr, T⟩ := x
    rw [e] at ow
    have ow : vO3 E (min 1000000 (nkE B n E q)) (.inr (l, kr, T)) h9 ∧ h9 441 21 = tS B n q ∧ h9 441 22 = tE B n q := ow
    obtain ⟨w1, w2, w3⟩ := ow
    obtain ⟨a6, fk, a23, a0, rx, a24, a13, a16, ks⟩ := w1
    rw [Int.min_eq_right nkE_le] at fk
    by_cases c : FK h9 = 1000000
    · obtain ⟨rv, rh⟩ := r2 a6 c
      exact Or.inr ⟨rv, rh, q, l, kr, T, ⟨e, by rw [← fk]; exact c⟩, ⟨a0, a23, rx, a24, a13, fun k k0 k1 => (ks k k0 k1).1, w2, w3⟩⟩
    · obtain ⟨rv, rh, k1, k6⟩ := r3 a6 c
      refine Or.inl ⟨by omega, ?_, ?_⟩
      · unfold xaF; rw [e]
        show min (nkE B n E q) (keyE (EL E l) kr T) ≠ 1000000 ∧ v = -10 - min (nkE B n E q) (keyE (EL E l) kr T) % 8 ∧ h12 200 56 = min (nkE B n E q) (keyE (EL E l) kr T) / 8 ∧ 1 ≤ min (nkE B n E q) (keyE (EL E l) kr T) % 8 ∧ min (nkE B n E q) (keyE (EL E l) kr T) % 8 ≤ 6
        rw [← fk]; exact ⟨c, rv, by rw [rh]; exact jst_eq, k1, k6⟩
      · rw [rh]; exact fun a s y => jst_o (by omega)
/-- what x's reading of an act leaves -/
def frXa (h h' : AH) : Prop := ∀ a s, ¬ (a = 200 ∧ (s = 55 ∨ s = 56)) → ¬ (a = 324 ∧ s = 0) → ¬ (325 ≤ a ∧ a ≤ 329 ∧ 0 ≤ s) → ¬ (a = 441 ∧ 0 ≤ s ∧ s ≤ 24) → ¬ ((a = 442 ∨ a = 444) ∧ 0 ≤ s ∧ s < 3) → ¬ (a = 445 ∧ 0 ≤ s) → h' a s = h a s
/-- the log has one record more -/
def lgXa (B : Int → Int) (n c : Int) (h h' : AH) : Prop := h' 434 5 = h 434 5 + 3 + n ∧ h' 434 6 = h 434 6 + 1 ∧ (h' 436 (h 434 5) % 256 = c % 256 ∧ h' 436 (h 434 5 + 1) % 256 = n / 256 % 256 ∧ h' 436 (h 434 5 + 2) % 256 = n % 256) ∧ (∀ k, 0 ≤ k → k < n → h' 436 (h 434 5 + 3 + k) % 256 = B k) ∧ (∀ k, 0 ≤ k → k < n + 3 → -128 ≤ h' 436 (h 434 5 + k) ∧ h' 436 (h 434 5 + k) ≤ 127)
/-- x's act is there -/
def nwX (E : EV) (w kr : Int) (l : List Int) (T : TR) (h h' : AH) : Prop := h' 200 7 = E.1.1 - 25 ∧ h' 268 (E.1.1 - 26) = h 0 0 ∧ nmS h' (h 0 0) w ∧ h' (h 0 0) 0 = h 0 0 + 1 ∧ h' 264 (E.1.1 - 26) = h 258 0 ∧ h' 265 (E.1.1 - 26) = (l.length : Int) ∧ (∀ k, 0 ≤ k → k < (l.length : Int) → h' 266 (3 * (E.1.1 - 26) + k) = kL l k) ∧ h' 266 (3 * (E.1.1 - 26) + 2) = kr ∧ h' 267 (E.1.1 - 26) = wtR E.1.2.2.2.1 (rsE (EL E l) T 0) ∧ h' 258 0 = h 258 0 + sz T ∧ cX h' 258 (rsE (EL E l) T 0) (h 258 0) 0 (h 258 0 + 1) ∧ h' 0 0 = h 0 0 + 2 ∧ h' 0 1 = h 0 1 + 2 ∧ (h 0 2 ≤ h' 0 2 ∧ h' 0 2 ≤ h 0 2 + 12)

