/-! Strings, names -/
def strI (h : AH) (a : Int) (c : Int → Int) (m : Int) : Prop := h a (-2) = 1 ∧ h a 1 = 0 ∧ h (h a 0) (-2) = 103 ∧ h (h a 0) (-1) = m ∧ 0 ≤ m ∧ m ≤ 100000 ∧ ∀ k, 0 ≤ k → k < m → h (h a 0) k = c k ∧ 0 ≤ c k ∧ c k < 128
theorem str_len {h : AH} {a m : Int} {c : Int → Int} (s : strI h a c m) : OK (fJ0_length a h) (fun r => r = m) := by
  obtain ⟨s1, s2, s3, s4, s5, s6, s7⟩ := s
  unfold fJ0_length
  refine OK_jg s1 (OK_jg (by omega) (OK_jg s1 ?_))
  refine OK_jb (R := fun r => r = 0) ?_ (fun r hr => ?_)
  · unfold fJ0_coder
    rw [if_neg (by decide), s2]
    exact OK_jg s1 (OK_jg (by unfold jBy; omega) (OK_some rfl))
  · subst hr
    rw [s4]
    refine OK_some ?_
    rw [show (0 : Int) = ((0 : Nat) : Int) from rfl, jshr_eq (by decide) (by omega) (by omega)]
    show m / 1 = m
    exact Int.ediv_one m
theorem str_at {h : AH} {a m k : Int} {c : Int → Int} (s : strI h a c m) (k0 : 0 ≤ k) (k1 : k < m) : OK (fJ0_charAt a k h) (fun r => r = c k) := by
  obtain ⟨s1, s2, s3, s4, s5, s6, s7⟩ := s
  have q := s7 k k0 k1
  have e : ji2c (jand (h (h a 0) k) 255) = c k := by rw [jand_255, q.1, ji2c_id (by omega) (by omega)]; omega
  unfold fJ0_charAt
  refine OK_jg s1 (OK_jb (R := fun r => r = 1) ?_ (fun r hr => ?_))
  · unfold fJ0_isLatin1
    rw [if_neg (by decide), if_pos s2]
    exact OK_jg s1 (OK_some rfl)
  · subst hr
    rw [if_neg (by decide)]
    refine OK_jg s1 (OK_jb (R := fun r => r = c k) ?_ (fun r hr => ?_))
    · unfold fJ1_charAt
      refine OK_jg (by omega) (OK_jb (R := fun _ => True) ?_ (fun _ _ => ?_))
      · unfold fJ0_checkIndex fJ4_checkIndex
        rw [if_neg (by omega), if_pos (by omega)]
        exact ⟨(), rfl, trivial⟩
      · rw [e]
        exact OK_jg (by unfold jI; omega) (OK_jg (by unfold jCh; omega) (OK_some rfl))
    · subst hr
      exact OK_jg (by unfold jCh; omega) (OK_some rfl)
theorem strI_fr {h h' : AH} {a m : Int} {c : Int → Int} (s : strI h a c m) (f0 : ∀ i, h' a i = h a i) (f1 : ∀ i, h' (h a 0) i = h (h a 0) i) : strI h' a c m := by
  obtain ⟨s1, s2, s3, s4, s5, s6, s7⟩ := s
  unfold strI
  rw [f0, f0, f0, f1, f1]
  exact ⟨s1, s2, s3, s4, s5, s6, fun k k0 k1 => by rw [f1]; exact s7 k k0 k1⟩
def lets (c : Int → Int) (s k : Int) : Prop := ∀ i, s ≤ i → i < s + k → 97 ≤ c i ∧ c i ≤ 122
theorem cod_inj {B C : Int → Int} {s u : Int} : ∀ {k m : Nat}, lets B s k → lets C u m → (cod B s k = cod C u m ↔ k = m ∧ ∀ i : Int, 0 ≤ i → i < k → B (s + i) = C (u + i))
  | 0, 0, _, _ => ⟨fun _ => ⟨rfl, fun i i0 i1 => absurd i0 (by omega)⟩, fun _ => rfl⟩
  | 0, m + 1, _, hC => by
    have b := hC (u + m) (by omega) (by omega)
    have r := (cod_r (B := C) (s := u) (k := m) (fun i i0 i1 => hC i i0 (by omega))).1
    show 0 = 27 * cod C u m + (C (u + m) - 96) ↔ _
    exact ⟨fun z => by omega, fun z => by have := z.1; omega⟩
  | k + 1, 0, hB, _ => by
    have b := hB (s + k) (by omega) (by omega)
    have r := (cod_r (B := B) (s := s) (k := k) (fun i i0 i1 => hB i i0 (by omega))).1
    show 27 * cod B s k + (B (s + k) - 96) = 0 ↔ _
    exact ⟨fun z => by omega, fun z => by have := z.1; omega⟩
  | k + 1, m + 1, hB, hC => by
    have b := hB (s + k) (by omega) (by omega)
    have c := hC (u + m) (by omega) (by omega)
    have ih := cod_inj (B := B) (C := C) (s := s) (u := u) (k := k) (m := m) (fun i i0 i1 => hB i i0 (by omega)) (fun i i0 i1 => hC i i0 (by omega))
    show 27 * cod B s k + (B (s + k) - 96) = 27 * cod C u m + (C (u + m) - 96) ↔ _
    constructor
    · intro z
      have e1 : cod B s k = cod C u m := by omega
      obtain ⟨q1, q2⟩ := ih.mp e1
      refine ⟨by omega, fun i i0 i1 => ?_⟩
      by_cases y : i = k
      · subst y; subst q1; omega
      · exact q2 i i0 (by omega)
    · rintro ⟨q1, q2⟩
      have e1 := ih.mpr ⟨by omega, fun i i0 i1 => q2 i i0 (by omega)⟩
      have e2 := q2 k (by omega) (by omega)
      have : k = m := by omega
      subst this
      omega
theorem cod_eq {B C : Int → Int} {s u : Int} {k : Nat} (h : ∀ i : Int, 0 ≤ i → i < k → B (s + i) = C (u + i)) : cod B s k = cod C u k := by
  induction k with
  | zero => rfl
  | succ k ih =>
    show 27 * cod B s k + (B (s + k) - 96) = 27 * cod C u k + (C (u + k) - 96)
    rw [ih (fun i i0 i1 => h i i0 (by omega)), h k (by omega) (by omega)]
def nmS (h : AH) (a w : Int) : Prop := ∃ c m, strI h a c m ∧ m ≤ 8 ∧ lets c 0 m ∧ w = cod c 0 m.toNat
/-- the name at hand: its letters -/
theorem tok_1 {B : Int → Int} {n q : Int} (h : tO B n q = 1) : 1 ≤ tE B n q - tS B n q ∧ tE B n q - tS B n q ≤ 8 ∧ tE B n q ≤ n ∧ lets B (tS B n q) (tE B n q - tS B n q) ∧ tV B n q = cod B (tS B n q) (tE B n q - tS B n q).toNat := by
  by_cases c : isL (tC B n q) = true
  · by_cases k : letE B n (tS B n q) - tS B n q ≤ 8
    · have e := tK_1 c k
      have l1 := letE_1 (B := B) (n := n) (q := tS B n q) c
      have l2 := letE_r B n (tS B n q)
      unfold tE tV
      rw [e]
      refine ⟨by show 1 ≤ letE B n (tS B n q) - _; omega, k, by show letE B n (tS B n q) ≤ n; omega, fun i i0 i1 => ?_, rfl⟩
      have i2 : i < letE B n (tS B n q) := by
        have : i < tS B n q + (letE B n (tS B n q) - tS B n q) := i1
        omega
      have key : ∀ (m : Nat) (a : Int), (∀ j, a ≤ j → j < scan (fun i => isL (byt B n i)) m a → isL (byt B n j) = true) := by
        intro m
        induction m with
        | zero => intro a j j0 j1; exact absurd j1 (by show ¬ j < a; omega)
        | succ m ih =>
          intro a j j0 j1
          have e : scan (fun i => isL (byt B n i)) (m + 1) a = if isL (byt B n a) = true then scan (fun i => isL (byt B n i)) m (a + 1) else a := rfl
          rw [e] at j1
          by_cases z : isL (byt B n a) = true
          · rw [if_pos z] at j1
            by_cases y : j = a
            · subst y; exact z
            · exact ih (a + 1) j (by omega) j1
          · rw [if_neg z] at j1; omega
      have l := key 2002 (tS B n q) i i0 i2
      have := isL_r l
      rw [byt_i (isL_lt l)] at this
      exact this
    · unfold tO at h; rw [tK_1x c k] at h; exact absurd h (show ¬ (5 : Int) = 1 by decide)
  · exfalso
    unfold tO tK at h
    by_cases c0 : tC B n q < 0
    · rw [if_pos c0] at h; exact absurd h (show ¬ (0 : Int) = 1 by decide)
    rw [if_neg c0, if_neg c] at h
    by_cases c1 : isD (tC B n q) = true
    · rw [if_pos c1] at h
      by_cases k : digE B n (tS B n q) - tS B n q ≤ 2 ∧ dgs B (tS B n q) (digE B n (tS B n q) - tS B n q).toNat ≤ 15
      · rw [if_pos k] at h; exact absurd h (show ¬ (2 : Int) = 1 by decide)
      · rw [if_neg k] at h; exact absurd h (show ¬ (5 : Int) = 1 by decide)
    rw [if_neg c1] at h
    by_cases c2 : tC B n q = 34
    · rw [if_pos c2] at h
      by_cases k : letE B n (tS B n q + 1) - (tS B n q + 1) ≤ 6 ∧ byt B n (letE B n (tS B n q + 1)) = 34
      · rw [if_pos k] at h; exact absurd h (show ¬ (3 : Int) = 1 by decide)
      · rw [if_neg k] at h; exact absurd h (show ¬ (5 : Int) = 1 by decide)
    rw [if_neg c2] at h
    by_cases c3 : tC B n q = 45 ∧ byt B n (tS B n q + 1) = 62
    · rw [if_pos c3] at h; exact absurd h (show ¬ (4 : Int) = 1 by decide)
    rw [if_neg c3] at h
    by_cases c4 : sgn (tC B n q)
    · rw [if_pos c4] at h; exact absurd h (show ¬ (4 : Int) = 1 by decide)
    · rw [if_neg c4] at h; exact absurd h (show ¬ (5 : Int) = 1 by decide)

