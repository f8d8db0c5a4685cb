/-! m's terms as they are read -/
def rawM (h : AH) : TR → Int → Int → Int → Int → Prop
  | .leaf i, d, j, _, pv => ndM h d i ∧ h 465 d = j ∧ h 466 d = pv
  | .branch _ s r, d, j, p, pv => (j < 3 → h 464 (3 * d + j) = p) ∧ rawM h s p 0 (p + 1) (-1) ∧ (3 ≤ j → h 467 p = pv) ∧ rawM h r d (j + 1) (p + sz s) (if j < 3 then pv else p)
def rawL (h : AH) (d : Int) : List TR → Int → Int → Int → Int → Prop
  | [], _, _, pv, pe => pe = pv
  | s :: l, j, p, pv, pe => (j < 3 → h 464 (3 * d + j) = p) ∧ rawM h s p 0 (p + 1) (-1) ∧ (3 ≤ j → h 467 p = pv) ∧ rawL h d l (j + 1) (p + sz s) (if j < 3 then pv else p) pe
theorem rawM_spn {h : AH} {d pe : Int} {i : NI} : ∀ {l : List TR} {j p pv : Int}, rawL h d l j p pv pe → ndM h d i → h 465 d = j + (l.length : Nat) → h 466 d = pe → rawM h (spn i l) d j p pv
  | [], j, p, pv, r, a, b, c => ⟨a, by rw [b]; show j + ((0 : Nat) : Int) = j; omega, by rw [c]; exact r⟩
  | s :: l, j, p, pv, r, a, b, c => ⟨r.1, r.2.1, r.2.2.1, rawM_spn (l := l) r.2.2.2 a (by rw [b, List.length_cons]; omega) c⟩
theorem rawL_app {h : AH} {d : Int} : ∀ {l : List TR} {t : TR} {j p pv pe : Int}, rawL h d l j p pv pe → (j + (l.length : Nat) < 3 → h 464 (3 * d + (j + (l.length : Nat))) = p + szL l) → rawM h t (p + szL l) 0 (p + szL l + 1) (-1) → (3 ≤ j + (l.length : Nat) → h 467 (p + szL l) = pe) → rawL h d (l ++ [t]) j p pv (if j + (l.length : Nat) < 3 then pe else p + szL l)
  | [], t, j, p, pv, pe, r, a, b, c => by
    have e1 : j + ((([] : List TR).length : Nat) : Int) = j := by show j + ((0 : Nat) : Int) = j; omega
    have e2 : p + szL [] = p := by show p + 0 = p; omega
    rw [e1] at a c ⊢
    rw [e2] at a b c ⊢
    have r' : pe = pv := r
    subst r'
    exact ⟨a, b, c, rfl⟩
  | s :: l, t, j, p, pv, pe, r, a, b, c => by
    have e1 : j + (((s :: l).length : Nat) : Int) = j + 1 + (l.length : Nat) := by rw [List.length_cons]; omega
    have e2 : p + szL (s :: l) = p + sz s + szL l := by show p + (sz s + szL l) = _; omega
    rw [e1] at a c ⊢
    rw [e2] at a b c ⊢
    exact ⟨r.1, r.2.1, r.2.2.1, rawL_app r.2.2.2 a b c⟩
/-- cells that a term's nodes use, but their root's place in a row of operands -/
def agM (lo hi : Int) (h h' : AH) : Prop := (∀ a s, 460 ≤ a → a ≤ 470 → a ≠ 464 → a ≠ 467 → lo ≤ s → s < hi → h' a s = h a s) ∧ (∀ s, 3 * lo ≤ s → s < 3 * hi → h' 464 s = h 464 s) ∧ (∀ s, lo < s → s < hi → h' 467 s = h 467 s)
theorem ndM_ag {h h' : AH} {lo hi d : Int} {i : NI} (f : agM lo hi h h') (d0 : lo ≤ d) (d1 : d < hi) (n : ndM h d i) : ndM h' d i := by
  unfold ndM at *
  rw [f.1 460 d (by decide) (by decide) (by decide) (by decide) d0 d1, f.1 461 d (by decide) (by decide) (by decide) (by decide) d0 d1, f.1 462 d (by decide) (by decide) (by decide) (by decide) d0 d1, f.1 468 d (by decide) (by decide) (by decide) (by decide) d0 d1, f.1 470 d (by decide) (by decide) (by decide) (by decide) d0 d1]
  exact n
theorem rawM_ag {h h' : AH} {lo hi : Int} (f : agM lo hi h h') : ∀ {t : TR} {d j p pv : Int}, 0 ≤ j → lo ≤ d → d < hi → lo < p → p + (sz t - 1) ≤ hi → rawM h t d j p pv → rawM h' t d j p pv
  | .leaf i, d, j, p, pv, hj, d0, d1, p0, p1, r => ⟨ndM_ag f d0 d1 r.1, by rw [f.1 465 d (by decide) (by decide) (by decide) (by decide) d0 d1]; exact r.2.1, by rw [f.1 466 d (by decide) (by decide) (by decide) (by decide) d0 d1]; exact r.2.2⟩
  | .branch b s r, d, j, p, pv, hj, d0, d1, p0, p1, q => by
    have z1 := sz_pos s
    have z2 := sz_pos r
    have e : sz (.branch b s r) = sz s + sz r := rfl
    rw [e] at p1
    obtain ⟨q1, q2, q3, q4⟩ := q
    exact ⟨fun j3 => by rw [f.2.1 _ (by omega) (by omega)]; exact q1 j3, rawM_ag f (by omega) (by omega) (by omega) (by omega) (by omega) q2, fun j3 => by rw [f.2.2 _ (by omega) (by omega)]; exact q3 j3, rawM_ag f (by omega) d0 d1 (by omega) (by omega) q4⟩
theorem rawL_ag {h h' : AH} {lo hi d : Int} (f : agM lo hi h h') (g7 : lo < hi → h' 467 lo = h 467 lo) : ∀ {l : List TR} {j p pv pe : Int}, 0 ≤ j → lo ≤ p → p + szL l ≤ hi → (∀ k, j ≤ k → k < 3 → k < j + (l.length : Nat) → h' 464 (3 * d + k) = h 464 (3 * d + k)) → rawL h d l j p pv pe → rawL h' d l j p pv pe
  | [], _, _, _, _, _, _, _, _, r => r
  | s :: l, j, p, pv, pe, hj, p0, p1, q, r => by
    have z1 := sz_pos s
    have z2 := szL_pos l
    have e : szL (s :: l) = sz s + szL l := rfl
    rw [e] at p1
    have el : (((s :: l).length : Nat) : Int) = (l.length : Nat) + 1 := by rw [List.length_cons]; omega
    obtain ⟨r1, r2, r3, r4⟩ := r
    refine ⟨fun j3 => by rw [q j (by omega) j3 (by omega)]; exact r1 j3, rawM_ag f (by omega) (by omega) (by omega) (by omega) (by omega) r2, fun j3 => ?_, rawL_ag f g7 (by omega) (by omega) (by omega) (fun k k0 k1 k2 => q k (by omega) k1 (by omega)) r4⟩
    by_cases z : p = lo
    · subst z; rw [g7 (by omega)]; exact r3 j3
    · rw [f.2.2 _ (by omega) (by omega)]; exact r3 j3

