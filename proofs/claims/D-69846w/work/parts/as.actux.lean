/-! x: the grown acts -/
theorem nmS_at {h h' : AH} {a w : Int} (n : nmS h a w) (f1 : ∀ s, h' a s = h a s) (f2 : ∀ s, h' (h a 0) s = h (h a 0) s) : nmS h' a w := by
  obtain ⟨c, m, ⟨s1, s2, s3, s4, s5, s6, s7⟩, m8, lt, we⟩ := n
  refine ⟨c, m, ⟨?_, ?_, ?_, ?_, s5, s6, ?_⟩, m8, lt, we⟩
  · rw [f1]; exact s1
  · rw [f1]; exact s2
  · rw [f1, f2]; exact s3
  · rw [f1, f2]; exact s4
  · intro k k0 k1
    rw [f1, f2]; exact s7 k k0 k1
/-- what an own act leaves of x's acts -/
def frXu (N : Int) (h h' : AH) : Prop := ∀ a s, a ≠ 0 → a < h 0 0 → actC a s → ¬ (a = 200 ∧ s = 7) → ¬ ((a = 264 ∨ a = 265 ∨ a = 267 ∨ a = 268) ∧ s = N - 26) → ¬ (a = 266 ∧ 3 * (N - 26) ≤ s ∧ s < 3 * (N - 26) + 3) → h' a s = h a s
theorem frXu_n {N : Int} {h h' : AH} (f : frXn N h h') : frXu N h h' := fun a s y0 y1 y2 y3 y4 y5 => by
  unfold actC at y2
  exact f a s y0 y1 (by omega) (by omega) (by omega) (by omega) (by omega) (by omega) (by omega) (by omega) y4 y5 (by omega) (by omega) (by omega)
theorem frXu_o {N : Int} {h h' : AH} (f : frXo N h h') : frXu N h h' := fun a s y0 y1 y2 y3 y4 y5 => by
  unfold actC at y2
  exact f a s y0 y1 (by omega) (by omega) (by omega) (by omega) (by omega) (by omega) y4 y5 (by omega) (by omega) (by omega)
theorem actX_U {h h' : AH} {E : EV} {w kr : Int} {l : List Int} {T : TR} (x : actX h E.1.1 E.1.2.1 E.1.2.2.1 E.1.2.2.2.1 E.1.2.2.2.2) (hp : 1078 ≤ h 0 0) (nb : ∀ a, 0 ≤ a → a < E.1.1 → nmR h a < h 0 0 ∧ h (nmR h a) 0 < h 0 0) (g : owGd E l kr T) (n : nwX E w kr l T h h') (f : frXu E.1.1 h h') : actX h' (E.1.1 + 1) (upF E.1.2.1 E.1.1 w) (upF E.1.2.2.1 E.1.1 (l.length : Int)) (upF E.1.2.2.2.1 E.1.1 (wtR E.1.2.2.2.1 (rsE (EL E l) T 0))) (upF E.1.2.2.2.2 E.1.1 (fun k => if k = (l.length : Int) then kr else kL l k)) := by
  obtain ⟨x1, x2, x3, x4⟩ := x
  obtain ⟨⟨l1, l2⟩, lk, e35, tm, krr, wtr, s1, d1, hl, ar⟩ := g
  obtain ⟨n7, n268, nS, nv0, n264, n265, n266, n2662, n267, _⟩ := n
  refine ⟨by omega, by omega, by omega, fun a a0 a1 => ?_⟩
  unfold act1
  by_cases c : a = E.1.1
  · rw [c]
    have e1 : nmR h' E.1.1 = h 0 0 := by unfold nmR; rw [if_neg (by omega)]; exact n268
    have e2 : opR h' E.1.1 = (l.length : Int) := by unfold opR; rw [if_neg (by omega)]; exact n265
    have e3 : ∀ k, 0 ≤ k → k ≤ (l.length : Int) → kdR h' E.1.1 k = if k = (l.length : Int) then kr else kL l k := fun k k0 k1 => by
      unfold kdR
      rw [if_neg (by omega), n265]
      by_cases d : k = (l.length : Int)
      · rw [if_pos d, if_pos d]; exact n2662
      · rw [if_neg d, if_neg d]; exact n266 k k0 (by omega)
    rw [e1, e2, nv0, upF_n, upF_n, upF_n, upF_n]
    refine ⟨nS, ⟨by omega, by omega, Or.inr (by omega)⟩, ⟨by omega, by omega, Or.inr (by omega)⟩, rfl, by omega, by omega, fun _ => ⟨by omega, n267⟩, fun k k0 k1 => ⟨e3 k k0 k1, ?_⟩, wtr.1, wtr.2⟩
    show 0 ≤ (if k = (l.length : Int) then kr else kL l k) ∧ (if k = (l.length : Int) then kr else kL l k) ≤ 2
    by_cases d : k = (l.length : Int)
    · rw [if_pos d]; exact krr
    · rw [if_neg d]; exact lk k k0 (by omega)
  · obtain ⟨y1, y2, y3, y4, y5, y6, y7, y8, y9, y10⟩ := x4 a a0 (by omega)
    obtain ⟨b1, b2⟩ := nb a a0 (by omega)
    rw [upF_o c, upF_o c, upF_o c, upF_o c]
    have e1 : nmR h' a = nmR h a := by
      unfold nmR
      by_cases d : a < 26
      · rw [if_pos d, if_pos d]; exact f 203 a (by omega) (by omega) (by unfold actC; omega) (by omega) (by omega) (by omega)
      · rw [if_neg d, if_neg d]; exact f 268 _ (by omega) (by omega) (by unfold actC; omega) (by omega) (by omega) (by omega)
    have e2 : opR h' a = opR h a := by
      unfold opR
      by_cases d : a < 26
      · rw [if_pos d, if_pos d]; exact f 204 a (by omega) (by omega) (by unfold actC; omega) (by omega) (by omega) (by omega)
      · rw [if_neg d, if_neg d]; exact f 265 _ (by omega) (by omega) (by unfold actC; omega) (by omega) (by omega) (by omega)
    have F1 : ∀ s, h' (nmR h a) s = h (nmR h a) s := fun s => by
      obtain ⟨u1, u2, u3⟩ := y2
      exact f _ s (by omega) b1 (by unfold actC; omega) (by omega) (by omega) (by omega)
    have F2 : ∀ s, h' (h (nmR h a) 0) s = h (h (nmR h a) 0) s := fun s => by
      obtain ⟨u1, u2, u3⟩ := y3
      exact f _ s (by omega) b2 (by unfold actC; omega) (by omega) (by omega) (by omega)
    have e3 : ∀ k, 0 ≤ k → k ≤ E.1.2.2.1 a → kdR h' a k = kdR h a k := fun k k0 k1 => by
      unfold kdR
      by_cases d : a < 26
      · rw [if_pos d, if_pos d]; exact f 205 _ (by omega) (by omega) (by unfold actC; omega) (by omega) (by omega) (by omega)
      · rw [if_neg d, if_neg d, f 265 (a - 26) (by omega) (by omega) (by unfold actC; omega) (by omega) (by omega) (by omega), f 266 (3 * (a - 26) + 2) (by omega) (by omega) (by unfold actC; omega) (by omega) (by omega) (by omega)]
        by_cases e : k = h 265 (a - 26)
        · rw [if_pos e, if_pos e]
        · rw [if_neg e, if_neg e]
          have o2 := (y7 (by omega)).1
          have oe : h 265 (a - 26) = E.1.2.2.1 a := by
            have z := y4
            unfold opR at z
            rw [if_neg d] at z
            exact z
          exact f 266 _ (by omega) (by omega) (by unfold actC; omega) (by omega) (by omega) (by omega)
    rw [e1, e2, F1]
    refine ⟨nmS_at y1 F1 F2, y2, y3, y4, y5, y6, fun d => ⟨(y7 d).1, ?_⟩, fun k k0 k1 => ⟨(e3 k k0 k1).trans (y8 k k0 k1).1, (y8 k k0 k1).2⟩, y9, y10⟩
    rw [f 267 _ (by omega) (by omega) (by unfold actC; omega) (by omega) (by omega) (by omega)]
    exact (y7 d).2

