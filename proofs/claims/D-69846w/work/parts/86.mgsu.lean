/-! sums and least values over groups of places -/
def grQ (e : CE) (o : Int → Int) (n : Nat) : Prop := ∀ s : Int, 0 ≤ s → s < n → isP e s → (0 ≤ o s ∧ o s ≤ s) ∧ isP e (o s) ∧ seE e (o s) s ∧ o (o s) = o s
theorem grp_sum {e : CE} {o g : Int → Int} (hg : ∀ s t, 0 ≤ s → 0 ≤ t → seE e s t → g s = g t) : ∀ {n : Nat}, grQ e o n → sumN (fun s => cif (isP e s) (g s) 0) n = sumN (fun t => cif (isP e t ∧ o t = t) (cntO e o t n * g t) 0) n
  | 0, _ => rfl
  | n + 1, h => by
    have h' : grQ e o n := fun s s0 s1 => h s s0 (by omega)
    have ih := grp_sum hg h'
    have sp : sumN (fun t => cif (isP e t ∧ o t = t) (cntO e o t (n + 1) * g t) 0) (n + 1) = sumN (fun t => cif (isP e t ∧ o t = t) (cntO e o t n * g t) 0 + cif (isP e t ∧ o t = t) (cif (isP e n ∧ o n = t) 1 0 * g t) 0) (n + 1) := sumN_c (fun t _ _ => by
      by_cases y : isP e t ∧ o t = t
      · rw [cif_y y, cif_y y, cif_y y, cntO_s, Int.add_mul]
      · rw [cif_n y, cif_n y, cif_n y]; rfl)
    rw [sp, sumN_add (fun t => cif (isP e t ∧ o t = t) (cntO e o t n * g t) 0) (fun t => cif (isP e t ∧ o t = t) (cif (isP e n ∧ o n = t) 1 0 * g t) 0)]
    have z1 : sumN (fun t => cif (isP e t ∧ o t = t) (cntO e o t n * g t) 0) (n + 1) = sumN (fun t => cif (isP e t ∧ o t = t) (cntO e o t n * g t) 0) n := by
      show sumN (fun t => cif (isP e t ∧ o t = t) (cntO e o t n * g t) 0) n + cif (isP e n ∧ o n = n) (cntO e o n n * g n) 0 = _
      have z := (cntO_z (e := e) (o := o) (t := n) (n := n) (fun k l pk w => by
        have := (h' k (by omega) (by omega) pk).1
        omega)).1
      rw [z, Int.zero_mul]
      by_cases y : isP e n ∧ o n = n
      · rw [cif_y y]; omega
      · rw [cif_n y]; omega
    have z2 : sumN (fun t => cif (isP e t ∧ o t = t) (cif (isP e n ∧ o n = t) 1 0 * g t) 0) (n + 1) = cif (isP e n) (g n) 0 := by
      by_cases p : isP e n
      · have q := h n (by omega) (by omega) p
        rw [cif_y p, sumN_1 (i := o n) q.1.1 (by omega) (fun j j0 j1 ne => by
          have y : ¬ (isP e n ∧ o n = j) := fun w => ne w.2.symm
          rw [cif_n y, Int.zero_mul]
          by_cases y2 : isP e j ∧ o j = j
          · rw [cif_y y2]
          · rw [cif_n y2]), cif_y ⟨q.2.1, q.2.2.2⟩, cif_y ⟨p, rfl⟩, Int.one_mul]
        exact hg _ _ q.1.1 (by omega) q.2.2.1
      · rw [cif_n p]
        exact sumN_0 (fun j _ _ => by
          have y : ¬ (isP e n ∧ o n = j) := fun w => p w.1
          rw [cif_n y, Int.zero_mul]
          by_cases y2 : isP e j ∧ o j = j
          · rw [cif_y y2]
          · rw [cif_n y2])
    rw [z1, z2, ← ih]
    rfl

