/-! m: a node is weighed: cuts -/
def seA (e : CE) (u : Nat) (o : Int → Int) (n : Int) (m : Int × Int) : Prop := m ∈ wL e u 3 ∨ ∃ a b : Int, (0 ≤ a ∧ a < n) ∧ (0 ≤ b ∧ b < 178) ∧ (isP e a ∧ o a = a) ∧ (isP e b ∧ o b = b) ∧ tgC e u a b ≠ -1 ∧ m = gpM e u o a b
def seB (e : CE) (u : Nat) (o : Int → Int) (a n : Int) (m : Int × Int) : Prop := seA e u o a m ∨ ∃ b : Int, (0 ≤ b ∧ b < n) ∧ (isP e a ∧ o a = a) ∧ (isP e b ∧ o b = b) ∧ tgC e u a b ≠ -1 ∧ m = gpM e u o a b
def grM (h : AH) (e : CE) (o : Int → Int) : Prop := ∀ s, 0 ≤ s → s < 178 → spM h e s ∧ h 825 s = o s ∧ (isP e s → o s = s → h 826 s = cntO e o s 178 ∧ h 827 s = prcO e o s 178)
theorem grM_f {h h' : AH} {e : CE} {o : Int → Int} (c : grM h e o) (e8 : e.1 ≤ 8) (f : ∀ a x, 823 ≤ a → a ≤ 827 → h' a x = h a x) : grM h' e o := fun s s0 s1 => by
  obtain ⟨c1, c2, c3⟩ := c s s0 s1
  exact ⟨spM_f c1 e8 (fun a x q => f a x (by omega) (by omega)), by rw [f _ _ (by omega) (by omega)]; exact c2, fun p q => by rw [f 826 s (by omega) (by omega), f 827 s (by omega) (by omega)]; exact c3 p q⟩
theorem gpB_n {e : CE} {u : Nat} {G o : Int → Int} {a b : Int} (b0 : 0 ≤ b) (n : ¬ (isP e b ∧ o b = b) ∨ tgC e u a b = -1) : gpB e u G o a (b.toNat + 1) = gpB e u G o a b.toNat := by
  show gpB e u G o a b.toNat + cif (isP e (b.toNat : Int) ∧ o (b.toNat : Int) = (b.toNat : Int)) (cntO e o a 178 * cntO e o (b.toNat : Int) 178 * cutF e u G a (b.toNat : Int)) 0 = _
  rw [show ((b.toNat : Nat) : Int) = b by omega]
  by_cases y : isP e b ∧ o b = b
  · rw [cif_y y]
    unfold cutF
    rw [if_pos (n.resolve_left (fun z => z y)), Int.mul_zero, Int.add_zero]
  · rw [cif_n y, Int.add_zero]
theorem gpB_y {e : CE} {u : Nat} {G o : Int → Int} {a b : Int} (b0 : 0 ≤ b) (y : isP e b ∧ o b = b) (n : tgC e u a b ≠ -1) : gpB e u G o a (b.toNat + 1) = gpB e u G o a b.toNat + cntO e o a 178 * cntO e o b 178 * G (tgC e u a b) := by
  show gpB e u G o a b.toNat + cif (isP e (b.toNat : Int) ∧ o (b.toNat : Int) = (b.toNat : Int)) (cntO e o a 178 * cntO e o (b.toNat : Int) 178 * cutF e u G a (b.toNat : Int)) 0 = _
  rw [show ((b.toNat : Nat) : Int) = b by omega, cif_y y]
  unfold cutF
  rw [if_neg n]
theorem seB_n {e : CE} {u : Nat} {o : Int → Int} {a b : Int} {m : Int × Int} (n : ¬ (isP e b ∧ o b = b) ∨ tgC e u a b = -1) (h : seB e u o a (b + 1) m) : seB e u o a b m := h.imp id (fun ⟨c, c1, c2, c3, c4, c5⟩ => by
  by_cases y : c = b
  · exfalso
    rw [y] at c3 c4
    rcases n with n | n
    · exact n c3
    · exact c4 n
  · exact ⟨c, ⟨c1.1, by omega⟩, c2, c3, c4, c5⟩)
theorem seB_y {e : CE} {u : Nat} {o : Int → Int} {a b : Int} {m : Int × Int} (h : seB e u o a (b + 1) m) : seB e u o a b m ∨ m = gpM e u o a b := by
  rcases h with h | ⟨c, c1, c2, c3, c4, c5⟩
  · exact Or.inl (Or.inl h)
  · by_cases y : c = b
    · rw [y] at c5; exact Or.inr c5
    · exact Or.inl (Or.inr ⟨c, ⟨c1.1, by omega⟩, c2, c3, c4, c5⟩)
theorem seA_s {e : CE} {u : Nat} {o : Int → Int} {a : Int} {m : Int × Int} (h : seA e u o (a + 1) m) : seB e u o a 178 m := by
  rcases h with h | ⟨c, b, c1, b1, c2, c3, c4, c5⟩
  · exact Or.inl (Or.inl h)
  · by_cases y : c = a
    · rw [y] at c2 c4 c5; exact Or.inr ⟨b, b1, c2, c3, c4, c5⟩
    · exact Or.inl (Or.inr ⟨c, b, ⟨c1.1, by omega⟩, b1, c2, c3, c4, c5⟩)
theorem seA_n {e : CE} {u : Nat} {o : Int → Int} {a : Int} {m : Int × Int} (n : ¬ (isP e a ∧ o a = a)) (h : seA e u o (a + 1) m) : seA e u o a m := h.imp id (fun ⟨c, b, c1, b1, c2, c3⟩ => by
  by_cases y : c = a
  · rw [y] at c2; exact absurd c2 n
  · exact ⟨c, b, ⟨c1.1, by omega⟩, b1, c2, c3⟩)
theorem gpA_s {e : CE} {u : Nat} {G o : Int → Int} {a : Int} (a0 : 0 ≤ a) : gpA e u G o (a.toNat + 1) = gpA e u G o a.toNat + cif (isP e a ∧ o a = a) (gpB e u G o a 178) 0 := by
  show gpA e u G o a.toNat + cif (isP e (a.toNat : Int) ∧ o (a.toNat : Int) = (a.toNat : Int)) (gpB e u G o (a.toNat : Int) 178) 0 = _
  rw [show ((a.toNat : Nat) : Int) = a by omega]

