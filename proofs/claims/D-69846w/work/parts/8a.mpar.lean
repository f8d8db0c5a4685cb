/-! sums over groups, as far as they are done; least values over groups -/
noncomputable def gpB (e : CE) (u : Nat) (G o : Int → Int) (a : Int) (k : Nat) : Int := sumN (fun b => cif (isP e b ∧ o b = b) (cntO e o a 178 * cntO e o b 178 * cutF e u G a b) 0) k
noncomputable def gpA (e : CE) (u : Nat) (G o : Int → Int) (k : Nat) : Int := sumN (fun a => cif (isP e a ∧ o a = a) (gpB e u G o a 178) 0) k
theorem gp_all {e : CE} {u : Nat} {G o : Int → Int} (v : vCE e) (h : grQ e o 178) : smL G (mvL e u) = smL G (wL e u 3) + gpA e u G o 178 := smL_grp v h
theorem gpB_t {e : CE} {u : Nat} {G o : Int → Int} (G0 : ∀ x, 0 ≤ G x) (a b : Int) : 0 ≤ cif (isP e b ∧ o b = b) (cntO e o a 178 * cntO e o b 178 * cutF e u G a b) 0 := by
  by_cases y : isP e b ∧ o b = b
  · rw [cif_y y]
    refine Int.mul_nonneg (Int.mul_nonneg (cntO_b 178).1.1 (cntO_b 178).1.1) ?_
    unfold cutF
    split
    · exact Int.le_refl _
    · exact G0 _
  · rw [cif_n y]; exact Int.le_refl _
theorem gpA_t {e : CE} {u : Nat} {G o : Int → Int} (G0 : ∀ x, 0 ≤ G x) (a : Int) : 0 ≤ cif (isP e a ∧ o a = a) (gpB e u G o a 178) 0 := by
  by_cases y : isP e a ∧ o a = a
  · rw [cif_y y]; exact sumN_n (fun b _ => gpB_t G0 a b) 178
  · rw [cif_n y]; exact Int.le_refl _
theorem gp_le {e : CE} {u : Nat} {G o : Int → Int} (v : vCE e) (h : grQ e o 178) (G0 : ∀ x, 0 ≤ G x) {a b : Nat} (a1 : a < 178) (b1 : b ≤ 178) (r : isP e a ∧ o a = a) : 0 ≤ gpA e u G o a ∧ 0 ≤ gpB e u G o a b ∧ smL G (wL e u 3) + gpA e u G o a + gpB e u G o a b ≤ smL G (mvL e u) := by
  have x1 : gpB e u G o a b ≤ gpB e u G o a 178 := sumN_m (fun b _ => gpB_t G0 a b) b1
  have x2 : gpA e u G o (a + 1) = gpA e u G o a + gpB e u G o a 178 := by
    show gpA e u G o a + cif (isP e a ∧ o a = a) (gpB e u G o a 178) 0 = _
    rw [cif_y r]
  have x3 : gpA e u G o (a + 1) ≤ gpA e u G o 178 := sumN_m (fun a _ => gpA_t G0 a) (by omega)
  rw [gp_all v h]
  exact ⟨sumN_n (fun a _ => gpA_t G0 a) a, sumN_n (fun b _ => gpB_t G0 a b) b, by omega⟩
/-- a pair of representatives as a move -/
noncomputable def gpM (e : CE) (u : Nat) (o : Int → Int) (a b : Int) : Int × Int := (prcO e o a 178 + prcO e o b 178, tgC e u a b)
theorem gpM_in {e : CE} {u a b : Nat} {o : Int → Int} (v : vCE e) (h : grQ e o 178) (a1 : a < 178) (b1 : b < 178) (ra : isP e a ∧ o a = a) (rb : isP e b ∧ o b = b) (n : tgC e u a b ≠ -1) : gpM e u o a b ∈ mvL e u := by
  obtain ⟨s, s1, s2, s3, s4⟩ := prcO_m a1 ra.1 ra.2
  obtain ⟨t, t1, t2, t3, t4⟩ := prcO_m b1 rb.1 rb.2
  have sa := (h s (by omega) (by omega) s2).2.2.1
  have sb := (h t (by omega) (by omega) t2).2.2.1
  rw [s3] at sa
  rw [t3] at sb
  have z := tgC_se (u := u) v sa sb
  refine mvL_m.mpr (Or.inr ⟨s, t, s1, t1, s2, t2, by rw [← z]; exact n, ?_⟩)
  unfold gpM
  rw [s4, t4, z]
theorem mn_grp {e : CE} {u : Nat} {g o : Int → Int} {x : Int} (v : vCE e) (h : grQ e o 178) (m : mnI g (fun m => m ∈ mvL e u) (fun m => m ∈ wL e u 3 ∨ ∃ a b : Int, (0 ≤ a ∧ a < 178) ∧ (0 ≤ b ∧ b < 178) ∧ (isP e a ∧ o a = a) ∧ (isP e b ∧ o b = b) ∧ tgC e u a b ≠ -1 ∧ m = gpM e u o a b) x) : x = mnL g (mvL e u) := by
  obtain ⟨m1, m2, m3⟩ := m
  refine mnL_u m1 (fun q hq => ?_) m3
  rcases mvL_m.mp hq with ⟨n, n1, n2, n3, n4⟩ | ⟨a, b, a1, b1, a2, b2, n, n4⟩
  · exact m2 q (Or.inl (wL_m.mpr ⟨n, n1, n2, n3, n4⟩))
  · have ha := h a (by omega) (by omega) a2
    have hb := h b (by omega) (by omega) b2
    have z := tgC_se (u := u) v ha.2.2.1 hb.2.2.1
    have y := m2 (gpM e u o (o a) (o b)) (Or.inr ⟨o a, o b, ⟨ha.1.1, by omega⟩, ⟨hb.1.1, by omega⟩, ⟨ha.2.1, ha.2.2.2⟩, ⟨hb.2.1, hb.2.2.2⟩, by rw [z]; exact n, rfl⟩)
    have pa := prcO_le (e := e) (o := o) (t := o a) a1 a2 rfl
    have pb := prcO_le (e := e) (o := o) (t := o b) b1 b2 rfl
    unfold gpM at y
    rw [z] at y
    rw [n4]
    dsimp only at y ⊢
    omega

