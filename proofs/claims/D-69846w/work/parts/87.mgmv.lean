/-! all moves, by groups of places -/
noncomputable def cutF (e : CE) (u : Nat) (G : Int → Int) (a b : Int) : Int := if tgC e u a b = -1 then 0 else G (tgC e u a b)
theorem sumN_k {f : Int → Int} {c : Int} : ∀ {n : Nat}, sumN (fun j => c * f j) n = c * sumN f n
  | 0 => (Int.mul_zero c).symm
  | n + 1 => by
    show sumN (fun j => c * f j) n + c * f n = c * (sumN f n + f n)
    rw [sumN_k (n := n), Int.mul_add]
theorem smL_cLs {e : CE} {u : Nat} {G : Int → Int} {a : Int} : ∀ {k : Nat}, smL G (cLs e u a k) = sumN (fun b => cif (isP e b) (cutF e u G a b) 0) k
  | 0 => rfl
  | k + 1 => by
    rw [cLs_s, smL_a, smL_cLs (k := k)]
    show _ + smL G (cL1 e u a k) = sumN (fun b => cif (isP e b) (cutF e u G a b) 0) k + cif (isP e k) (cutF e u G a k) 0
    unfold cL1 cutF
    by_cases p : isP e k
    · rw [cif_y p]
      by_cases y : tgC e u a k = -1
      · rw [if_pos y, cif_n (fun z => z.2 y)]; rfl
      · rw [if_neg y, cif_y ⟨p, y⟩]
        show _ + (G (tgC e u a k) + 0) = _
        rw [Int.add_zero]
    · rw [cif_n p, cif_n (fun z => p z.1)]; rfl
theorem smL_aLs {e : CE} {u : Nat} {G : Int → Int} : ∀ {k : Nat}, smL G (aLs e u k) = smL G (wL e u 3) + sumN (fun a => cif (isP e a) (sumN (fun b => cif (isP e b) (cutF e u G a b) 0) 178) 0) k
  | 0 => (Int.add_zero _).symm
  | k + 1 => by
    rw [aLs_s, smL_a, smL_aLs (k := k)]
    show _ + smL G (aL1 e u k) = smL G (wL e u 3) + (sumN (fun a => cif (isP e a) (sumN (fun b => cif (isP e b) (cutF e u G a b) 0) 178) 0) k + cif (isP e k) (sumN (fun b => cif (isP e b) (cutF e u G k b) 0) 178) 0)
    have z : smL G (aL1 e u k) = cif (isP e k) (sumN (fun b => cif (isP e b) (cutF e u G k b) 0) 178) 0 := by
      unfold aL1
      by_cases p : isP e k
      · rw [cif_y p, cif_y p, smL_cLs]
      · rw [cif_n p, cif_n p]; rfl
    rw [z, Int.add_assoc]
theorem smL_grp {e : CE} {u : Nat} {G o : Int → Int} (v : vCE e) (h : grQ e o 178) : smL G (mvL e u) = smL G (wL e u 3) + sumN (fun a => cif (isP e a ∧ o a = a) (sumN (fun b => cif (isP e b ∧ o b = b) (cntO e o a 178 * cntO e o b 178 * cutF e u G a b) 0) 178) 0) 178 := by
  have inner : ∀ a, sumN (fun b => cif (isP e b) (cutF e u G a b) 0) 178 = sumN (fun b => cif (isP e b ∧ o b = b) (cntO e o b 178 * cutF e u G a b) 0) 178 := fun a => grp_sum (fun s t _ _ w => by
    unfold cutF
    rw [tgC_se v (fun _ _ _ => rfl) w]) h
  have outer := grp_sum (e := e) (o := o) (g := fun a => sumN (fun b => cif (isP e b) (cutF e u G a b) 0) 178) (fun s t _ _ w => sumN_c (fun b _ _ => by
    unfold cutF
    rw [tgC_se (b := b) v w (fun _ _ _ => rfl)])) h
  show smL G (aLs e u 178) = _
  rw [smL_aLs, outer]
  refine congrArg _ (sumN_c (fun a _ _ => ?_))
  by_cases y : isP e a ∧ o a = a
  · rw [cif_y y, cif_y y, inner a, ← sumN_k]
    refine sumN_c (fun b _ _ => ?_)
    by_cases z : isP e b ∧ o b = b
    · rw [cif_y z, cif_y z, Int.mul_assoc]
    · rw [cif_n z, cif_n z, Int.mul_zero]
  · rw [cif_n y, cif_n y]
/-- prices of groups -/
theorem prcO_le {e : CE} {o : Int → Int} {t : Int} : ∀ {n : Nat} {s : Nat}, s < n → isP e s → o s = t → prcO e o t n ≤ spR s
  | 0, s, l, _, _ => by omega
  | n + 1, s, l, p, q => by
    rw [prcO_s]
    by_cases y : s = n
    · subst y
      rw [cif_y ⟨p, q⟩]
      omega
    · have ih := prcO_le (e := e) (o := o) (t := t) (n := n) (s := s) (by omega) p q
      by_cases z : isP e n ∧ o n = t
      · rw [cif_y z]; omega
      · rw [cif_n z]; exact ih
theorem prcO_at {e : CE} {o : Int → Int} {t : Int} : ∀ {n : Nat}, prcO e o t n = 2 ∨ ∃ s : Nat, s < n ∧ isP e s ∧ o s = t ∧ prcO e o t n = spR s
  | 0 => Or.inl rfl
  | n + 1 => by
    rw [prcO_s]
    have ih := prcO_at (e := e) (o := o) (t := t) (n := n)
    by_cases z : isP e n ∧ o n = t
    · rw [cif_y z]
      by_cases y : spR n < prcO e o t n
      · exact Or.inr ⟨n, by omega, z.1, z.2, by omega⟩
      · rcases ih with ih | ⟨s, s1, s2, s3, s4⟩
        · left; omega
        · exact Or.inr ⟨s, by omega, s2, s3, by omega⟩
    · rw [cif_n z]
      rcases ih with ih | ⟨s, s1, s2, s3, s4⟩
      · exact Or.inl ih
      · exact Or.inr ⟨s, by omega, s2, s3, s4⟩
theorem prcO_m {e : CE} {o : Int → Int} {t n : Nat} (l : t < n) (p : isP e t) (q : o t = t) : ∃ s : Nat, s < n ∧ isP e s ∧ o s = t ∧ prcO e o t n = spR s := by
  rcases prcO_at (e := e) (o := o) (t := t) (n := n) with h | h
  · have a := prcO_le (e := e) (o := o) (t := t) l p q
    have b := spR_b (t : Int)
    exact ⟨t, l, p, q, by omega⟩
  · exact h

