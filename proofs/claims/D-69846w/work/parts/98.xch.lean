/-! x: terms read one behind the other -/
def rdT (B : Int → Int) (n A T : Int) (E : EV) (h : AH) : Prop := TX B n A h ∧ actX h E.1.1 E.1.2.1 E.1.2.2.1 E.1.2.2.2.1 E.1.2.2.2.2 ∧ Od h ∧ (capT h T 2200 ∧ h (T + 3) (-2) = 101 ∧ Tset T) ∧ ((h 444 (-2) = 101 ∧ h 444 (-1) = 3) ∧ h 446 (-2) = 101 ∧ h 446 (-1) = 3) ∧ (0 ≤ h 441 8 ∧ h 441 8 ≤ 6) ∧ FK h ≤ 1000000 ∧ (h 441 15 = 0 ∧ h 441 17 = T ∧ h 441 14 = 0) ∧ E.2.2.1 = 0
/-- what a reader must leave alone -/
def rdN (a s : Int) : Prop := actC a s ∨ s = -1 ∨ s = -2 ∨ a = 439 ∨ a = 440 ∨ (a = 441 ∧ (s = 0 ∨ s = 1 ∨ s = 14 ∨ s = 15 ∨ s = 17))
theorem rdT_k {B : Int → Int} {n A T : Int} {E : EV} {h h' : AH} (r : rdT B n A T E h) (g : ∀ a s, rdN a s → h' a s = h a s) (f8 : 0 ≤ h' 441 8 ∧ h' 441 8 ≤ 6) (fk : FK h' ≤ 1000000) : rdT B n A T E h' := by
  obtain ⟨r1, r2, r3, r4, r5, r6, r7, r8, r9⟩ := r
  have rA := r1.2.2.2.2
  have M1 : ∀ a, h' a (-1) = h a (-1) := fun a => g _ _ (Or.inr (Or.inl rfl))
  have M2 : ∀ a, h' a (-2) = h a (-2) := fun a => g _ _ (Or.inr (Or.inr (Or.inl rfl)))
  have R4 : ∀ s, s = 0 ∨ s = 1 ∨ s = 14 ∨ s = 15 ∨ s = 17 → h' 441 s = h 441 s := fun s q => g _ _ (Or.inr (Or.inr (Or.inr (Or.inr (Or.inr ⟨rfl, q⟩)))))
  refine ⟨TX_fr r1 (R4 _ (by omega)) (R4 _ (by omega)) (fun s => g _ _ (Or.inr (Or.inr (Or.inr (by omega))))), actX_fr r2 (fun a s q => g a s (Or.inl q)), Od_fr r3 (fun a i a0 a1 => g a i (Or.inl (Or.inr (Or.inl ⟨a0, a1⟩)))), ⟨capT_fr r4.1 (fun a a0 a1 => M1 _), by rw [M2]; exact r4.2.1, r4.2.2⟩, by rw [M2, M1, M2, M1]; exact r5, f8, fk, ?_, r9⟩
  rw [R4 _ (by omega), R4 _ (by omega), R4 _ (by omega)]
  exact r8
theorem rdT_f {B : Int → Int} {n A T : Int} {E : EV} {h h' : AH} (r : rdT B n A T E h) (g : ∀ a s, (rdN a s ∨ (a = 441 ∧ (s = 8 ∨ s = 9))) → h' a s = h a s) : rdT B n A T E h' := by
  have e8 := g 441 8 (Or.inr ⟨rfl, Or.inl rfl⟩)
  have e9 := g 441 9 (Or.inr ⟨rfl, Or.inr rfl⟩)
  exact rdT_k r (fun a s q => g a s (Or.inl q)) (by rw [e8]; exact r.2.2.2.2.2.1) (by rw [FK_fr e8 e9]; exact r.2.2.2.2.2.2.1)
/-- cells that a reader may change -/
theorem rdN_n {a s : Int} (q : rdN a s) : ¬ (258 ≤ a ∧ a < 264 ∧ 0 ≤ s) ∧ ¬ (269 ≤ a ∧ a < 439 ∧ 0 ≤ s) ∧ ¬ (441 < a ∧ a < 1078 ∧ 0 ≤ s) ∧ ¬ (a = 441 ∧ (2 ≤ s ∧ s ≤ 13 ∨ s = 16 ∨ 18 ≤ s)) := by
  unfold rdN actC at q
  omega
/-- a reader in the middle of a text -/
def cqX (B : Int → Int) (n A T : Int) (E : EV) (R : Int ⊕ Int) (h : AH) : Prop := rdT B n A T E h ∧ parX B n h E.2.1.1 E.2.1.2.1 E.2.1.2.2 ∧ Sx B n R h ∧ ∃ u, 0 ≤ u ∧ u ≤ n ∧ 0 ≤ h T 0 ∧ h T 0 + (n - u) ≤ 2100 ∧ ∀ q, R = .inr q → u ≤ q
theorem cqX_p {B : Int → Int} {n A T : Int} {E : EV} {R : Int ⊕ Int} {h : AH} (c : cqX B n A T E R h) (z : h 441 16 = 0) : ∃ u, (∀ q, R = .inr q → u ≤ q) ∧ u ≤ n ∧ preT B n A T false E u h := by
  obtain ⟨⟨r1, r2, r3, r4, r5, r6, r7, r8, r9⟩, p, s, u, u0, u1, u2, u3, u4⟩ := c
  exact ⟨u, u4, u1, ⟨r1, ⟨r2, p, by rw [r9]; exact r8.1, Or.inl r9, fun y => by omega⟩, r3, r8.2.1, r4.2.2, r4.1, r8.2.2, r4.2.1⟩, ⟨u2, u3, u0⟩, r6, r7, by omega, by omega, fun y => by omega⟩
/-- what was read at x: nothing, or a term at node v -/
def tdG (B : Int → Int) (n T : Int) (E : EV) (w : Int) (R : Int ⊕ Int) (h : AH) (v : Int) (h' : AH) (P : PR) : Prop := match P with
  | .inl _ => True
  | .inr (t, q) => (v = h T 0 ∧ 0 ≤ v ∧ h' T 0 = v + sz t ∧ v + sz t ≤ 2100) ∧ rXc h' T (rsE E t 0) v 0 (v + 1) ∧ FK h' = min (FK h) (keyE E w t) ∧ (h' (T + 3) v = kdE E t ∧ h' 441 16 = 0) ∧ (∃ q0, R = .inr q0 ∧ pT B n false 13 q0 = .inr (t, q) ∧ NB B n q0 h)
def tdX (B : Int → Int) (n A T : Int) (E : EV) (w : Int) (R : Int ⊕ Int) (h : AH) (v : Int) (h' : AH) : Prop := cqX B n A T E (sR (bdT R (pT B n false 13))) h' ∧ (0 ≤ v ∧ v < 2200 ∧ h T 0 ≤ h' T 0) ∧ tdG B n T E w R h v h' (bdT R (pT B n false 13))
theorem vX13_toldC (a1 : Int) {h : AH} {B : Int → Int} {n A T : Int} {E : EV} {R : Int ⊕ Int} (hB : ∀ i, 0 ≤ i → i < n → 0 ≤ B i ∧ B i < 256) (c : cqX B n A T E R h) (hz : h 441 16 = 0) : OK (gX13_told a1 h) (fun r => jt2 r fun v h' => frT T (h T 0) h h' ∧ tdX B n A T E a1 R h v h') := by
  obtain ⟨u, u4, u1, pr⟩ := cqX_p c hz
  obtain ⟨⟨r1, r2, r3, r4, r5, r6, r7, r8, r9⟩, p, s, _⟩ := c
  have cb := r4.1.2.2.2.2.2
  refine OK_mono (vX13_told a1 hB s u4 u1 pr) (fun r pl => ?_)
  obtain ⟨v, h'⟩ := r
  have pl : posL B n T E u a1 h (bdT R (pT B n false 13)) v h' := pl
  obtain ⟨⟨c1, c2, c3, c4, c5, c6, c7, c8⟩, q⟩ := pl
  refine ⟨c1, ?_⟩
  show tdX B n A T E a1 R h v h'
  unfold tdX
  have P := pre_frT pr.2.1.1 pr.1 c1
  obtain ⟨P1, ⟨P2, P3, P4⟩, P5, P6, P7, P8, P9, P10⟩ := P
  have u2 := pr.2.1.1
  have u3 := pr.2.1.2.1
  have u0 := pr.2.1.2.2
  have M : ∀ a s, s < 0 → h' a s = h a s := fun a s z => c1 a s (by omega) (by omega) (by omega) (by omega) (by omega)
  have RD : rdT B n A T E h' := ⟨P1, P2, P5, ⟨P8, P10, r4.2.2⟩, by rw [M _ _ (by decide), M _ _ (by decide), M _ _ (by decide), M _ _ (by decide)]; exact r5, ⟨c5, c6⟩, c7, ⟨by rw [c1 441 15 (by omega) (by omega) (by omega) (by omega) (by omega)]; exact r8.1, P6, by rw [c1 441 14 (by omega) (by omega) (by omega) (by omega) (by omega)]; exact r8.2.2⟩, r9⟩
  cases e : bdT R (pT B n false 13) with
  | inl z =>
    rw [e] at q
    exact ⟨⟨RD, P3, q.1, n, by omega, Int.le_refl _, by omega, by have := q.2.1; omega, fun q' e' => by cases e'⟩, ⟨c2, c3, c4⟩, trivial⟩
  | inr x =>
    obtain ⟨t, q1⟩ := x
    rw [e] at q
    obtain ⟨q1', q2, q3, q4, q5, q6, q7, q8, q9⟩ := q
    obtain ⟨q0, e1, e2⟩ := bdT_inr e
    have h0 := pT_h0 13 q0 t q1 e2
    rw [hz] at q6 q7 q8
    have qn := (Sx_inr q1').1.2.2.2
    have fk : FK h' = min (FK h) (keyE E a1 t) := q7
    have st := sz_pos t
    refine ⟨⟨RD, P3, q1', q1, by omega, qn, by omega, by omega, fun q' e' => by cases e'; exact Int.le_refl _⟩, ⟨c2, c3, c4⟩, ⟨q3, c2, by omega, by omega⟩, q6, fk, ⟨by rw [(rXc_inf q6).2.2.1]; exact inf_rs E t _, by omega⟩, q0, e1, e2, ?_⟩
    rw [e1] at s
    exact (Sx_inr s).1
theorem frT_q {T N : Int} {h h' : AH} (hT : Tset T) (hN : 0 ≤ N) (f : frT T N h h') {a s : Int} (y : ¬ (a = 441 ∧ ((2 ≤ s ∧ s ≤ 9) ∨ s = 16 ∨ s = 18)) ∧ ¬ (a = 445 ∧ 0 ≤ s) ∧ ¬ (T ≤ a ∧ a ≤ T + 5 ∧ 0 ≤ s)) : h' a s = h a s := by
  unfold Tset at hT
  exact f a s y.1 (by omega) (by omega) (by omega) (by omega)
/-- a chain goes on over a change elsewhere -/
theorem cqX_f {B : Int → Int} {n A T : Int} {E : EV} {R : Int ⊕ Int} {h h' : AH} (c : cqX B n A T E R h) (g : ∀ a s, (rdN a s ∨ (a = 441 ∧ 2 ≤ s ∧ s ≤ 17) ∨ a = 442 ∨ a = 443 ∨ a = 444 ∨ a = T) → h' a s = h a s) : cqX B n A T E R h' := by
  obtain ⟨c1, c2, c3, u, u0, u1, u2, u3, u4⟩ := c
  refine ⟨rdT_f c1 (fun a s y => g a s (y.elim Or.inl (fun z => Or.inr (Or.inl (by omega))))), ?_, Sx_fr c3 (fun s s0 s1 => g _ _ (Or.inr (Or.inl (by omega)))), u, u0, u1, by rw [g T 0 (by omega)]; exact u2, by rw [g T 0 (by omega)]; exact u3, u4⟩
  obtain ⟨p1, p2, p3, p4⟩ := c2
  refine ⟨by rw [g 441 13 (by omega)]; exact p1, p2, p3, fun k k0 k1 => ?_⟩
  rw [g 444 k (by omega), g 442 k (by omega), g 443 k (by omega)]
  exact p4 k k0 k1
/-- a chain after another token -/
theorem cqX_s {B : Int → Int} {n A T : Int} {E : EV} {R R' : Int ⊕ Int} {h h' : AH} (c : cqX B n A T E R h) (g : ∀ a s, (rdN a s ∨ (a = 441 ∧ 8 ≤ s ∧ s ≤ 17) ∨ a = 442 ∨ a = 443 ∨ a = 444 ∨ a = T) → h' a s = h a s) (s : Sx B n R' h') (le : ∀ q', R' = .inr q' → ∃ q, R = .inr q ∧ q ≤ q') : cqX B n A T E R' h' := by
  obtain ⟨c1, c2, c3, u, u0, u1, u2, u3, u4⟩ := c
  refine ⟨rdT_f c1 (fun a s y => g a s (y.elim Or.inl (fun z => Or.inr (Or.inl (by omega))))), ?_, s, u, u0, u1, by rw [g T 0 (by omega)]; exact u2, by rw [g T 0 (by omega)]; exact u3, fun q' e => by obtain ⟨q, e1, e2⟩ := le q' e; have := u4 q e1; omega⟩
  obtain ⟨p1, p2, p3, p4⟩ := c2
  refine ⟨by rw [g 441 13 (by omega)]; exact p1, p2, p3, fun k k0 k1 => ?_⟩
  rw [g 444 k (by omega), g 442 k (by omega), g 443 k (by omega)]
  exact p4 k k0 k1
/-- a chain behind a fault that was noted -/
theorem cqX_e {B : Int → Int} {n A T : Int} {E : EV} {R : Int ⊕ Int} {h h' : AH} (c : cqX B n A T E R h) (hT : Tset T) (g : ∀ a s, ¬ (a = 441 ∧ (s = 8 ∨ s = 9)) → h' a s = h a s) (f8 : 0 ≤ h' 441 8 ∧ h' 441 8 ≤ 6) (fk : FK h' ≤ 1000000) : cqX B n A T E R h' := by
  unfold Tset at hT
  obtain ⟨c1, c2, c3, u, u0, u1, u2, u3, u4⟩ := c
  refine ⟨rdT_k c1 (fun a s y => g a s (fun z => by have := (rdN_n y).2.2.2; omega)) f8 fk, ?_, Sx_fr c3 (fun s s0 s1 => g _ _ (by omega)), u, u0, u1, by rw [g T 0 (by omega)]; exact u2, by rw [g T 0 (by omega)]; exact u3, u4⟩
  obtain ⟨p1, p2, p3, p4⟩ := c2
  refine ⟨by rw [g 441 13 (by omega)]; exact p1, p2, p3, fun k k0 k1 => ?_⟩
  rw [g 444 k (by omega), g 442 k (by omega), g 443 k (by omega)]
  exact p4 k k0 k1

