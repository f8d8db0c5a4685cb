/-! terms of the search's table, pure -/
def hiT (A : AD) (T : TB) (a : Int) : NI := if T.2.2.2.1 a < A.1 then (0, T.2.2.2.1 a, T.2.1 a, 0) else if A.2.2.2.2.1 (T.2.2.2.1 a - A.1) = -1 then (1, A.2.2.2.2.2.2.1 (T.2.2.2.1 a - A.1), T.2.1 a, 0) else (2, A.2.2.2.2.1 (T.2.2.2.1 a - A.1), T.2.1 a, 0)
def spT (i : NI) (o : Int → Int) (g : Int → TR) : TR := if o 0 < 0 then .leaf i else if o 1 < 0 then .branch 0 (g (o 0)) (.leaf i) else if o 2 < 0 then .branch 0 (g (o 0)) (.branch 0 (g (o 1)) (.leaf i)) else .branch 0 (g (o 0)) (.branch 0 (g (o 1)) (.branch 0 (g (o 2)) (.leaf i)))
theorem sp_cs (i : NI) (o : Int → Int) (g : Int → TR) : (nkO o = 0 ∧ spT i o g = .leaf i) ∨ (nkO o = 1 ∧ spT i o g = .branch 0 (g (o 0)) (.leaf i)) ∨ (nkO o = 2 ∧ spT i o g = .branch 0 (g (o 0)) (.branch 0 (g (o 1)) (.leaf i))) ∨ (nkO o = 3 ∧ spT i o g = .branch 0 (g (o 0)) (.branch 0 (g (o 1)) (.branch 0 (g (o 2)) (.leaf i)))) := by
  unfold spT nkO
  by_cases a : o 0 < 0
  · rw [if_pos a, if_pos a]; exact Or.inl ⟨rfl, rfl⟩
  · by_cases b : o 1 < 0
    · rw [if_neg a, if_neg a, if_pos b, if_pos b]; exact Or.inr (Or.inl ⟨rfl, rfl⟩)
    · by_cases c : o 2 < 0
      · rw [if_neg a, if_neg a, if_neg b, if_neg b, if_pos c, if_pos c]; exact Or.inr (Or.inr (Or.inl ⟨rfl, rfl⟩))
      · rw [if_neg a, if_neg a, if_neg b, if_neg b, if_neg c, if_neg c]; exact Or.inr (Or.inr (Or.inr ⟨rfl, rfl⟩))
theorem sp_cg {i : NI} {o : Int → Int} {g g' : Int → TR} (h : ∀ m, 0 ≤ m → m < nkO o → g (o m) = g' (o m)) : spT i o g = spT i o g' := by
  rcases sp_cs i o g with ⟨n, e⟩ | ⟨n, e⟩ | ⟨n, e⟩ | ⟨n, e⟩ <;> rcases sp_cs i o g' with ⟨n', e'⟩ | ⟨n', e'⟩ | ⟨n', e'⟩ | ⟨n', e'⟩ <;> first | omega | rw [e, e']
  · rw [h 0 (by omega) (by omega)]
  · rw [h 0 (by omega) (by omega), h 1 (by omega) (by omega)]
  · rw [h 0 (by omega) (by omega), h 1 (by omega) (by omega), h 2 (by omega) (by omega)]
theorem sp_inf (i : NI) (o : Int → Int) (g : Int → TR) : inf (spT i o g) = i := by
  rcases sp_cs i o g with ⟨n, e⟩ | ⟨n, e⟩ | ⟨n, e⟩ | ⟨n, e⟩ <;> rw [e] <;> rfl
theorem sp_nk (i : NI) (o : Int → Int) (g : Int → TR) : nk (spT i o g) = nkO o := by
  rcases sp_cs i o g with ⟨n, e⟩ | ⟨n, e⟩ | ⟨n, e⟩ | ⟨n, e⟩ <;> rw [e, n] <;> rfl
theorem sp_kd (i : NI) (o : Int → Int) (g : Int → TR) (m : Nat) (l : (m : Int) < nkO o) : kdA (spT i o g) m = g (o m) := by
  rcases sp_cs i o g with ⟨n, e⟩ | ⟨n, e⟩ | ⟨n, e⟩ | ⟨n, e⟩ <;> rw [e]
  · omega
  · rw [show m = 0 by omega]; rfl
  · rcases (show m = 0 ∨ m = 1 by omega) with y | y <;> rw [y] <;> rfl
  · rcases (show m = 0 ∨ m = 1 ∨ m = 2 by omega) with y | y | y <;> rw [y] <;> rfl
def tmT (A : AD) (T : TB) : Nat → Int → TR
  | 0, a => .leaf (hiT A T a)
  | k + 1, a => spT (hiT A T a) (T.2.2.2.2.1 a) (tmT A T k)
def tm (A : AD) (T : TB) (a : Int) : TR := tmT A T 12 a
/-- what a table's entry is made of -/
def hdT (E : EV) (A : AD) (T : TB) (a : Int) : Prop := (0 ≤ T.2.2.2.1 a ∧ T.2.2.2.1 a < A.1 ∧ T.2.1 a = A.2.1 (T.2.2.2.1 a) ∧ nkO (T.2.2.2.2.1 a) = 0) ∨ (∃ j, 0 ≤ j ∧ j < A.2.2.2.1 ∧ T.2.2.2.1 a = A.1 + j ∧ A.2.2.2.2.1 j = -1 ∧ T.2.1 a = A.2.2.2.2.2.1 j ∧ nkO (T.2.2.2.2.1 a) = 0) ∨ (∃ j, 0 ≤ j ∧ j < A.2.2.2.1 ∧ T.2.2.2.1 a = A.1 + j ∧ A.2.2.2.2.1 j ≠ -1 ∧ T.2.1 a = eK E (A.2.2.2.2.1 j) (eO E (A.2.2.2.2.1 j)) ∧ nkO (T.2.2.2.2.1 a) = eO E (A.2.2.2.2.1 j) ∧ ∀ m, 0 ≤ m → m < nkO (T.2.2.2.2.1 a) → T.2.1 (T.2.2.2.2.1 a m) = eK E (A.2.2.2.2.1 j) m)
def smO (T : TB) (o : Int → Int) : Int := (if o 0 < 0 then 0 else T.2.2.1 (o 0)) + (if o 1 < 0 then 0 else T.2.2.1 (o 1)) + (if o 2 < 0 then 0 else T.2.2.1 (o 2))
def gkT (E : EV) (A : AD) (T : TB) : Prop := ∀ a, 0 ≤ a → a < T.1 → (1 ≤ T.2.2.1 a ∧ T.2.2.1 a ≤ 12) ∧ okO (T.2.2.2.2.1 a) ∧ (∀ m, 0 ≤ m → m < nkO (T.2.2.2.2.1 a) → 0 ≤ T.2.2.2.2.1 a m ∧ T.2.2.2.2.1 a m < T.1 ∧ T.2.2.1 (T.2.2.2.2.1 a m) < T.2.2.1 a) ∧ 1 + smO T (T.2.2.2.2.1 a) ≤ T.2.2.1 a ∧ hdT E A T a
theorem gk_GT {E : EV} {W : Int → Int → Int → VW} {pts : Int} {A : AD} {q : Int} {T : TB} (v : VA E A pts) (g : GT E W pts A q T) (q12 : q ≤ 12) (n : T.1 ≤ 120) : gkT E A T := by
  intro a a0 a1
  obtain ⟨w1, w2, l⟩ := g.2.1 a a0 a1
  have wp : ∀ b, 0 ≤ b → b < T.1 → 1 ≤ T.2.2.1 b := fun b b0 b1 => (g.2.1 b b0 b1).1
  refine ⟨⟨w1, by omega⟩, ?_⟩
  rcases l with l | l | l
  · obtain ⟨h1, h2, h3, h4, h5, h6⟩ := l
    rw [h5]
    refine ⟨op3_m.2, fun m m0 m1 => by rw [op3_m.1] at m1; omega, ?_, Or.inl ⟨h1, h2, h3, by rw [h5]; exact op3_m.1⟩⟩
    unfold smO
    rw [op3_0, op3_1, op3_2, if_pos (by decide)]
    omega
  · obtain ⟨j, h1, h2, h3, h4, h5, h6, h7, h8⟩ := l
    rw [h7]
    refine ⟨op3_m.2, fun m m0 m1 => by rw [op3_m.1] at m1; omega, ?_, Or.inr (Or.inl ⟨j, h1, h2, h3, h4, h5, by rw [h7]; exact op3_m.1⟩)⟩
    unfold smO
    rw [op3_0, op3_1, op3_2, if_pos (by decide)]
    omega
  · obtain ⟨j, x, y, z, h1, h2, h3, h4, h5, h6, h7, h8, h9⟩ := l
    have pr := (v.2.2 j h1 h2).1.1
    obtain ⟨n1, n2⟩ := op3_n h7
    have hx := h7.1
    have px := wp x hx.1 (by omega)
    have w0 : ∀ u, u < a → 0 ≤ wO T u := fun u ul => by
      unfold wO
      by_cases q : 0 ≤ u
      · rw [if_pos q]; have := wp u q (by omega); omega
      · rw [if_neg q]; omega
    have b := arT_b h7
    have wy := w0 y b.2.1.2
    have wz := w0 z b.2.2.2
    have kid : ∀ m, 0 ≤ m → m < nkO (op3 x y z) → (0 ≤ op3 x y z m ∧ op3 x y z m < a ∧ T.2.1 (op3 x y z m) = eK E (A.2.2.2.2.1 j) m ∧ T.2.2.1 (op3 x y z m) < T.2.2.1 a) := fun m m0 m1 => by
      rw [n1] at m1
      rcases (show m = 0 ∨ m = 1 ∨ m = 2 by have := h7.2; omega) with e | e | e
      · rw [e, op3_0]; exact ⟨hx.1, hx.2.1, hx.2.2, by omega⟩
      · rw [e, op3_1]
        have hy : 0 ≤ y ∧ y < a ∧ T.2.1 y = eK E (A.2.2.2.2.1 j) 1 := by
          rcases h7.2 with r | r | r
          · omega
          · exact r.2.1
          · exact r.2.1
        have e2 : wO T y = T.2.2.1 y := wO_0 hy.1
        exact ⟨hy.1, hy.2.1, hy.2.2, by omega⟩
      · rw [e, op3_2]
        have hz : 0 ≤ z ∧ z < a ∧ T.2.1 z = eK E (A.2.2.2.2.1 j) 2 := by
          rcases h7.2 with r | r | r
          · omega
          · omega
          · exact r.2.2
        have e2 : wO T z = T.2.2.1 z := wO_0 hz.1
        exact ⟨hz.1, hz.2.1, hz.2.2, by omega⟩
    rw [h6]
    refine ⟨n2 (by omega), fun m m0 m1 => ?_, ?_, Or.inr (Or.inr ⟨j, h1, h2, h3, h4, h5, by rw [h6]; exact n1, fun m m0 m1 => ?_⟩)⟩
    · have := kid m m0 m1; exact ⟨this.1, by omega, this.2.2.2⟩
    · unfold smO
      unfold wO at h8
      rw [op3_0, op3_1, op3_2, if_neg (by omega)]
      by_cases c1 : y < 0
      · rw [if_pos c1]
        rw [if_neg (by omega)] at h8
        by_cases c2 : z < 0
        · rw [if_pos c2]; rw [if_neg (by omega)] at h8; omega
        · rw [if_neg c2]; rw [if_pos (by omega)] at h8; omega
      · rw [if_neg c1]
        rw [if_pos (by omega)] at h8
        by_cases c2 : z < 0
        · rw [if_pos c2]; rw [if_neg (by omega)] at h8; omega
        · rw [if_neg c2]; rw [if_pos (by omega)] at h8; omega
    · rw [h6] at m1 ⊢
      exact (kid m m0 m1).2.2.1
section TERMS
variable {E : EV} {A : AD} {T : TB}
theorem tm_f (g : gkT E A T) : ∀ (k k' : Nat) (a : Int), 0 ≤ a → a < T.1 → T.2.2.1 a ≤ k → T.2.2.1 a ≤ k' → tmT A T k a = tmT A T k' a := by
  intro k
  induction k with
  | zero => intro k' a a0 a1 w; have := (g a a0 a1).1.1; omega
  | succ k ih =>
    intro k' a a0 a1 w w'
    have p := g a a0 a1
    cases k' with
    | zero => have := p.1.1; omega
    | succ k' =>
      show spT _ _ _ = spT _ _ _
      refine sp_cg (fun m m0 m1 => ?_)
      have q := p.2.2.1 m m0 m1
      exact ih k' _ q.1 q.2.1 (by omega) (by omega)
theorem tm_eq (g : gkT E A T) {a : Int} (a0 : 0 ≤ a) (a1 : a < T.1) : tm A T a = spT (hiT A T a) (T.2.2.2.2.1 a) (tm A T) := by
  show spT _ _ _ = spT _ _ _
  have p := g a a0 a1
  refine sp_cg (fun m m0 m1 => ?_)
  have q := p.2.2.1 m m0 m1
  exact tm_f g 11 12 _ q.1 q.2.1 (by omega) (by omega)
theorem tm_ind (g : gkT E A T) {P : Int → TR → Prop} (st : ∀ a, 0 ≤ a → a < T.1 → (∀ m, 0 ≤ m → m < nkO (T.2.2.2.2.1 a) → P (T.2.2.2.2.1 a m) (tm A T (T.2.2.2.2.1 a m))) → P a (spT (hiT A T a) (T.2.2.2.2.1 a) (tm A T))) : ∀ a, 0 ≤ a → a < T.1 → P a (tm A T a) := by
  have key : ∀ (n : Nat) (a : Int), 0 ≤ a → a < T.1 → T.2.2.1 a ≤ n → P a (tm A T a) := by
    intro n
    induction n with
    | zero => intro a a0 a1 w; have := (g a a0 a1).1.1; omega
    | succ n ih =>
      intro a a0 a1 w
      have p := g a a0 a1
      rw [tm_eq g a0 a1]
      refine st a a0 a1 (fun m m0 m1 => ?_)
      have q := p.2.2.1 m m0 m1
      exact ih _ q.1 q.2.1 (by omega)
  intro a a0 a1
  have := (g a a0 a1).1.2
  exact key 12 a a0 a1 (by omega)
theorem tm_sz (g : gkT E A T) : ∀ a, 0 ≤ a → a < T.1 → sz (tm A T a) ≤ T.2.2.1 a := by
  refine tm_ind g (P := fun a R => sz R ≤ T.2.2.1 a) (fun a a0 a1 k => ?_)
  have p := g a a0 a1
  have s := p.2.2.2.1
  unfold smO at s
  have o := p.2.1
  unfold okO at o
  rcases sp_cs (hiT A T a) (T.2.2.2.2.1 a) (tm A T) with ⟨n, e⟩ | ⟨n, e⟩ | ⟨n, e⟩ | ⟨n, e⟩ <;> rw [e]
  · show (1 : Int) ≤ _
    omega
  · have k0 := k 0 (by omega) (by omega)
    have q0 := (p.2.2.1 0 (by omega) (by omega)).1
    have z1 : T.2.2.2.2.1 a 1 < 0 := by
      by_cases y : T.2.2.2.2.1 a 1 < 0
      · exact y
      · exfalso
        unfold nkO at n
        rw [if_neg (by omega), if_neg y] at n
        split at n <;> omega
    rw [if_neg (by omega), if_pos z1, if_pos (by omega)] at s
    show sz _ + 1 ≤ _
    omega
  · have k0 := k 0 (by omega) (by omega)
    have k1 := k 1 (by omega) (by omega)
    have q0 := (p.2.2.1 0 (by omega) (by omega)).1
    have q1 := (p.2.2.1 1 (by omega) (by omega)).1
    have z1 : T.2.2.2.2.1 a 2 < 0 := by
      by_cases y : T.2.2.2.2.1 a 2 < 0
      · exact y
      · exfalso
        unfold nkO at n
        rw [if_neg (by omega), if_neg (by omega), if_neg y] at n
        omega
    rw [if_neg (by omega), if_neg (by omega), if_pos z1] at s
    show sz _ + (sz _ + 1) ≤ _
    omega
  · have k0 := k 0 (by omega) (by omega)
    have k1 := k 1 (by omega) (by omega)
    have k2 := k 2 (by omega) (by omega)
    have q0 := (p.2.2.1 0 (by omega) (by omega)).1
    have q1 := (p.2.2.1 1 (by omega) (by omega)).1
    have q2 := (p.2.2.1 2 (by omega) (by omega)).1
    rw [if_neg (by omega), if_neg (by omega), if_neg (by omega)] at s
    show sz _ + (sz _ + (sz _ + 1)) ≤ _
    omega
theorem dpT_sz : ∀ R : TR, dpT R < sz R
  | .leaf _ => by show (0 : Int) < 1; decide
  | .branch _ s r => by
    have a := dpT_sz s
    have b := dpT_sz r
    have c := sz_pos s
    have d := sz_pos r
    show max (dpT s + 1) (dpT r) < sz s + sz r
    omega
end TERMS
/-! x: a term of the table -/
def tqX (h : AH) (A : AD) (T : TB) : Prop := isX4 (h 200 16) ∧ h (h 200 16) 1 = A.1 ∧ (0 ≤ A.1 ∧ A.1 ≤ 3 ∧ 0 ≤ A.2.2.2.1 ∧ A.2.2.2.1 ≤ 12 ∧ T.1 ≤ 120) ∧ (∀ k, 0 ≤ k → k < A.2.2.2.1 → h (h 200 16 + 2) k = A.2.2.2.2.1 k ∧ h (h 200 16 + 4) k = A.2.2.2.2.2.2.1 k) ∧ ∀ a, 0 ≤ a → a < T.1 → h 308 a = T.2.1 a ∧ h 310 a = T.2.2.2.1 a ∧ ∀ i, 0 ≤ i → i < 3 → h 311 (3 * a + i) = T.2.2.2.2.1 a i
theorem tqX_fr {h h' : AH} {A : AD} {T : TB} (f : ∀ a s, ¬ (324 ≤ a ∧ a ≤ 329 ∧ 0 ≤ s) → h' a s = h a s) (q : tqX h A T) : tqX h' A T := by
  obtain ⟨q1, q2, q3, q4, q5⟩ := q
  have xx : h 200 16 = 271 ∨ h 200 16 = 289 := q1
  have e : h' 200 16 = h 200 16 := f _ _ (by omega)
  unfold tqX
  rw [e]
  refine ⟨q1, by rw [f _ _ (by omega)]; exact q2, q3, fun k k0 k1 => ?_, fun a a0 a1 => ?_⟩
  · rw [f _ _ (by omega), f _ _ (by omega)]; exact q4 k k0 k1
  · have c := q5 a a0 a1
    exact ⟨by rw [f _ _ (by omega)]; exact c.1, by rw [f _ _ (by omega)]; exact c.2.1, fun i i0 i1 => by rw [f _ _ (by omega)]; exact c.2.2 i i0 i1⟩
def CTY (A : AD) (T : TB) (F : Int → AH → Option (Int × AH)) (k : Int) : Prop := ∀ (d : Int) (h : AH), tqX h A T → capT h 324 2200 → (0 ≤ d ∧ d < T.1) → T.2.2.1 d ≤ k → (0 ≤ h 324 0 ∧ h 324 0 + sz (tm A T d) ≤ 2200) → OK (F d h) (fun r => jt2 r fun v h' => poC 324 (tm A T d) h v h')
theorem vX5_term_l122 {F : Int → AH → Option (Int × AH)} (i1 : Int) (i5 : Int) (a60 : Int) {h0 : AH} {E : EV} {A : AD} {T : TB} {k : Int} {hb : AH} (hF : CTY A T F k) (tq : tqX h0 A T) (c0 : capT h0 324 2200) (gk : gkT E A T) (a : 0 ≤ i1 ∧ i1 < T.1) (wk : T.2.2.1 i1 ≤ k + 1) (n : 0 ≤ i5 ∧ i5 + sz (tm A T i1) ≤ 2200) (z : a60 = 0) (b : ivC 324 i5 (tm A T i1) hb 0 h0) : OK (gX5_term_l122 F i1 i5 a60 h0) (fun h' => ivC 324 i5 (tm A T i1) hb 3 h') := by
  unfold gX5_term_l122
  refine OK_jit (I := (fun (s : Int × AH) => jt2 s fun a6 h => (0 ≤ a6 ∧ a6 ≤ 3) ∧ (ivC 324 i5 (tm A T i1) hb a6.toNat h) ∧ (∀ a s, ¬ (324 ≤ a ∧ a ≤ 329 ∧ 0 ≤ s) → h a s = h0 a s))) (m := (fun (s : Int × AH) => jt2 s fun a6 h => (3 - a6).toNat)) ?_ ?_
  · intro s hs
    obtain ⟨a6, h⟩ := s
    dsimp only [Sum.elim_inl, Sum.elim_inr, jt2, jt3, jt4, jt5, jt6, jt7, jt8] at hs
    obtain ⟨q0, q1, q2⟩ := hs
    unfold gX5_term_b122
    refine OK_jt2 ?_
    have C0 := capT_fr (h' := h) c0 (fun a a0 a1 => q2 _ _ (by omega))
    have TQ := tqX_fr q2 tq
    have n120 := tq.2.2.1.2.2.2.2
    have p := gk i1 a.1 a.2
    have te := tm_eq gk a.1 a.2
    have nkR : nk (tm A T i1) = nkO (T.2.2.2.2.1 i1) := by { rw [te]; exact sp_nk _ _ _ }
    have nr := nkO_r (T.2.2.2.2.1 i1)
    have ea : ((a6.toNat : Nat) : Int) = a6 := by omega
    have oc : a6 < 3 → h 311 (3 * i1 + a6) = T.2.2.2.2.1 i1 a6 := fun y => (TQ.2.2.2.2 i1 a.1 a.2).2.2 a6 q0.1 y
    have w1 : a6 < 3 → w32 (w32 (3 * i1) + a6) = 3 * i1 + a6 := fun y => by { rw [w32_id (x := 3 * i1) (by omega) (by omega), w32_id (by omega) (by omega)] }
    have hT := q1.1
    have k0 := kss_0 sz_0 (tm A T i1) a6.toNat
    refine OK_if (fun c1 => ?_) (fun c1 => ?_)
    · skip
      try simp (disch := omega) only [jst_eq, jst_ne, jst_ni, jI_i, jcmp_lt, jcmp_gt, w32_id, jcpy_out, Sum.elim_inl, Sum.elim_inr, jt2, jt3, jt4, jt5, jt6, jt7, jt8] at c1
      refine OK_ir ?_
      (rw [show a6.toNat = 3 by omega] at q1; exact q1) -- o1 e1
    · skip
      try simp (disch := omega) only [jst_eq, jst_ne, jst_ni, jI_i, jcmp_lt, jcmp_gt, w32_id, jcpy_out, Sum.elim_inl, Sum.elim_inr, jt2, jt3, jt4, jt5, jt6, jt7, jt8] at c1
      have w1 := w1 (by omega)
      have oc := oc (by omega)
      rw [w1, oc]
      refine OK_jg (by (first | assumption | omega | ((try dsimp only [jt2, jt3, jt4]); first | omega | (simp (disch := omega) only [jst_eq, jst_ne, jst_ni, jst_o, jI_i, jcpy_out, w32_id, jdiv_nn, jshr_k, jand_255] <;> first | done | omega | assumption)) | (intros; simp (disch := omega) only [jst_eq, jst_ne, jst_ni, jst_o, jI_i, jcpy_out, w32_id, jdiv_nn, *] <;> first | done | omega) | (intros; simp (disch := omega) only [jst_eq, jst_ne, jst_ni, jst_o, jI_i, jcpy_out, w32_id, jdiv_nn] at * <;> first | done | omega | assumption) | (intros; first | rfl | (exfalso; omega) | ((repeat' apply And.intro) <;> first | assumption | rfl | omega | trivial)))) ?_ -- o2
      refine OK_if (fun c2 => ?_) (fun c2 => ?_)
      · skip
        try simp (disch := omega) only [jst_eq, jst_ne, jst_ni, jI_i, jcmp_lt, jcmp_gt, w32_id, jcpy_out, Sum.elim_inl, Sum.elim_inr, jt2, jt3, jt4, jt5, jt6, jt7, jt8] at c2
        have lk : ¬ ((a6.toNat : Nat) : Int) < nk (tm A T i1) := fun y => by { rw [nkR, ea] at y; have := (p.2.2.1 a6 q0.1 y).1; omega }
        unfold gX5_term_j166_122
        refine OK_jlx (fun x23 ex23 => ?_)
        try simp (disch := omega) only [jst_eq, jst_ne, jst_ni, jI_i, jcmp_lt, jcmp_gt, w32_id, jcpy_out, Sum.elim_inl, Sum.elim_inr, jt2, jt3, jt4, jt5, jt6, jt7, jt8] at ex23
        have e20 : x23.toNat = a6.toNat + 1 := by omega
        refine OK_il ?_ ?_
        · try dsimp only [Sum.elim_inl, Sum.elim_inr, jt2, jt3, jt4, jt5, jt6, jt7, jt8]
          refine ⟨?_, ?_, ?_⟩
          · (first | assumption | omega | ((try dsimp only [jt2, jt3, jt4]); first | omega | (simp (disch := omega) only [jst_eq, jst_ne, jst_ni, jst_o, jI_i, jcpy_out, w32_id, jdiv_nn, jshr_k, jand_255] <;> first | done | omega | assumption)) | (intros; simp (disch := omega) only [jst_eq, jst_ne, jst_ni, jst_o, jI_i, jcpy_out, w32_id, jdiv_nn, *] <;> first | done | omega) | (intros; simp (disch := omega) only [jst_eq, jst_ne, jst_ni, jst_o, jI_i, jcpy_out, w32_id, jdiv_nn] at * <;> first | done | omega | assumption) | (intros; first | rfl | (exfalso; omega) | ((repeat' apply And.intro) <;> first | assumption | rfl | omega | trivial))) -- o3 e2i.1
          · (rw [e20]; exact ivC_no q1 lk) -- o4 e2i.2
          · (first | assumption | omega | ((try dsimp only [jt2, jt3, jt4]); first | omega | (simp (disch := omega) only [jst_eq, jst_ne, jst_ni, jst_o, jI_i, jcpy_out, w32_id, jdiv_nn, jshr_k, jand_255] <;> first | done | omega | assumption)) | (intros; simp (disch := omega) only [jst_eq, jst_ne, jst_ni, jst_o, jI_i, jcpy_out, w32_id, jdiv_nn, *] <;> first | done | omega) | (intros; simp (disch := omega) only [jst_eq, jst_ne, jst_ni, jst_o, jI_i, jcpy_out, w32_id, jdiv_nn] at * <;> first | done | omega | assumption) | (intros; first | rfl | (exfalso; omega) | ((repeat' apply And.intro) <;> first | assumption | rfl | omega | trivial))) -- o5 e2i.3
        · (first | assumption | omega | ((try dsimp only [jt2, jt3, jt4]); first | omega | (simp (disch := omega) only [jst_eq, jst_ne, jst_ni, jst_o, jI_i, jcpy_out, w32_id, jdiv_nn, jshr_k, jand_255] <;> first | done | omega | assumption)) | (intros; simp (disch := omega) only [jst_eq, jst_ne, jst_ni, jst_o, jI_i, jcpy_out, w32_id, jdiv_nn, *] <;> first | done | omega) | (intros; simp (disch := omega) only [jst_eq, jst_ne, jst_ni, jst_o, jI_i, jcpy_out, w32_id, jdiv_nn] at * <;> first | done | omega | assumption) | (intros; first | rfl | (exfalso; omega) | ((repeat' apply And.intro) <;> first | assumption | rfl | omega | trivial))) -- o6 e2m
      · skip
        try simp (disch := omega) only [jst_eq, jst_ne, jst_ni, jI_i, jcmp_lt, jcmp_gt, w32_id, jcpy_out, Sum.elim_inl, Sum.elim_inr, jt2, jt3, jt4, jt5, jt6, jt7, jt8] at c2
        have lk : ((a6.toNat : Nat) : Int) < nk (tm A T i1) := by { rw [nkR, ea]; have o := p.2.1; unfold okO at o; unfold nkO; rcases (show a6 = 0 ∨ a6 = 1 ∨ a6 = 2 by omega) with y | y | y; { rw [y] at c2 ⊢; rw [if_neg c2]; split <;> (try split) <;> omega }; { rw [y] at c2 ⊢; rw [if_neg (by omega), if_neg c2]; split <;> omega }; { rw [y] at c2 ⊢; rw [if_neg (by omega), if_neg (by omega), if_neg c2]; decide } }
        have lo : a6 < nkO (T.2.2.2.2.1 i1) := by { rw [nkR, ea] at lk; exact lk }
        have kd : kdA (tm A T i1) a6.toNat = tm A T (T.2.2.2.2.1 i1 a6) := by { have e := sp_kd (hiT A T i1) (T.2.2.2.2.1 i1) (tm A T) a6.toNat (by omega); rw [← te, ea] at e; exact e }
        have kq := p.2.2.1 a6 q0.1 lo
        have ks := kss_s (g := sz) lk
        have kl := kss_le sz_0 (tm A T i1) (k := a6.toNat + 1) 3 (by omega)
        have k3 := kss_sz (tm A T i1) 3 (by omega)
        rw [kd] at ks
        refine OK_jb2 (hF _ _ (by exact TQ) (by exact C0) (by exact ⟨kq.1, kq.2.1⟩) (by omega) (by omega)) (fun v19 h20 r1 => ?_)
        try dsimp only [Sum.elim_inl, Sum.elim_inr, jt2, jt3, jt4, jt5, jt6, jt7, jt8] at r1
        have po1 := r1
        clear r1
        try simp (disch := omega) only [jst_eq, jst_ne, jst_ni, jI_i, jcmp_lt, jcmp_gt, w32_id, jcpy_out, Sum.elim_inl, Sum.elim_inr, jt2, jt3, jt4, jt5, jt6, jt7, jt8] at po1
        have P2 := po1.2.2.2
        have v19e := po1.1
        have sp := sz_pos (tm A T (T.2.2.2.2.1 i1 a6))
        have C17 := capT_fr (h' := h20) C0 (fun a a0 a1 => P2 _ _ (by omega) (by omega) (by omega))
        refine OK_jb (vX3_join (M := 2200) _ _ _ _ (by (first | assumption | omega | ((try dsimp only [jt2, jt3, jt4]); first | omega | (simp (disch := omega) only [jst_eq, jst_ne, jst_ni, jst_o, jI_i, jcpy_out, w32_id, jdiv_nn, jshr_k, jand_255] <;> first | done | omega | assumption)) | (intros; simp (disch := omega) only [jst_eq, jst_ne, jst_ni, jst_o, jI_i, jcpy_out, w32_id, jdiv_nn, *] <;> first | done | omega) | (intros; simp (disch := omega) only [jst_eq, jst_ne, jst_ni, jst_o, jI_i, jcpy_out, w32_id, jdiv_nn] at * <;> first | done | omega | assumption) | (intros; first | rfl | (exfalso; omega) | ((repeat' apply And.intro) <;> first | assumption | rfl | omega | trivial)))) (by (first | assumption | omega | ((try dsimp only [jt2, jt3, jt4]); first | omega | (simp (disch := omega) only [jst_eq, jst_ne, jst_ni, jst_o, jI_i, jcpy_out, w32_id, jdiv_nn, jshr_k, jand_255] <;> first | done | omega | assumption)) | (intros; simp (disch := omega) only [jst_eq, jst_ne, jst_ni, jst_o, jI_i, jcpy_out, w32_id, jdiv_nn, *] <;> first | done | omega) | (intros; simp (disch := omega) only [jst_eq, jst_ne, jst_ni, jst_o, jI_i, jcpy_out, w32_id, jdiv_nn] at * <;> first | done | omega | assumption) | (intros; first | rfl | (exfalso; omega) | ((repeat' apply And.intro) <;> first | assumption | rfl | omega | trivial))))) (fun h22 r2 => ?_)
        try dsimp only [Sum.elim_inl, Sum.elim_inr, jt2, jt3, jt4, jt5, jt6, jt7, jt8] at r2
        obtain ⟨j2, fr2⟩ := r2
        try simp (disch := omega) only [jst_eq, jst_ne, jst_ni, jI_i, jcmp_lt, jcmp_gt, w32_id, jcpy_out, Sum.elim_inl, Sum.elim_inr, jt2, jt3, jt4, jt5, jt6, jt7, jt8] at j2
        try simp (disch := omega) only [jst_eq, jst_ne, jst_ni, jI_i, jcmp_lt, jcmp_gt, w32_id, jcpy_out, Sum.elim_inl, Sum.elim_inr, jt2, jt3, jt4, jt5, jt6, jt7, jt8] at fr2
        unfold gX5_term_j166_122
        refine OK_jlx (fun x23 ex23 => ?_)
        try simp (disch := omega) only [jst_eq, jst_ne, jst_ni, jI_i, jcmp_lt, jcmp_gt, w32_id, jcpy_out, Sum.elim_inl, Sum.elim_inr, jt2, jt3, jt4, jt5, jt6, jt7, jt8] at ex23
        have e20 : x23.toNat = a6.toNat + 1 := by omega
        refine OK_il ?_ ?_
        · try dsimp only [Sum.elim_inl, Sum.elim_inr, jt2, jt3, jt4, jt5, jt6, jt7, jt8]
          refine ⟨?_, ?_, ?_⟩
          · (first | assumption | omega | ((try dsimp only [jt2, jt3, jt4]); first | omega | (simp (disch := omega) only [jst_eq, jst_ne, jst_ni, jst_o, jI_i, jcpy_out, w32_id, jdiv_nn, jshr_k, jand_255] <;> first | done | omega | assumption)) | (intros; simp (disch := omega) only [jst_eq, jst_ne, jst_ni, jst_o, jI_i, jcpy_out, w32_id, jdiv_nn, *] <;> first | done | omega) | (intros; simp (disch := omega) only [jst_eq, jst_ne, jst_ni, jst_o, jI_i, jcpy_out, w32_id, jdiv_nn] at * <;> first | done | omega | assumption) | (intros; first | rfl | (exfalso; omega) | ((repeat' apply And.intro) <;> first | assumption | rfl | omega | trivial))) -- o14 e3i.1
          · (rw [e20]; exact ivC_st q1 lk (by omega) (by rw [kd]; exact po1) (by rw [ea]; exact j2 (by omega)) (fun a s y => fr2 a s (by omega))) -- o15 e3i.2
          · (intro a s y; rw [fr2 a s (by omega), P2 a s (by omega) (by omega) (by omega)]; exact q2 a s y) -- o16 e3i.3
        · (first | assumption | omega | ((try dsimp only [jt2, jt3, jt4]); first | omega | (simp (disch := omega) only [jst_eq, jst_ne, jst_ni, jst_o, jI_i, jcpy_out, w32_id, jdiv_nn, jshr_k, jand_255] <;> first | done | omega | assumption)) | (intros; simp (disch := omega) only [jst_eq, jst_ne, jst_ni, jst_o, jI_i, jcpy_out, w32_id, jdiv_nn, *] <;> first | done | omega) | (intros; simp (disch := omega) only [jst_eq, jst_ne, jst_ni, jst_o, jI_i, jcpy_out, w32_id, jdiv_nn] at * <;> first | done | omega | assumption) | (intros; first | rfl | (exfalso; omega) | ((repeat' apply And.intro) <;> first | assumption | rfl | omega | trivial))) -- o17 e3m
  · try dsimp only [Sum.elim_inl, Sum.elim_inr, jt2, jt3, jt4, jt5, jt6, jt7, jt8]
    refine ⟨?_, ?_, ?_⟩
    · (first | assumption | omega | ((try dsimp only [jt2, jt3, jt4]); first | omega | (simp (disch := omega) only [jst_eq, jst_ne, jst_ni, jst_o, jI_i, jcpy_out, w32_id, jdiv_nn, jshr_k, jand_255] <;> first | done | omega | assumption)) | (intros; simp (disch := omega) only [jst_eq, jst_ne, jst_ni, jst_o, jI_i, jcpy_out, w32_id, jdiv_nn, *] <;> first | done | omega) | (intros; simp (disch := omega) only [jst_eq, jst_ne, jst_ni, jst_o, jI_i, jcpy_out, w32_id, jdiv_nn] at * <;> first | done | omega | assumption) | (intros; first | rfl | (exfalso; omega) | ((repeat' apply And.intro) <;> first | assumption | rfl | omega | trivial))) -- o18 init.1
    · (rw [z]; exact b) -- o19 init.2
    · (first | assumption | omega | ((try dsimp only [jt2, jt3, jt4]); first | omega | (simp (disch := omega) only [jst_eq, jst_ne, jst_ni, jst_o, jI_i, jcpy_out, w32_id, jdiv_nn, jshr_k, jand_255] <;> first | done | omega | assumption)) | (intros; simp (disch := omega) only [jst_eq, jst_ne, jst_ni, jst_o, jI_i, jcpy_out, w32_id, jdiv_nn, *] <;> first | done | omega) | (intros; simp (disch := omega) only [jst_eq, jst_ne, jst_ni, jst_o, jI_i, jcpy_out, w32_id, jdiv_nn] at * <;> first | done | omega | assumption) | (intros; first | rfl | (exfalso; omega) | ((repeat' apply And.intro) <;> first | assumption | rfl | omega | trivial))) -- o20 init.3
theorem poC_lf {h h' : AH} {v : Int} {i : NI} (v1 : v = h 324 0 ∧ h' 324 0 = h 324 0 + 1) (c : h' 325 (h 324 0) = i.1 ∧ h' 326 (h 324 0) = i.2.1 ∧ h' 327 (h 324 0) = i.2.2.1) (p : ∀ k, 0 ≤ k → k < 3 → h' 329 (3 * h 324 0 + k) = -1) (f : ∀ a s, ¬ (a = 324 ∧ s = 0) → ¬ (325 ≤ a ∧ a ≤ 328 ∧ s = h 324 0) → ¬ (a = 329 ∧ 3 * h 324 0 ≤ s ∧ s < 3 * h 324 0 + 3) → h' a s = h a s) : poC 324 (.leaf i) h v h' := by
  refine ⟨v1.1, v1.2, ?_, fun a s y1 y2 y3 => ?_⟩
  · rw [v1.1]; exact ⟨c.1, c.2.1, c.2.2, fun k k0 _ k3 => p k k0 k3⟩
  · have e : sz (.leaf i) = 1 := rfl
    rw [e] at y2 y3
    exact f a s y1 (by omega) (by omega)
theorem vX5_term_ {F : Int → AH → Option (Int × AH)} (a1 : Int) {h : AH} {E : EV} {A : AD} {T : TB} {k : Int} (hF : CTY A T F k) (tq : tqX h A T) (c0 : capT h 324 2200) (gk : gkT E A T) (a : 0 ≤ a1 ∧ a1 < T.1) (wk : T.2.2.1 a1 ≤ k + 1) (n : 0 ≤ h 324 0 ∧ h 324 0 + sz (tm A T a1) ≤ 2200) : OK (gX5_term_ F a1 h) (fun r => jt2 r fun v h' => poC 324 (tm A T a1) h v h') := by
  have p := gk a1 a.1 a.2
  have te := tm_eq gk a.1 a.2
  have sp := sz_pos (tm A T a1)
  have c := tq.2.2.2.2 a1 a.1 a.2
  have A3 := tq.2.2.1
  have xx : h 200 16 = 271 ∨ h 200 16 = 289 := tq.1
  have A1 := tq.2.1
  have hd := p.2.2.2.2
  have nr := nkO_r (T.2.2.2.2.1 a1)
  have nkR : nk (tm A T a1) = nkO (T.2.2.2.2.1 a1) := by { rw [te]; exact sp_nk _ _ _ }
  have iR : inf (tm A T a1) = hiT A T a1 := by { rw [te]; exact sp_inf _ _ _ }
  have lf : nkO (T.2.2.2.2.1 a1) = 0 → tm A T a1 = .leaf (hiT A T a1) := fun y => by { rw [te]; rcases sp_cs (hiT A T a1) (T.2.2.2.2.1 a1) (tm A T) with ⟨n, e⟩ | ⟨n, e⟩ | ⟨n, e⟩ | ⟨n, e⟩; { exact e }; { omega }; { omega }; { omega } }
  unfold gX5_term_
  refine OK_jg (by (first | assumption | omega | ((try dsimp only [jt2, jt3, jt4]); first | omega | (simp (disch := omega) only [jst_eq, jst_ne, jst_ni, jst_o, jI_i, jcpy_out, w32_id, jdiv_nn, jshr_k, jand_255] <;> first | done | omega | assumption)) | (intros; simp (disch := omega) only [jst_eq, jst_ne, jst_ni, jst_o, jI_i, jcpy_out, w32_id, jdiv_nn, *] <;> first | done | omega) | (intros; simp (disch := omega) only [jst_eq, jst_ne, jst_ni, jst_o, jI_i, jcpy_out, w32_id, jdiv_nn] at * <;> first | done | omega | assumption) | (intros; first | rfl | (exfalso; omega) | ((repeat' apply And.intro) <;> first | assumption | rfl | omega | trivial)))) ?_ -- o1
  refine OK_jlx (fun x1 ex1 => ?_)
  try simp (disch := omega) only [jst_eq, jst_ne, jst_ni, jI_i, jcmp_lt, jcmp_gt, w32_id, jcpy_out, Sum.elim_inl, Sum.elim_inr, jt2, jt3, jt4, jt5, jt6, jt7, jt8] at ex1
  have x1e : x1 = T.2.2.2.1 a1 := by { rw [← c.2.1]; first | assumption | omega }
  refine OK_if (fun c1 => ?_) (fun c1 => ?_)
  · skip
    try simp (disch := omega) only [jst_eq, jst_ne, jst_ni, jI_i, jcmp_lt, jcmp_gt, w32_id, jcpy_out, Sum.elim_inl, Sum.elim_inr, jt2, jt3, jt4, jt5, jt6, jt7, jt8] at c1
    refine OK_jlx (fun x3 ex3 => ?_)
    try simp (disch := omega) only [jst_eq, jst_ne, jst_ni, jI_i, jcmp_lt, jcmp_gt, w32_id, jcpy_out, Sum.elim_inl, Sum.elim_inr, jt2, jt3, jt4, jt5, jt6, jt7, jt8] at ex3
    have hj : ∃ j, 0 ≤ j ∧ j < A.2.2.2.1 ∧ T.2.2.2.1 a1 = A.1 + j := by { rcases hd with u | ⟨j, u1, u2, u3, u4⟩ | ⟨j, u1, u2, u3, u4⟩; { omega }; { exact ⟨j, u1, u2, u3⟩ }; { exact ⟨j, u1, u2, u3⟩ } }
    obtain ⟨j, j0, j1, j2⟩ := hj
    have w3 : w32 (x1 - h (h 200 16) 1) = j := by { rw [x1e, A1, j2, w32_id (by omega) (by omega)]; omega }
    have x3e : x3 = j := by { rw [← w3]; first | assumption | omega }
    have pj := tq.2.2.2.1 j j0 j1
    have hj : T.2.2.2.1 a1 - A.1 = j := by omega
    subst x3e
    refine OK_jg (by (first | assumption | omega | ((try dsimp only [jt2, jt3, jt4]); first | omega | (simp (disch := omega) only [jst_eq, jst_ne, jst_ni, jst_o, jI_i, jcpy_out, w32_id, jdiv_nn, jshr_k, jand_255] <;> first | done | omega | assumption)) | (intros; simp (disch := omega) only [jst_eq, jst_ne, jst_ni, jst_o, jI_i, jcpy_out, w32_id, jdiv_nn, *] <;> first | done | omega) | (intros; simp (disch := omega) only [jst_eq, jst_ne, jst_ni, jst_o, jI_i, jcpy_out, w32_id, jdiv_nn] at * <;> first | done | omega | assumption) | (intros; first | rfl | (exfalso; omega) | ((repeat' apply And.intro) <;> first | assumption | rfl | omega | trivial)))) ?_ -- o2
    refine OK_if (fun c2 => ?_) (fun c2 => ?_)
    · skip
      try simp (disch := omega) only [jst_eq, jst_ne, jst_ni, jI_i, jcmp_lt, jcmp_gt, w32_id, jcpy_out, Sum.elim_inl, Sum.elim_inr, jt2, jt3, jt4, jt5, jt6, jt7, jt8] at c2
      have hi : hiT A T a1 = (1, A.2.2.2.2.2.2.1 x3, T.2.1 a1, 0) := by { unfold hiT; rw [if_neg (by omega), hj, if_pos (by omega)] }
      have n0 : nkO (T.2.2.2.2.1 a1) = 0 := by { rcases hd with u | ⟨j, u1, u2, u3, u4, u5, u6⟩ | ⟨j, u1, u2, u3, u4, u5⟩; { omega }; { exact u6 }; { have e : j = x3 := (by omega); rw [e] at u4; omega } }
      refine OK_jb2 (vX3_add (M := 2200) _ _ _ _ _ (by (first | assumption | omega | ((try dsimp only [jt2, jt3, jt4]); first | omega | (simp (disch := omega) only [jst_eq, jst_ne, jst_ni, jst_o, jI_i, jcpy_out, w32_id, jdiv_nn, jshr_k, jand_255] <;> first | done | omega | assumption)) | (intros; simp (disch := omega) only [jst_eq, jst_ne, jst_ni, jst_o, jI_i, jcpy_out, w32_id, jdiv_nn, *] <;> first | done | omega) | (intros; simp (disch := omega) only [jst_eq, jst_ne, jst_ni, jst_o, jI_i, jcpy_out, w32_id, jdiv_nn] at * <;> first | done | omega | assumption) | (intros; first | rfl | (exfalso; omega) | ((repeat' apply And.intro) <;> first | assumption | rfl | omega | trivial)))) (by (first | assumption | omega | ((try dsimp only [jt2, jt3, jt4]); first | omega | (simp (disch := omega) only [jst_eq, jst_ne, jst_ni, jst_o, jI_i, jcpy_out, w32_id, jdiv_nn, jshr_k, jand_255] <;> first | done | omega | assumption)) | (intros; simp (disch := omega) only [jst_eq, jst_ne, jst_ni, jst_o, jI_i, jcpy_out, w32_id, jdiv_nn, *] <;> first | done | omega) | (intros; simp (disch := omega) only [jst_eq, jst_ne, jst_ni, jst_o, jI_i, jcpy_out, w32_id, jdiv_nn] at * <;> first | done | omega | assumption) | (intros; first | rfl | (exfalso; omega) | ((repeat' apply And.intro) <;> first | assumption | rfl | omega | trivial))))) (fun v6 h7 r1 => ?_)
      try dsimp only [Sum.elim_inl, Sum.elim_inr, jt2, jt3, jt4, jt5, jt6, jt7, jt8] at r1
      obtain ⟨v1, at1, pt1, fr1⟩ := r1
      try simp (disch := omega) only [jst_eq, jst_ne, jst_ni, jI_i, jcmp_lt, jcmp_gt, w32_id, jcpy_out, Sum.elim_inl, Sum.elim_inr, jt2, jt3, jt4, jt5, jt6, jt7, jt8] at v1
      try simp (disch := omega) only [jst_eq, jst_ne, jst_ni, jI_i, jcmp_lt, jcmp_gt, w32_id, jcpy_out, Sum.elim_inl, Sum.elim_inr, jt2, jt3, jt4, jt5, jt6, jt7, jt8] at at1
      try simp (disch := omega) only [jst_eq, jst_ne, jst_ni, jI_i, jcmp_lt, jcmp_gt, w32_id, jcpy_out, Sum.elim_inl, Sum.elim_inr, jt2, jt3, jt4, jt5, jt6, jt7, jt8] at pt1
      try simp (disch := omega) only [jst_eq, jst_ne, jst_ni, jI_i, jcmp_lt, jcmp_gt, w32_id, jcpy_out, Sum.elim_inl, Sum.elim_inr, jt2, jt3, jt4, jt5, jt6, jt7, jt8] at fr1
      refine OK_some ?_
      try dsimp only [Sum.elim_inl, Sum.elim_inr, jt2, jt3, jt4, jt5, jt6, jt7, jt8]
      (rw [lf n0, hi]; refine poC_lf v1 ?_ pt1 (fun a s y1 y2 y3 => fr1 a s y1 y2 y3); refine ⟨at1.1, ?_, ?_⟩; { exact at1.2.1.trans pj.2 }; { exact at1.2.2.1.trans c.1 }) -- o5 e1
    · skip
      try simp (disch := omega) only [jst_eq, jst_ne, jst_ni, jI_i, jcmp_lt, jcmp_gt, w32_id, jcpy_out, Sum.elim_inl, Sum.elim_inr, jt2, jt3, jt4, jt5, jt6, jt7, jt8] at c2
      have hi : hiT A T a1 = (2, A.2.2.2.2.1 x3, T.2.1 a1, 0) := by { unfold hiT; rw [if_neg (by omega), hj, if_neg (by omega)] }
      refine OK_jb2 (vX3_add (M := 2200) _ _ _ _ _ (by (first | assumption | omega | ((try dsimp only [jt2, jt3, jt4]); first | omega | (simp (disch := omega) only [jst_eq, jst_ne, jst_ni, jst_o, jI_i, jcpy_out, w32_id, jdiv_nn, jshr_k, jand_255] <;> first | done | omega | assumption)) | (intros; simp (disch := omega) only [jst_eq, jst_ne, jst_ni, jst_o, jI_i, jcpy_out, w32_id, jdiv_nn, *] <;> first | done | omega) | (intros; simp (disch := omega) only [jst_eq, jst_ne, jst_ni, jst_o, jI_i, jcpy_out, w32_id, jdiv_nn] at * <;> first | done | omega | assumption) | (intros; first | rfl | (exfalso; omega) | ((repeat' apply And.intro) <;> first | assumption | rfl | omega | trivial)))) (by (first | assumption | omega | ((try dsimp only [jt2, jt3, jt4]); first | omega | (simp (disch := omega) only [jst_eq, jst_ne, jst_ni, jst_o, jI_i, jcpy_out, w32_id, jdiv_nn, jshr_k, jand_255] <;> first | done | omega | assumption)) | (intros; simp (disch := omega) only [jst_eq, jst_ne, jst_ni, jst_o, jI_i, jcpy_out, w32_id, jdiv_nn, *] <;> first | done | omega) | (intros; simp (disch := omega) only [jst_eq, jst_ne, jst_ni, jst_o, jI_i, jcpy_out, w32_id, jdiv_nn] at * <;> first | done | omega | assumption) | (intros; first | rfl | (exfalso; omega) | ((repeat' apply And.intro) <;> first | assumption | rfl | omega | trivial))))) (fun v9 h10 r2 => ?_)
      try dsimp only [Sum.elim_inl, Sum.elim_inr, jt2, jt3, jt4, jt5, jt6, jt7, jt8] at r2
      obtain ⟨v2, at2, pt2, fr2⟩ := r2
      try simp (disch := omega) only [jst_eq, jst_ne, jst_ni, jI_i, jcmp_lt, jcmp_gt, w32_id, jcpy_out, Sum.elim_inl, Sum.elim_inr, jt2, jt3, jt4, jt5, jt6, jt7, jt8] at v2
      try simp (disch := omega) only [jst_eq, jst_ne, jst_ni, jI_i, jcmp_lt, jcmp_gt, w32_id, jcpy_out, Sum.elim_inl, Sum.elim_inr, jt2, jt3, jt4, jt5, jt6, jt7, jt8] at at2
      try simp (disch := omega) only [jst_eq, jst_ne, jst_ni, jI_i, jcmp_lt, jcmp_gt, w32_id, jcpy_out, Sum.elim_inl, Sum.elim_inr, jt2, jt3, jt4, jt5, jt6, jt7, jt8] at pt2
      try simp (disch := omega) only [jst_eq, jst_ne, jst_ni, jI_i, jcmp_lt, jcmp_gt, w32_id, jcpy_out, Sum.elim_inl, Sum.elim_inr, jt2, jt3, jt4, jt5, jt6, jt7, jt8] at fr2
      have F3 : ∀ a s, ¬ (324 ≤ a ∧ a ≤ 329 ∧ 0 ≤ s) → h10 a s = h a s := fun a s y => fr2 a s (by omega) (by omega) (by omega)
      have v0 : v9 = h 324 0 := v2.1
      refine OK_jb (vX5_term_l122 (E := E) (A := A) (T := T) (k := k) (hb := h) _ _ _ (by (first | assumption | omega | ((try dsimp only [jt2, jt3, jt4]); first | omega | (simp (disch := omega) only [jst_eq, jst_ne, jst_ni, jst_o, jI_i, jcpy_out, w32_id, jdiv_nn, jshr_k, jand_255] <;> first | done | omega | assumption)) | (intros; simp (disch := omega) only [jst_eq, jst_ne, jst_ni, jst_o, jI_i, jcpy_out, w32_id, jdiv_nn, *] <;> first | done | omega) | (intros; simp (disch := omega) only [jst_eq, jst_ne, jst_ni, jst_o, jI_i, jcpy_out, w32_id, jdiv_nn] at * <;> first | done | omega | assumption) | (intros; first | rfl | (exfalso; omega) | ((repeat' apply And.intro) <;> first | assumption | rfl | omega | trivial)))) (by exact tqX_fr F3 tq) (by exact capT_fr c0 (fun a x0 x1 => F3 _ _ (by omega))) (by exact gk) (by (first | assumption | omega | ((try dsimp only [jt2, jt3, jt4]); first | omega | (simp (disch := omega) only [jst_eq, jst_ne, jst_ni, jst_o, jI_i, jcpy_out, w32_id, jdiv_nn, jshr_k, jand_255] <;> first | done | omega | assumption)) | (intros; simp (disch := omega) only [jst_eq, jst_ne, jst_ni, jst_o, jI_i, jcpy_out, w32_id, jdiv_nn, *] <;> first | done | omega) | (intros; simp (disch := omega) only [jst_eq, jst_ne, jst_ni, jst_o, jI_i, jcpy_out, w32_id, jdiv_nn] at * <;> first | done | omega | assumption) | (intros; first | rfl | (exfalso; omega) | ((repeat' apply And.intro) <;> first | assumption | rfl | omega | trivial)))) (by (first | assumption | omega | ((try dsimp only [jt2, jt3, jt4]); first | omega | (simp (disch := omega) only [jst_eq, jst_ne, jst_ni, jst_o, jI_i, jcpy_out, w32_id, jdiv_nn, jshr_k, jand_255] <;> first | done | omega | assumption)) | (intros; simp (disch := omega) only [jst_eq, jst_ne, jst_ni, jst_o, jI_i, jcpy_out, w32_id, jdiv_nn, *] <;> first | done | omega) | (intros; simp (disch := omega) only [jst_eq, jst_ne, jst_ni, jst_o, jI_i, jcpy_out, w32_id, jdiv_nn] at * <;> first | done | omega | assumption) | (intros; first | rfl | (exfalso; omega) | ((repeat' apply And.intro) <;> first | assumption | rfl | omega | trivial)))) (by omega) (by (first | assumption | omega | ((try dsimp only [jt2, jt3, jt4]); first | omega | (simp (disch := omega) only [jst_eq, jst_ne, jst_ni, jst_o, jI_i, jcpy_out, w32_id, jdiv_nn, jshr_k, jand_255] <;> first | done | omega | assumption)) | (intros; simp (disch := omega) only [jst_eq, jst_ne, jst_ni, jst_o, jI_i, jcpy_out, w32_id, jdiv_nn, *] <;> first | done | omega) | (intros; simp (disch := omega) only [jst_eq, jst_ne, jst_ni, jst_o, jI_i, jcpy_out, w32_id, jdiv_nn] at * <;> first | done | omega | assumption) | (intros; first | rfl | (exfalso; omega) | ((repeat' apply And.intro) <;> first | assumption | rfl | omega | trivial)))) (by (rw [v0]; exact ⟨by have := v2.2; show _ = _ + (0 : Int); omega, fun m m1 _ => absurd m1 (Nat.not_lt_zero m), fun m m0 _ m2 => pt2 m m0 m2, ⟨by rw [iR, hi]; exact at2.1, by rw [iR, hi, at2.2.1]; exact pj.1, by rw [iR, hi, at2.2.2.1]; exact c.1⟩, fun a s y1 y2 y3 => fr2 a s y1 (by intro z; apply y2; have e : kss sz (tm A T a1) 0 = 0 := rfl; omega) (by intro z; apply y3; have e : kss sz (tm A T a1) 0 = 0 := rfl; omega)⟩))) (fun o11 r3 => ?_)
      try dsimp only [Sum.elim_inl, Sum.elim_inr, jt2, jt3, jt4, jt5, jt6, jt7, jt8] at r3
      have iv3 := r3
      clear r3
      try simp (disch := omega) only [jst_eq, jst_ne, jst_ni, jI_i, jcmp_lt, jcmp_gt, w32_id, jcpy_out, Sum.elim_inl, Sum.elim_inr, jt2, jt3, jt4, jt5, jt6, jt7, jt8] at iv3
      refine OK_some ?_
      try dsimp only [Sum.elim_inl, Sum.elim_inr, jt2, jt3, jt4, jt5, jt6, jt7, jt8]
      (have E := ivC_end (by omega) iv3; rw [v0] at E ⊢; exact ⟨rfl, E.1, E.2.1, E.2.2⟩) -- o17 e2
  · skip
    try simp (disch := omega) only [jst_eq, jst_ne, jst_ni, jI_i, jcmp_lt, jcmp_gt, w32_id, jcpy_out, Sum.elim_inl, Sum.elim_inr, jt2, jt3, jt4, jt5, jt6, jt7, jt8] at c1
    refine OK_jb2 (vX3_add (M := 2200) _ _ _ _ _ (by (first | assumption | omega | ((try dsimp only [jt2, jt3, jt4]); first | omega | (simp (disch := omega) only [jst_eq, jst_ne, jst_ni, jst_o, jI_i, jcpy_out, w32_id, jdiv_nn, jshr_k, jand_255] <;> first | done | omega | assumption)) | (intros; simp (disch := omega) only [jst_eq, jst_ne, jst_ni, jst_o, jI_i, jcpy_out, w32_id, jdiv_nn, *] <;> first | done | omega) | (intros; simp (disch := omega) only [jst_eq, jst_ne, jst_ni, jst_o, jI_i, jcpy_out, w32_id, jdiv_nn] at * <;> first | done | omega | assumption) | (intros; first | rfl | (exfalso; omega) | ((repeat' apply And.intro) <;> first | assumption | rfl | omega | trivial)))) (by (first | assumption | omega | ((try dsimp only [jt2, jt3, jt4]); first | omega | (simp (disch := omega) only [jst_eq, jst_ne, jst_ni, jst_o, jI_i, jcpy_out, w32_id, jdiv_nn, jshr_k, jand_255] <;> first | done | omega | assumption)) | (intros; simp (disch := omega) only [jst_eq, jst_ne, jst_ni, jst_o, jI_i, jcpy_out, w32_id, jdiv_nn, *] <;> first | done | omega) | (intros; simp (disch := omega) only [jst_eq, jst_ne, jst_ni, jst_o, jI_i, jcpy_out, w32_id, jdiv_nn] at * <;> first | done | omega | assumption) | (intros; first | rfl | (exfalso; omega) | ((repeat' apply And.intro) <;> first | assumption | rfl | omega | trivial))))) (fun v14 h15 r4 => ?_)
    try dsimp only [Sum.elim_inl, Sum.elim_inr, jt2, jt3, jt4, jt5, jt6, jt7, jt8] at r4
    obtain ⟨v4, at4, pt4, fr4⟩ := r4
    try simp (disch := omega) only [jst_eq, jst_ne, jst_ni, jI_i, jcmp_lt, jcmp_gt, w32_id, jcpy_out, Sum.elim_inl, Sum.elim_inr, jt2, jt3, jt4, jt5, jt6, jt7, jt8] at v4
    try simp (disch := omega) only [jst_eq, jst_ne, jst_ni, jI_i, jcmp_lt, jcmp_gt, w32_id, jcpy_out, Sum.elim_inl, Sum.elim_inr, jt2, jt3, jt4, jt5, jt6, jt7, jt8] at at4
    try simp (disch := omega) only [jst_eq, jst_ne, jst_ni, jI_i, jcmp_lt, jcmp_gt, w32_id, jcpy_out, Sum.elim_inl, Sum.elim_inr, jt2, jt3, jt4, jt5, jt6, jt7, jt8] at pt4
    try simp (disch := omega) only [jst_eq, jst_ne, jst_ni, jI_i, jcmp_lt, jcmp_gt, w32_id, jcpy_out, Sum.elim_inl, Sum.elim_inr, jt2, jt3, jt4, jt5, jt6, jt7, jt8] at fr4
    have hi : hiT A T a1 = (0, T.2.2.2.1 a1, T.2.1 a1, 0) := by { unfold hiT; rw [if_pos (by omega)] }
    have n0 : nkO (T.2.2.2.2.1 a1) = 0 := by { rcases hd with u | ⟨j, u1, u2, u3, u4, u5, u6⟩ | ⟨j, u1, u2, u3, u4, u5⟩; { exact u.2.2.2 }; { omega }; { omega } }
    refine OK_some ?_
    try dsimp only [Sum.elim_inl, Sum.elim_inr, jt2, jt3, jt4, jt5, jt6, jt7, jt8]
    (rw [lf n0, hi]; refine poC_lf v4 ?_ pt4 (fun a s y1 y2 y3 => fr4 a s y1 y2 y3); refine ⟨at4.1, ?_, ?_⟩; { exact at4.2.1.trans x1e }; { exact at4.2.2.1.trans c.1 }) -- o20 e3
theorem CTY_D {E : EV} {A : AD} {T : TB} (gk : gkT E A T) : ∀ D : Nat, CTY A T (gX5_termD D) D
  | 0 => fun d h _ _ a w _ => by have := (gk d a.1 a.2).1.1; omega
  | D + 1 => fun d h tq c0 a w n => vX5_term_ d (CTY_D gk D) tq c0 gk a (by omega) n
theorem vX5_term (a1 : Int) {h : AH} {E : EV} {A : AD} {T : TB} (gk : gkT E A T) (tq : tqX h A T) (c0 : capT h 324 2200) (a : 0 ≤ a1 ∧ a1 < T.1) (n : 0 ≤ h 324 0 ∧ h 324 0 ≤ 2188) : OK (gX5_term a1 h) (fun r => jt2 r fun v h' => poC 324 (tm A T a1) h v h') := by
  have s := tm_sz gk a1 a.1 a.2
  have w := (gk a1 a.1 a.2).1.2
  exact CTY_D gk 40 a1 h tq c0 a (by omega) ⟨n.1, by omega⟩

