/-! what acts mean: own acts by their terms -/
def pr2 (x y : Int) (c : Int) : Int := if c = 0 then x else y
def wOK (E : EV) (Rf : Int → TR) (W : Int → Int → Int → VW) : Prop := (∀ a x y, 0 ≤ a → a < 26 → a ≠ 15 → a ≠ 16 → W a x y = (plP a x y, 0)) ∧ (∀ a, 26 ≤ a → a < E.1.1 → ∀ x y f hl (p : Int → Int), p 0 = x → p 1 = y → W a x y = evT W f p hl (Rf a)) ∧ (∀ a x y, 26 ≤ a → a < E.1.1 → vlR (eK E a 0) x → (eO E a = 2 → vlR (eK E a 1) y) → okV (eK E a (eO E a)) (W a x y).1)
/-- acts that give values of their kinds -/
def wTy (E : EV) (W : Int → Int → Int → VW) : Prop := (∀ a x y, 0 ≤ a → a < 26 → a ≠ 15 → a ≠ 16 → W a x y = (plP a x y, 0)) ∧ (∀ a x y, 26 ≤ a → a < E.1.1 → vlR (eK E a 0) x → (eO E a = 2 → vlR (eK E a 1) y) → okV (eK E a (eO E a)) (W a x y).1)
theorem wOK_ty {E : EV} {Rf : Int → TR} {W : Int → Int → Int → VW} (w : wOK E Rf W) : wTy E W := ⟨w.1, w.2.2⟩
def fTy (E : EV) (f : Int → Int → Int → Int) : Prop := E.2.2.1 = 1 → ∀ x y z, vlR (eK E (-2) 0) x → (2 ≤ eO E (-2) → vlR (eK E (-2) 1) y) → (3 ≤ eO E (-2) → vlR (eK E (-2) 2) z) → okV (eK E (-2) (eO E (-2))) (f x y z)
theorem gv3 {W : Int → Int → Int → VW} {f : Int → Int → Int → Int} {p hl : Int → Int} (R : TR) (k : Nat) : (k : Int) < nk R ∨ gv (evK W f p hl R) k = (0, 0) := by
  by_cases q : (k : Int) < nk R
  · exact Or.inl q
  · exact Or.inr (gv_no R k (by omega))
theorem evN_ty {E : EV} {W : Int → Int → Int → VW} {f : Int → Int → Int → Int} {p hl kp : Int → Int} {np n : Int} {i : NI} {l : List VW} (ac : acE E) (w : wTy E W) (ft : fTy E f) (hp : ∀ c, 0 ≤ c → c < np → vlR (kp c) (p c)) (hh : ∀ c, 0 ≤ c → c ≤ 2 → 0 ≤ hl c ∧ hl c ≤ 15) (ty : tyI E np kp i n) (g : ∀ k : Nat, (k : Int) < n → okV (eK E (acI i) k) (gv l k).1) (z : ∀ k : Nat, n ≤ (k : Int) → gv l k = (0, 0)) : okV i.2.2.1 (evN W f p hl i l).1 := by
  obtain ⟨k0, k1, t⟩ := ty
  unfold evN
  rcases t with ⟨t1, t2, t3, t4, t5⟩ | ⟨t1, t2, t3⟩ | ⟨t1, t2, t3, t4, t5⟩ | ⟨t1, t2, t3, t4, t5⟩ | ⟨t1, t2, t3, t4⟩
  · rw [if_pos t1, t5]; exact Or.inr (hp _ t3 t4)
  · rw [if_neg (by omega), if_pos t1]; exact t3
  · rw [if_neg (by omega), if_neg (by omega), if_pos t1, t5]
    have := hh _ t3 t4
    exact Or.inr ⟨this.1, fun _ => this.2, fun y => by omega, fun y => by omega⟩
  · rw [if_neg (by omega), if_neg (by omega), if_neg (by omega)]
    have ea : acI i = i.2.1 := if_neg (by omega)
    rw [ea] at g
    have A := ac.2.2.1 i.2.1 t2 t3
    by_cases ch : i.2.1 = 15 ∨ i.2.1 = 16
    · rw [if_pos ⟨t1, ch⟩]
      have B := ac.2.2.2.1 i.2.1 t2 (by omega)
      have o3 : oB i.2.1 = 3 := by unfold oB; rw [if_neg (by omega), if_pos ch]
      have g1 := g 1 (by omega)
      have g2 := g 2 (by omega)
      have e1 : eK E i.2.1 1 = i.2.2.1 := by
        rw [t5, B.1, o3, B.2 1 (by omega) (by omega), B.2 3 (by omega) (by omega)]
        rcases ch with c | c <;> rw [c] <;> decide
      have e2 : eK E i.2.1 2 = i.2.2.1 := by
        rw [t5, B.1, o3, B.2 2 (by omega) (by omega), B.2 3 (by omega) (by omega)]
        rcases ch with c | c <;> rw [c] <;> decide
      have g1' : okV i.2.2.1 (gv l 1).1 := by rw [← e1]; exact g1
      have g2' : okV i.2.2.1 (gv l 2).1 := by rw [← e2]; exact g2
      unfold evC
      by_cases c1 : (gv l 0).1 = -1
      · rw [if_pos c1]; exact Or.inl rfl
      · rw [if_neg c1]
        by_cases c2 : (gv l 0).1 = 1
        · rw [if_pos c2]; exact g1'
        · rw [if_neg c2]; exact g2'
    · rw [if_neg (fun y => ch y.2)]
      unfold evS
      by_cases e : (gv l 0).1 = -1 ∨ (gv l 1).1 = -1 ∨ (gv l 2).1 = -1
      · rw [if_pos e]; exact Or.inl rfl
      · rw [if_neg e, if_neg (by omega)]
        show okV _ (W i.2.1 (gv l 0).1 (gv l 1).1).1
        have x0 : vlR (eK E i.2.1 0) (gv l 0).1 := (g 0 (by omega)).resolve_left (fun y => e (Or.inl y))
        have y0 : 2 ≤ n → vlR (eK E i.2.1 1) (gv l 1).1 := fun h2 => (g 1 (by omega)).resolve_left (fun y => e (Or.inr (Or.inl y)))
        rw [t5]
        by_cases b : i.2.1 < 26
        · have B := ac.2.2.2.1 i.2.1 t2 b
          rw [w.1 _ _ _ t2 b (fun y => ch (Or.inl y)) (fun y => ch (Or.inr y)), B.1]
          have o12 : 1 ≤ oB i.2.1 := by rw [← B.1]; exact A.1
          rw [B.2 _ (by omega) (Int.le_refl _)]
          refine plP_ty ⟨t2, b, fun y => ch (Or.inl y), fun y => ch (Or.inr y)⟩ ?_ (fun h2 => ?_) (fun h1 => ?_)
          · rw [← B.2 0 (by omega) (by omega)]; exact x0
          · rw [← B.2 1 (by omega) (by omega)]; exact y0 (by omega)
          · rw [z 1 (by omega)]
        · exact w.2 _ _ _ (by omega) t3 x0 (fun h2 => y0 (by omega))
  · rw [if_neg (by omega), if_neg (by omega), if_neg (by omega), if_neg (fun y => by omega)]
    have ea : acI i = -2 := if_pos t1
    rw [ea] at g
    unfold evS
    by_cases e : (gv l 0).1 = -1 ∨ (gv l 1).1 = -1 ∨ (gv l 2).1 = -1
    · rw [if_pos e]; exact Or.inl rfl
    · rw [if_neg e, if_pos t1, t4]
      have A := ac.2.2.2.2 t2
      exact ft t2 _ _ _ ((g 0 (by omega)).resolve_left (fun y => e (Or.inl y))) (fun h2 => (g 1 (by omega)).resolve_left (fun y => e (Or.inr (Or.inl y)))) (fun h2 => (g 2 (by omega)).resolve_left (fun y => e (Or.inr (Or.inr y))))
theorem evK_ty {E : EV} {W : Int → Int → Int → VW} {f : Int → Int → Int → Int} {p hl kp : Int → Int} {np : Int} (ac : acE E) (w : wTy E W) (ft : fTy E f) (hp : ∀ c, 0 ≤ c → c < np → vlR (kp c) (p c)) (hh : ∀ c, 0 ≤ c → c ≤ 2 → 0 ≤ hl c ∧ hl c ≤ 15) : ∀ (R : TR) (j : Int), tyT E np kp R j → ∀ k : Nat, (k : Int) < nk R → okV (eK E (acI (inf R)) (j + k)) (gv (evK W f p hl R) k).1
  | .leaf i, j, _, k, l => by have e : nk (.leaf i) = 0 := rfl; omega
  | .branch b s r, j, t, 0, _ => by
    have ih := evK_ty ac w ft hp hh s 0 t.1
    have nd := tyT_nd t.1
    have q : okV (inf s).2.2.1 (evT W f p hl s).1 := evN_ty ac w ft hp hh nd (fun k kl => by have := ih k (by omega); rw [Int.zero_add] at this; exact this) (fun k kl => gv_no s k (by omega))
    rw [show j + ((0 : Nat) : Int) = j from Int.add_zero j]
    show okV (eK E (acI (inf r)) j) (evT W f p hl s).1
    rw [← t.2.1]
    exact q
  | .branch b s r, j, t, k + 1, l => by
    have e : nk (.branch b s r) = nk r + 1 := rfl
    have ih := evK_ty ac w ft hp hh r (j + 1) t.2.2 k (by omega)
    rw [show j + ((k + 1 : Nat) : Int) = j + 1 + (k : Int) by omega]
    exact ih
theorem evT_ty {E : EV} {W : Int → Int → Int → VW} {f : Int → Int → Int → Int} {p hl kp : Int → Int} {np : Int} {R : TR} (ac : acE E) (w : wTy E W) (ft : fTy E f) (hp : ∀ c, 0 ≤ c → c < np → vlR (kp c) (p c)) (hh : ∀ c, 0 ≤ c → c ≤ 2 → 0 ≤ hl c ∧ hl c ≤ 15) (t : tyT E np kp R 0) : okV (inf R).2.2.1 (evT W f p hl R).1 := by
  have ih := evK_ty ac w ft hp hh R 0 t
  have nd := tyT_nd t
  exact evN_ty ac w ft hp hh nd (fun k kl => by have := ih k (by omega); rw [Int.zero_add] at this; exact this) (fun k kl => gv_no R k (by omega))

