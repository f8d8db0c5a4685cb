/-! the search's table, pure: values of their kinds -/
theorem gvA_ty {E : EV} {W : Int → Int → Int → VW} {ac x y z : Int} (c : acE E) (w : wTy E W) (a : 0 ≤ ac ∧ ac < E.1.1) (hx : okV (eK E ac 0) x) (hy : 2 ≤ eO E ac → okV (eK E ac 1) y) (hz : 3 ≤ eO E ac → okV (eK E ac 2) z) (h0 : eO E ac = 1 → y = 0) : okV (eK E ac (eO E ac)) (gvA E W ac x y z).1 := by
  have A := c.2.2.1 ac a.1 a.2
  unfold gvA
  by_cases e : ac = 15 ∨ ac = 16
  · rw [if_pos e]
    have B := c.2.2.2.1 ac a.1 (by omega)
    have o3 : oB ac = 3 := by unfold oB; rw [if_neg (by omega), if_pos e]
    have eo : eO E ac = 3 := by omega
    have k3 := B.2 3 (by omega) (by omega)
    have k1 := B.2 1 (by omega) (by omega)
    have k2 := B.2 2 (by omega) (by omega)
    have e1 : eK E ac 1 = eK E ac 3 := by rw [k1, k3]; rcases e with e | e <;> rw [e] <;> decide
    have e2 : eK E ac 2 = eK E ac 3 := by rw [k2, k3]; rcases e with e | e <;> rw [e] <;> decide
    rw [eo]
    by_cases q : x = -1
    · rw [if_pos q]; exact Or.inl rfl
    · rw [if_neg q]
      by_cases q1 : x = 1
      · rw [if_pos q1]; have := hy (by omega); rw [e1] at this; exact this
      · rw [if_neg q1]; have := hz (by omega); rw [e2] at this; exact this
  · rw [if_neg e]
    by_cases q : x = -1 ∨ (2 ≤ eO E ac ∧ y = -1) ∨ (3 ≤ eO E ac ∧ z = -1)
    · rw [if_pos q]; exact Or.inl rfl
    · rw [if_neg q]
      have vx : vlR (eK E ac 0) x := hx.resolve_left (fun y => q (Or.inl y))
      have vy : eO E ac = 2 → vlR (eK E ac 1) y := fun r => (hy (by omega)).resolve_left (fun z => q (Or.inr (Or.inl ⟨by omega, z⟩)))
      by_cases l : ac < 26
      · have B := c.2.2.2.1 ac a.1 l
        rw [w.1 ac x y a.1 l (fun r => e (Or.inl r)) (fun r => e (Or.inr r)), B.1, B.2 _ (by omega) (Int.le_refl _)]
        refine plP_ty ⟨a.1, l, fun r => e (Or.inl r), fun r => e (Or.inr r)⟩ ?_ (fun r => ?_) (fun r => h0 (by omega))
        · rw [← B.2 0 (by decide) (by omega)]; exact vx
        · rw [← B.2 1 (by decide) (by omega)]; exact vy (by omega)
      · exact w.2 ac x y (by omega) a.2 vx vy
theorem tyV_GT {E : EV} {W : Int → Int → Int → VW} {pts : Int} {A : AD} {q : Int} {T : TB} (c : acE E) (w : wTy E W) (v : VA E A pts) (g : GT E W pts A q T) : tyV pts T := by
  have key : ∀ n : Nat, ∀ a p, 0 ≤ a → a < (n : Int) → a < T.1 → 0 ≤ p → p < pts → okV (T.2.1 a) (T.2.2.2.2.2 a p) := by
    intro n
    induction n with
    | zero => intro a p a0 a1; omega
    | succ n ih =>
      intro a p a0 a1 a2 p0 p1
      have l := (g.2.1 a a0 a2).2.2
      rcases l with l | l | l
      · obtain ⟨h1, h2, h3, h4, h5, h6⟩ := l
        rw [h3, h6 p p0 p1]
        exact Or.inr (v.2.1 p _ p0 p1 h1 h2)
      · obtain ⟨j, h1, h2, h3, h4, h5, h6, h7, h8⟩ := l
        rw [h5, h8 p p0 p1]
        rcases (v.2.2 j h1 h2).2 with r | r
        · exact Or.inr r.2.2
        · omega
      · obtain ⟨j, x, y, z, h1, h2, h3, h4, h5, h6, h7, h8, h9⟩ := l
        rw [h5, h9 p p0 p1]
        have an : 0 ≤ A.2.2.2.2.1 j ∧ A.2.2.2.2.1 j < E.1.1 := by
          rcases (v.2.2 j h1 h2).2 with r | r
          · exact absurd r.1 h4
          · exact r
        have cv : ∀ x k, (0 ≤ x ∧ x < a ∧ T.2.1 x = k) → okV k (vlO T.2.2.2.2.2 x p) := fun x k r => by
          unfold vlO
          rw [if_pos r.1, ← r.2.2]
          exact ih x p r.1 (by omega) (by omega) p0 p1
        refine gvA_ty c w an (cv _ _ h7.1) (fun r => ?_) (fun r => ?_) (fun r => ?_)
        · rcases h7.2 with s | s | s
          · omega
          · exact cv _ _ s.2.1
          · exact cv _ _ s.2.1
        · rcases h7.2 with s | s | s
          · omega
          · omega
          · exact cv _ _ s.2.2
        · rcases h7.2 with s | s | s
          · rw [s.2.1]; rfl
          · omega
          · omega
  intro a p a0 a1 p0 p1
  exact key (a + 1).toNat a p a0 (by omega) a1 p0 p1
theorem eoA_V {E : EV} {A : AD} {pts : Int} (c : acE E) (v : VA E A pts) : eoA E A := fun k k0 k1 n => by
  rcases (v.2.2 k k0 k1).2 with r | r
  · exact absurd r.1 n
  · have := c.2.2.1 _ r.1 r.2; exact ⟨this.1, this.2.1⟩
theorem ppA_V {E : EV} {A : AD} {pts : Int} (v : VA E A pts) : ppA A := fun k k0 k1 => (v.2.2 k k0 k1).1.1
/-- levels that are whole -/
def lvK (E : EV) (W : Int → Int → Int → VW) (pts : Int) (A : AD) (d : Nat) : Prop := ∀ m : Nat, m ≤ d → (LV E W pts A m).1 ≤ 120
theorem PG_LV {E : EV} {W : Int → Int → Int → VW} {pts : Int} {A : AD} {d : Nat} (c : acE E) (w : wTy E W) (v : VA E A pts) (a0 : 0 ≤ A.1) (np : 0 ≤ A.2.2.2.1) (l : lvK E W pts A d) (d1 : d < 12) : PG E W A pts (LV E W pts A d) (d + 1) := by
  have g := GT_LV (E := E) (W := W) (pts := pts) (A := A) (ppA_V v) a0 np (eoA_V c v) d (fun m lt => l m (by omega))
  exact ⟨v, by rw [show (d : Int) + 1 - 1 = d by omega]; exact g, l d (Nat.le_refl _), tyV_GT c w v g, by omega, by omega⟩
def RSd (E : EV) (W : Int → Int → Int → VW) (pts : Int) (A : AD) (d : Nat) (fl : Int) : Prop := lvK E W pts A d ∧ d ≤ 12 ∧ (fl = 0 ∨ (fl = 1 ∧ d < 12 ∧ 120 < (LV E W pts A (d + 1)).1))
/-- what a search up to a price comes to -/
def rch (d : Nat) (fl : Int) (p : Int) (d' : Nat) (fl' : Int) : Prop := d ≤ d' ∧ ((fl = 1 ∧ d' = d ∧ fl' = 1) ∨ (fl = 0 ∧ fl' = 0 ∧ ((d' : Int) = max (d : Int) p)) ∨ (fl = 0 ∧ fl' = 1 ∧ (d' : Int) < p))
theorem rch_det {E : EV} {W : Int → Int → Int → VW} {pts : Int} {A : AD} {d d1 d2 : Nat} {fl f1 f2 p : Int} (r1 : RSd E W pts A d1 f1) (r2 : RSd E W pts A d2 f2) (a : rch d fl p d1 f1) (b : rch d fl p d2 f2) : d1 = d2 ∧ f1 = f2 := by
  have no : ∀ x y : Nat, RSd E W pts A x 1 → lvK E W pts A y → ¬ x < y := fun x y r l lt => by
    rcases r.2.2 with z | z
    · omega
    · have := l (x + 1) (by omega); omega
  unfold rch at a b
  rcases a.2 with u | u | u <;> rcases b.2 with v | v | v
  · omega
  · omega
  · omega
  · omega
  · omega
  · have e := v.2.1; rw [e] at r2; have := no d2 d1 r2 r1.1; omega
  · omega
  · have e := u.2.1; rw [e] at r1; have := no d1 d2 r1 r2.1; omega
  · have e := u.2.1; rw [e] at r1; have e2 := v.2.1; rw [e2] at r2; have := no d1 d2 r1 r2.1; have := no d2 d1 r2 r1.1; omega

