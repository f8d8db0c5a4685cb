/-! the search's table, pure: whole levels -/
def dsT (pts : Int) (T : TB) : Prop := ∀ a b, 0 ≤ a → a < b → b < T.1 → ¬ (T.2.1 a = T.2.1 b ∧ eqV pts (T.2.2.2.2.2 a) (T.2.2.2.2.2 b))
def lgE (E : EV) (W : Int → Int → Int → VW) (pts : Int) (A : AD) (T : TB) (a : Int) : Prop := lgO E W pts A T a (T.2.2.1 a) (T.2.1 a) (T.2.2.2.1 a) (T.2.2.2.2.1 a) (T.2.2.2.2.2 a)
def soT (T : TB) : Prop := ∀ a b, 0 ≤ a → a < b → b < T.1 → T.2.2.1 a < T.2.2.1 b ∨ (T.2.2.1 a = T.2.2.1 b ∧ kyO (T.2.2.2.1 a) (T.2.2.2.2.1 a) < kyO (T.2.2.2.1 b) (T.2.2.2.2.1 b))
def GT (E : EV) (W : Int → Int → Int → VW) (pts : Int) (A : AD) (q : Int) (T : TB) : Prop := 0 ≤ T.1 ∧ (∀ a, 0 ≤ a → a < T.1 → 1 ≤ T.2.2.1 a ∧ T.2.2.1 a ≤ q ∧ lgE E W pts A T a) ∧ soT T ∧ dsT pts T ∧ ∀ w k d o u, w ≤ q → lgO E W pts A T T.1 w k d o u → hasT pts T k u
theorem rF_has {st : Int → TB → TB} {Q : TB → Prop} {j : Int} (j0 : 0 ≤ j) (hn : ∀ k T, 0 ≤ k → 0 ≤ T.1 → 0 ≤ (st k T).1) (h1 : ∀ T, 0 ≤ T.1 → Q (st j T)) (hp : ∀ k T, 0 ≤ k → Q T → Q (st k T)) {T : TB} (t0 : 0 ≤ T.1) : ∀ n : Nat, j < (n : Int) → Q (rF st n T)
  | 0, l => by omega
  | n + 1, l => by
    have z : ∀ m : Nat, 0 ≤ (rF st m T).1 := fun m => by
      induction m with
      | zero => exact t0
      | succ m ih => exact hn _ _ (by omega) ih
    show Q (st n (rF st n T))
    by_cases y : j = (n : Int)
    · rw [← y]; exact h1 _ (z n)
    · exact hp _ _ (by omega) (rF_has j0 hn h1 hp t0 n (by omega))
theorem hasT_v {pts : Int} {T : TB} {k : Int} {u v : Int → Int} (e : eqV pts u v) (h : hasT pts T k u) : hasT pts T k v := by
  obtain ⟨f, f0, f1, f2, f3⟩ := h
  exact ⟨f, f0, f1, f2, eqV_t f3 e⟩
section GOOD
variable {E : EV} {W : Int → Int → Int → VW} {pts : Int} {A : AD} {T0 : TB} {q : Int}
theorem ext_0 {T T' : TB} (e : extT T T') (h : 0 ≤ T.1) : 0 ≤ T'.1 := Int.le_trans h e.1
theorem acT_has {k ac x y z : Int} {T : TB} (t0 : 0 ≤ T.1) (ar : arT E T0 T0.1 ac x y z) : hasT pts (acT E W pts A T0 q k ac (T0.2.2.1 x + wO T0 y + wO T0 z) T) (eK E ac (eO E ac)) (mkV E W T0.2.2.2.2.2 ac x y z) := by
  have hx := ar.1
  have mk0 : ∀ T : TB, 0 ≤ T.1 → hasT pts (mkT E W pts A T0 q k ac x y z T) (eK E ac (eO E ac)) (mkV E W T0.2.2.2.2.2 ac x y z) := fun T n => hasT_s n
  unfold acT
  refine rF_has (j := x) (Q := fun T => hasT pts T (eK E ac (eO E ac)) (mkV E W T0.2.2.2.2.2 ac x y z)) hx.1 (fun _ _ _ n => ext_0 ext_sX n) (fun T n => ?_) (fun _ _ _ n => hasT_e ext_sX n) t0 _ (by omega)
  try dsimp only
  unfold sX
  rcases ar.2 with c | c | c
  · rw [if_pos c.1, c.2.1, c.2.2, wO_n]
    have := mk0 T n
    rw [c.2.1, c.2.2] at this
    rw [m1_y ⟨hx.2.2, by omega⟩]
    exact this
  · rw [if_neg (by omega), if_pos c.1, c.2.2, wO_n]
    unfold s2
    refine rF_has (j := y) (Q := fun T => hasT pts T (eK E ac (eO E ac)) (mkV E W T0.2.2.2.2.2 ac x y (-1))) c.2.1.1 (fun _ _ _ n => ext_0 ext_m2 n) (fun T n => ?_) (fun _ _ _ n => hasT_e ext_m2 n) n _ (by omega)
    have := mk0 T n
    rw [c.2.2] at this
    try dsimp only
    rw [m2_y ⟨hx.2.2, c.2.1.2.2, by rw [wO_0 c.2.1.1]; omega⟩]
    exact this
  · rw [if_neg (by omega), if_neg (by omega)]
    unfold s3
    refine rF_has (j := y) (Q := fun T => hasT pts T (eK E ac (eO E ac)) (mkV E W T0.2.2.2.2.2 ac x y z)) c.2.1.1 (fun _ _ _ n => ext_0 ext_s3y n) (fun T n => ?_) (fun _ _ _ n => hasT_e ext_s3y n) n _ (by omega)
    try dsimp only
    unfold s3y
    refine rF_has (j := z) (Q := fun T => hasT pts T (eK E ac (eO E ac)) (mkV E W T0.2.2.2.2.2 ac x y z)) c.2.2.1 (fun _ _ _ n => ext_0 ext_m3 n) (fun T n => ?_) (fun _ _ _ n => hasT_e ext_m3 n) n _ (by omega)
    try dsimp only
    rw [m3_y ⟨hx.2.2, c.2.1.2.2, c.2.2.2.2, by rw [wO_0 c.2.1.1, wO_0 c.2.2.1]⟩]
    exact mk0 T n
theorem lev_has {w k d : Int} {o u : Int → Int} (n0 : 0 ≤ T0.1) (l : lgO E W pts A T0 T0.1 q k d o u) : hasT pts (levT E W pts A T0 q) k u := by
  have e1 : 0 ≤ (l1 pts A T0 q).1 := ext_0 ext_l1 n0
  unfold levT
  rcases l with l | l | l
  · obtain ⟨h1, h2, h3, h4, h5, h6⟩ := l
    refine hasT_e (T := l1 pts A T0 q) (extT_F (n := A.2.2.2.1.toNat) (fun _ _ _ _ => ext_Q) _ (Nat.le_refl _)) ?_
    unfold l1
    rw [if_pos h4, h3]
    exact rF_has (st := stP pts A) (j := d) (Q := fun T => hasT pts T (A.2.1 d) u) h1 (fun _ _ _ n => ext_0 ext_P n) (fun T n => hasT_v (eqV_s h6) (hasT_s n)) (fun _ _ _ n => hasT_e ext_P n) n0 A.1.toNat (by rw [Int.toNat_of_nonneg (by omega)]; exact h2)
  · obtain ⟨j, h1, h2, h3, h4, h5, h6, h7, h8⟩ := l
    refine rF_has (j := j) (Q := fun T => hasT pts T k u) h1 (fun _ _ _ n => ext_0 ext_Q n) (fun T n => ?_) (fun _ _ _ n => hasT_e ext_Q n) e1 _ (by omega)
    unfold stQ
    rw [if_pos h4, if_pos h6.symm, h5]
    exact hasT_v (eqV_s h8) (hasT_s n)
  · obtain ⟨j, x, y, z, h1, h2, h3, h4, h5, h6, h7, h8, h9⟩ := l
    refine rF_has (j := j) (Q := fun T => hasT pts T k u) h1 (fun _ _ _ n => ext_0 ext_Q n) (fun T n => ?_) (fun _ _ _ n => hasT_e ext_Q n) e1 _ (by omega)
    unfold stQ
    rw [if_neg h4, h5, show q - A.2.2.2.2.2.2.2 j = T0.2.2.1 x + wO T0 y + wO T0 z by omega]
    exact hasT_v (eqV_s h9) (acT_has n h7)
/-- prices are at least 1 -/
def ppA (A : AD) : Prop := ∀ k, 0 ≤ k → k < A.2.2.2.1 → 1 ≤ A.2.2.2.2.2.2.2 k
/-- entries of a table whose first part is whole: those of less price stand there -/
theorem GT_lt {T : TB} {B : Int} (g : GT E W pts A q T0) (s : SB E W pts A T0 (q + 1) T B) {a : Int} (a0 : 0 ≤ a) (a1 : a < T.1) (l : T.2.2.1 a ≤ q) : a < T0.1 := by
  by_cases y : a < T0.1
  · exact y
  · have := (s.2.1 a (by omega) a1).1
    omega
theorem SB_wt {T : TB} {B : Int} (g : GT E W pts A q T0) (q0 : 0 ≤ q) (s : SB E W pts A T0 (q + 1) T B) {a : Int} (a0 : 0 ≤ a) (a1 : a < T.1) : 1 ≤ T.2.2.1 a ∧ T.2.2.1 a ≤ q + 1 := by
  by_cases y : a < T0.1
  · have e := (s.1.2 a a0 y).2.1
    have := g.2.1 a a0 y
    omega
  · have := (s.2.1 a (by omega) a1).1
    omega
theorem arT_less {T : TB} {B ac x y z : Int} (g : GT E W pts A q T0) (q0 : 0 ≤ q) (s : SB E W pts A T0 (q + 1) T B) (ar : arT E T T.1 ac x y z) (hl : T.2.2.1 x + wO T y + wO T z ≤ q) : arT E T0 T0.1 ac x y z ∧ T0.2.2.1 x + wO T0 y + wO T0 z = T.2.2.1 x + wO T y + wO T z := by
  have hx := ar.1
  have wx := SB_wt g q0 s hx.1 hx.2.1
  have cv : ∀ v k, T.2.2.1 v ≤ q → (0 ≤ v ∧ v < T.1 ∧ T.2.1 v = k) → (0 ≤ v ∧ v < T0.1 ∧ T0.2.1 v = k) ∧ T0.2.2.1 v = T.2.2.1 v := fun v k wl h => by
    have lt := GT_lt g s h.1 h.2.1 wl
    have e := s.1.2 v h.1 lt
    exact ⟨⟨h.1, lt, by rw [← e.1]; exact h.2.2⟩, e.2.1.symm⟩
  have w0 : ∀ v, v < T.1 → 0 ≤ wO T v := fun v vl => by
    unfold wO
    by_cases y : 0 ≤ v
    · rw [if_pos y]; have := SB_wt g q0 s y vl; omega
    · rw [if_neg y]; exact Int.le_refl _
  have b := arT_b ar
  have w0y := w0 y (by omega)
  have w0z := w0 z (by omega)
  obtain ⟨cx, ex⟩ := cv x _ (by omega) hx
  rcases ar.2 with c | c | c
  · rw [c.2.1, c.2.2, wO_n, wO_n]
    exact ⟨⟨cx, Or.inl ⟨c.1, rfl, rfl⟩⟩, by omega⟩
  · rw [c.2.2, wO_n, wO_n]
    have wy := wO_0 (T := T) c.2.1.1
    obtain ⟨cy, ey⟩ := cv y _ (by omega) c.2.1
    exact ⟨⟨cx, Or.inr (Or.inl ⟨c.1, cy, rfl⟩)⟩, by rw [wO_0 cy.1, wO_0 cy.1]; omega⟩
  · have wy := wO_0 (T := T) c.2.1.1
    have wz := wO_0 (T := T) c.2.2.1
    obtain ⟨cy, ey⟩ := cv y _ (by omega) c.2.1
    obtain ⟨cz, ez⟩ := cv z _ (by omega) c.2.2
    exact ⟨⟨cx, Or.inr (Or.inr ⟨c.1, cy, cz⟩)⟩, by rw [wO_0 cy.1, wO_0 cy.1, wO_0 cz.1, wO_0 cz.1]; omega⟩
theorem lgO_less {T : TB} {B w k d : Int} {o u : Int → Int} (pp : ppA A) (g : GT E W pts A q T0) (q0 : 0 ≤ q) (s : SB E W pts A T0 (q + 1) T B) (hw : w ≤ q + 1) (l : lgO E W pts A T T.1 w k d o u) : lgO E W pts A T0 T0.1 w k d o u := by
  rcases l with l | l | l
  · exact Or.inl l
  · exact Or.inr (Or.inl l)
  · obtain ⟨j, x, y, z, h1, h2, h3, h4, h5, h6, h7, h8, h9⟩ := l
    have p1 := pp j h1 h2
    obtain ⟨ar, e⟩ := arT_less g q0 s h7 (by omega)
    have b := arT_b ar
    refine Or.inr (Or.inr ⟨j, x, y, z, h1, h2, h3, h4, h5, h6, ar, by omega, fun p p0 p1 => ?_⟩)
    rw [← mkV_e s.1 ⟨by omega, by omega, by omega⟩]
    exact h9 p p0 p1
theorem GT_lev (pp : ppA A) (a0 : 0 ≤ A.1) (np0 : 0 ≤ A.2.2.2.1) (eo : eoA E A) (q0 : 0 ≤ q) (g : GT E W pts A q T0) (n1 : T0.1 ≤ 120) : GT E W pts A (q + 1) (levT E W pts A T0 (q + 1)) := by
  have s := SB_lev (E := E) (W := W) (pts := pts) (A := A) (T0 := T0) (q := q + 1) g.1 n1 a0 np0 eo g.2.2.2.1
  refine ⟨ext_0 s.1 g.1, fun a a0 a1 => ?_, fun a b a0 ab b1 => ?_, s.2.2.2, fun w k d o u hw l => ?_⟩
  · have w1 := SB_wt g q0 s a0 a1
    refine ⟨w1.1, w1.2, ?_⟩
    unfold lgE
    by_cases y : a < T0.1
    · have e := s.1.2 a a0 y
      rw [e.1, e.2.1, e.2.2.1, e.2.2.2.1, e.2.2.2.2]
      exact lgO_e s.1 (by omega) (Int.le_refl _) (g.2.1 a a0 y).2.2
    · have c := s.2.1 a (by omega) a1
      rw [c.1]
      exact lgO_e s.1 (Int.le_refl _) (by omega) c.2.1
  · by_cases y : b < T0.1
    · have e1 := s.1.2 a a0 (by omega)
      have e2 := s.1.2 b (by omega) y
      rw [e1.2.1, e1.2.2.1, e1.2.2.2.1, e2.2.1, e2.2.2.1, e2.2.2.2.1]
      exact g.2.2.1 a b a0 ab y
    · have c := s.2.1 b (by omega) b1
      by_cases z : a < T0.1
      · have e1 := s.1.2 a a0 z
        have := (g.2.1 a a0 z).2.1
        exact Or.inl (by rw [e1.2.1, c.1]; omega)
      · have d := s.2.1 a (by omega) (by omega)
        exact Or.inr ⟨by rw [c.1, d.1], s.2.2.1 a b (by omega) ab b1⟩
  · have l0 := lgO_less pp g q0 s hw l
    by_cases y : w ≤ q
    · exact hasT_e s.1 (g.2.2.2.2 w k d o u y l0)
    · have e : w = q + 1 := by omega
      rw [e] at l0
      exact lev_has (w := w) g.1 l0
theorem GT_0 (pp : ppA A) (n : ∀ a, 0 ≤ a → a < T0.1 → False) (t0 : T0.1 = 0) : GT E W pts A 0 T0 := by
  refine ⟨by omega, fun a a0 a1 => (n a a0 a1).elim, fun a b a0 ab b1 => by omega, fun a b a0 ab b1 => by omega, fun w k d o u hw l => ?_⟩
  rcases l with l | l | l
  · omega
  · obtain ⟨j, h1, h2, h3, h4, h5, h6, h7, h8⟩ := l
    have := pp j h1 h2
    omega
  · obtain ⟨j, x, y, z, h1, h2, h3, h4, h5, h6, h7, h8, h9⟩ := l
    have := h7.1
    omega
theorem GT_LV (pp : ppA A) (a0 : 0 ≤ A.1) (np0 : 0 ≤ A.2.2.2.1) (eo : eoA E A) : ∀ n : Nat, (∀ m : Nat, m < n → (LV E W pts A m).1 ≤ 120) → GT E W pts A n (LV E W pts A n)
  | 0, _ => GT_0 pp (fun a a0 a1 => by have : a < 0 := a1; omega) rfl
  | n + 1, h => GT_lev pp a0 np0 eo (by omega) (GT_LV pp a0 np0 eo n (fun m l => h m (by omega))) (h n (by omega))
end GOOD

