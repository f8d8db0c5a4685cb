/-! the search's table, pure: what stands in it -/
def kyO (d : Int) (o : Int → Int) : Int := ((d * 200 + (o 0 + 1)) * 200 + (o 1 + 1)) * 200 + (o 2 + 1)
theorem op3_0 {a b c : Int} : op3 a b c 0 = a := if_pos rfl
theorem op3_1 {a b c : Int} : op3 a b c 1 = b := by unfold op3; rw [if_neg (by decide), if_pos rfl]
theorem op3_2 {a b c : Int} : op3 a b c 2 = c := by unfold op3; rw [if_neg (by decide), if_neg (by decide)]
theorem kyO_3 {d a b c : Int} : kyO d (op3 a b c) = ((d * 200 + (a + 1)) * 200 + (b + 1)) * 200 + (c + 1) := by unfold kyO; rw [op3_0, op3_1, op3_2]
theorem eqV_r {pts : Int} (u : Int → Int) : eqV pts u u := fun _ _ _ => rfl
theorem eqV_s {pts : Int} {u v : Int → Int} (h : eqV pts u v) : eqV pts v u := fun p a b => (h p a b).symm
theorem eqV_t {pts : Int} {u v w : Int → Int} (h : eqV pts u v) (g : eqV pts v w) : eqV pts u w := fun p a b => (h p a b).trans (g p a b)
/-- an act's operands -/
def arT (E : EV) (T : TB) (N ac x y z : Int) : Prop := (0 ≤ x ∧ x < N ∧ T.2.1 x = eK E ac 0) ∧ ((eO E ac = 1 ∧ y = -1 ∧ z = -1) ∨ (eO E ac = 2 ∧ (0 ≤ y ∧ y < N ∧ T.2.1 y = eK E ac 1) ∧ z = -1) ∨ (eO E ac = 3 ∧ (0 ≤ y ∧ y < N ∧ T.2.1 y = eK E ac 1) ∧ (0 ≤ z ∧ z < N ∧ T.2.1 z = eK E ac 2)))
def wO (T : TB) (x : Int) : Int := if 0 ≤ x then T.2.2.1 x else 0
/-- what may be offered at a price -/
def lgO (E : EV) (W : Int → Int → Int → VW) (pts : Int) (A : AD) (T : TB) (N w k d : Int) (o u : Int → Int) : Prop :=
  (0 ≤ d ∧ d < A.1 ∧ k = A.2.1 d ∧ w = 1 ∧ o = op3 (-1) (-1) (-1) ∧ eqV pts u (fun p => A.2.2.1 p d)) ∨
  (∃ j, 0 ≤ j ∧ j < A.2.2.2.1 ∧ d = A.1 + j ∧ A.2.2.2.2.1 j = -1 ∧ k = A.2.2.2.2.2.1 j ∧ w = A.2.2.2.2.2.2.2 j ∧ o = op3 (-1) (-1) (-1) ∧ eqV pts u (fun _ => A.2.2.2.2.2.2.1 j)) ∨
  (∃ j x y z, 0 ≤ j ∧ j < A.2.2.2.1 ∧ d = A.1 + j ∧ A.2.2.2.2.1 j ≠ -1 ∧ k = eK E (A.2.2.2.2.1 j) (eO E (A.2.2.2.2.1 j)) ∧ o = op3 x y z ∧ arT E T N (A.2.2.2.2.1 j) x y z ∧ w = A.2.2.2.2.2.2.2 j + T.2.2.1 x + wO T y + wO T z ∧ eqV pts u (mkV E W T.2.2.2.2.2 (A.2.2.2.2.1 j) x y z))
theorem arT_e {E : EV} {T T' : TB} {N N' ac x y z : Int} (e : extT T T') (n : N ≤ T.1) (n' : N ≤ N') (h : arT E T N ac x y z) : arT E T' N' ac x y z := by
  have c : ∀ v k, (0 ≤ v ∧ v < N ∧ T.2.1 v = k) → (0 ≤ v ∧ v < N' ∧ T'.2.1 v = k) := fun v k q => ⟨q.1, by omega, by rw [(e.2 v q.1 (by omega)).1]; exact q.2.2⟩
  refine ⟨c _ _ h.1, ?_⟩
  rcases h.2 with q | q | q
  · exact Or.inl q
  · exact Or.inr (Or.inl ⟨q.1, c _ _ q.2.1, q.2.2⟩)
  · exact Or.inr (Or.inr ⟨q.1, c _ _ q.2.1, c _ _ q.2.2⟩)
theorem arT_b {E : EV} {T : TB} {N ac x y z : Int} (h : arT E T N ac x y z) : (-1 ≤ x ∧ x < N) ∧ (-1 ≤ y ∧ y < N) ∧ (-1 ≤ z ∧ z < N) := by
  have a := h.1
  rcases h.2 with q | q | q <;> omega
theorem wO_e {T T' : TB} {x : Int} (e : extT T T') (l : x < T.1) : wO T' x = wO T x := by
  unfold wO
  by_cases q : 0 ≤ x
  · rw [if_pos q, if_pos q, (e.2 x q l).2.1]
  · rw [if_neg q, if_neg q]
theorem vlO_e {T T' : TB} {x p : Int} (e : extT T T') (l : x < T.1) : vlO T'.2.2.2.2.2 x p = vlO T.2.2.2.2.2 x p := by
  unfold vlO
  by_cases q : 0 ≤ x
  · rw [if_pos q, if_pos q, (e.2 x q l).2.2.2.2]
  · rw [if_neg q, if_neg q]
theorem mkV_e {E : EV} {W : Int → Int → Int → VW} {T T' : TB} {ac x y z p : Int} (e : extT T T') (l : x < T.1 ∧ y < T.1 ∧ z < T.1) : mkV E W T'.2.2.2.2.2 ac x y z p = mkV E W T.2.2.2.2.2 ac x y z p := by
  unfold mkV
  rw [vlO_e e l.1, vlO_e e l.2.1, vlO_e e l.2.2]
theorem lgO_e {E : EV} {W : Int → Int → Int → VW} {pts : Int} {A : AD} {T T' : TB} {N N' w k d : Int} {o u : Int → Int} (e : extT T T') (n : N ≤ T.1) (n' : N ≤ N') (h : lgO E W pts A T N w k d o u) : lgO E W pts A T' N' w k d o u := by
  rcases h with h | h | h
  · exact Or.inl h
  · exact Or.inr (Or.inl h)
  · obtain ⟨j, x, y, z, h1, h2, h3, h4, h5, h6, h7, h8, h9⟩ := h
    have b := arT_b h7
    refine Or.inr (Or.inr ⟨j, x, y, z, h1, h2, h3, h4, h5, h6, arT_e e n n' h7, ?_, ?_⟩)
    · rw [(e.2 x h7.1.1 (by omega)).2.1, wO_e e (by omega), wO_e e (by omega)]; exact h8
    · intro p p0 p1
      rw [mkV_e e ⟨by omega, by omega, by omega⟩]
      exact h9 p p0 p1
/-- a level so far: what is new in it, in order -/
def SB (E : EV) (W : Int → Int → Int → VW) (pts : Int) (A : AD) (T0 : TB) (q : Int) (T : TB) (B : Int) : Prop := extT T0 T ∧ (∀ a, T0.1 ≤ a → a < T.1 → T.2.2.1 a = q ∧ lgO E W pts A T0 T0.1 q (T.2.1 a) (T.2.2.2.1 a) (T.2.2.2.2.1 a) (T.2.2.2.2.2 a) ∧ kyO (T.2.2.2.1 a) (T.2.2.2.2.1 a) < B) ∧ (∀ a b, T0.1 ≤ a → a < b → b < T.1 → kyO (T.2.2.2.1 a) (T.2.2.2.2.1 a) < kyO (T.2.2.2.1 b) (T.2.2.2.2.1 b)) ∧ ∀ a b, 0 ≤ a → a < b → b < T.1 → ¬ (T.2.1 a = T.2.1 b ∧ eqV pts (T.2.2.2.2.2 a) (T.2.2.2.2.2 b))
section SBS
variable {E : EV} {W : Int → Int → Int → VW} {pts : Int} {A : AD} {T0 : TB} {q : Int}
theorem SB_m {T : TB} {B B' : Int} (h : SB E W pts A T0 q T B) (b : B ≤ B') : SB E W pts A T0 q T B' := by
  refine ⟨h.1, fun a a0 a1 => ?_, h.2.2⟩
  have := h.2.1 a a0 a1
  exact ⟨this.1, this.2.1, by omega⟩
theorem SB_s {T : TB} {B k d : Int} {o u : Int → Int} (h : SB E W pts A T0 q T B) (n0 : 0 ≤ T0.1) (l : lgO E W pts A T0 T0.1 q k d o u) (b : B ≤ kyO d o) : SB E W pts A T0 q (stepT pts T k q d o u) (kyO d o + 1) := by
  by_cases y : hasT pts T k u
  · rw [stepT_h y]; exact SB_m h (by omega)
  · rw [stepT_n y]
    have ex := extT_add T k q d o u
    have t0 := h.1.1
    refine ⟨extT_t h.1 ex, fun a a0 a1 => ?_, fun a c a0 a1 c1 => ?_, fun a c a0 a1 c1 => ?_⟩
    · by_cases z : a = T.1
      · rw [z]
        show up1 T.2.2.1 T.1 q T.1 = q ∧ lgO E W pts A T0 T0.1 q (up1 T.2.1 T.1 k T.1) (up1 T.2.2.2.1 T.1 d T.1) (up1 T.2.2.2.2.1 T.1 o T.1) (up1 T.2.2.2.2.2 T.1 u T.1) ∧ kyO (up1 T.2.2.2.1 T.1 d T.1) (up1 T.2.2.2.2.1 T.1 o T.1) < _
        rw [up1_e, up1_e, up1_e, up1_e, up1_e]
        exact ⟨rfl, l, by omega⟩
      · have a2 : a < T.1 := by have : a < T.1 + 1 := a1; omega
        have p := ex.2 a (by omega) a2
        have g := h.2.1 a a0 a2
        rw [p.1, p.2.1, p.2.2.1, p.2.2.2.1, p.2.2.2.2]
        exact ⟨g.1, g.2.1, by omega⟩
    · have c2 : c < T.1 + 1 := c1
      have p := ex.2 a (by omega) (by omega)
      by_cases z : c = T.1
      · rw [z, p.2.2.1, p.2.2.2.1]
        show _ < kyO (up1 T.2.2.2.1 T.1 d T.1) (up1 T.2.2.2.2.1 T.1 o T.1)
        rw [up1_e, up1_e]
        have g := h.2.1 a a0 (by omega)
        omega
      · have r := ex.2 c (by omega) (by omega)
        rw [p.2.2.1, p.2.2.2.1, r.2.2.1, r.2.2.2.1]
        exact h.2.2.1 a c a0 a1 (by omega)
    · have c2 : c < T.1 + 1 := c1
      have p := ex.2 a (by omega) (by omega)
      by_cases z : c = T.1
      · rw [z, p.1, p.2.2.2.2]
        show ¬ (T.2.1 a = up1 T.2.1 T.1 k T.1 ∧ eqV pts (T.2.2.2.2.2 a) (up1 T.2.2.2.2.2 T.1 u T.1))
        rw [up1_e, up1_e]
        exact fun e => y ⟨a, a0, by omega, e⟩
      · have r := ex.2 c (by omega) (by omega)
        rw [p.1, p.2.2.2.2, r.1, r.2.2.2.2]
        exact h.2.2.2 a c a0 a1 (by omega)
variable (n0 : 0 ≤ T0.1) (n1 : T0.1 ≤ 120)
theorem SB_mk {k ac left x y z B : Int} {T : TB} (n0 : 0 ≤ T0.1) (k0 : 0 ≤ k ∧ k < A.2.2.2.1) (ka : A.2.2.2.2.1 k = ac) (kn : ac ≠ -1) (kl : left = q - A.2.2.2.2.2.2.2 k) (ar : arT E T0 T0.1 ac x y z) (sm : T0.2.2.1 x + wO T0 y + wO T0 z = left) (h : SB E W pts A T0 q T B) (b : B ≤ kyO (A.1 + k) (op3 x y z)) : SB E W pts A T0 q (mkT E W pts A T0 q k ac x y z T) (kyO (A.1 + k) (op3 x y z) + 1) := by
  refine SB_s h n0 (Or.inr (Or.inr ⟨k, x, y, z, k0.1, k0.2, rfl, by rw [ka]; exact kn, by rw [ka], rfl, by rw [ka]; exact ar, by omega, by rw [ka]; exact eqV_r _⟩)) b
theorem wO_0 {T : TB} {x : Int} (h : 0 ≤ x) : wO T x = T.2.2.1 x := if_pos h
theorem wO_n {T : TB} : wO T (-1) = 0 := rfl
theorem SB_m1 {k ac left x : Int} {T : TB} (n0 : 0 ≤ T0.1) (k0 : 0 ≤ k ∧ k < A.2.2.2.1) (ka : A.2.2.2.2.1 k = ac) (kn : ac ≠ -1) (kl : left = q - A.2.2.2.2.2.2.2 k) (eo : eO E ac = 1) (x0 : 0 ≤ x ∧ x < T0.1) (h : SB E W pts A T0 q T (kyO (A.1 + k) (op3 x (-1) (-1)))) : SB E W pts A T0 q (m1 E W pts A T0 q k ac left x T) (kyO (A.1 + k) (op3 (x + 1) (-1) (-1))) := by
  by_cases c : k1 E T0 ac left x
  · rw [m1_y c]
    exact SB_m (SB_mk n0 k0 ka kn kl ⟨⟨x0.1, x0.2, c.1⟩, Or.inl ⟨eo, rfl, rfl⟩⟩ (by rw [wO_n]; have := c.2; omega) h (Int.le_refl _)) (by rw [kyO_3, kyO_3]; omega)
  · rw [m1_n c]; exact SB_m h (by rw [kyO_3, kyO_3]; omega)
theorem SB_m2 {k ac left x y : Int} {T : TB} (n0 : 0 ≤ T0.1) (k0 : 0 ≤ k ∧ k < A.2.2.2.1) (ka : A.2.2.2.2.1 k = ac) (kn : ac ≠ -1) (kl : left = q - A.2.2.2.2.2.2.2 k) (eo : eO E ac = 2) (x0 : 0 ≤ x ∧ x < T0.1) (y0 : 0 ≤ y ∧ y < T0.1) (h : SB E W pts A T0 q T (kyO (A.1 + k) (op3 x y (-1)))) : SB E W pts A T0 q (m2 E W pts A T0 q k ac left x y T) (kyO (A.1 + k) (op3 x (y + 1) (-1))) := by
  by_cases c : k2 E T0 ac left x y
  · rw [m2_y c]
    exact SB_m (SB_mk n0 k0 ka kn kl ⟨⟨x0.1, x0.2, c.1⟩, Or.inr (Or.inl ⟨eo, ⟨y0.1, y0.2, c.2.1⟩, rfl⟩)⟩ (by rw [wO_n, wO_0 y0.1]; have := c.2.2; omega) h (Int.le_refl _)) (by rw [kyO_3, kyO_3]; omega)
  · rw [m2_n c]; exact SB_m h (by rw [kyO_3, kyO_3]; omega)
theorem SB_m3 {k ac left x y z : Int} {T : TB} (n0 : 0 ≤ T0.1) (k0 : 0 ≤ k ∧ k < A.2.2.2.1) (ka : A.2.2.2.2.1 k = ac) (kn : ac ≠ -1) (kl : left = q - A.2.2.2.2.2.2.2 k) (eo : eO E ac = 3) (x0 : 0 ≤ x ∧ x < T0.1) (y0 : 0 ≤ y ∧ y < T0.1) (z0 : 0 ≤ z ∧ z < T0.1) (h : SB E W pts A T0 q T (kyO (A.1 + k) (op3 x y z))) : SB E W pts A T0 q (m3 E W pts A T0 q k ac left x y z T) (kyO (A.1 + k) (op3 x y (z + 1))) := by
  by_cases c : k3 E T0 ac left x y z
  · rw [m3_y c]
    exact SB_m (SB_mk n0 k0 ka kn kl ⟨⟨x0.1, x0.2, c.1⟩, Or.inr (Or.inr ⟨eo, ⟨y0.1, y0.2, c.2.1⟩, ⟨z0.1, z0.2, c.2.2.1⟩⟩)⟩ (by rw [wO_0 z0.1, wO_0 y0.1]; have := c.2.2.2; omega) h (Int.le_refl _)) (by rw [kyO_3, kyO_3]; omega)
  · rw [m3_n c]; exact SB_m h (by rw [kyO_3, kyO_3]; omega)
theorem SB_s2 {k ac left x : Int} {T : TB} (n0 : 0 ≤ T0.1) (n1 : T0.1 ≤ 120) (k0 : 0 ≤ k ∧ k < A.2.2.2.1) (ka : A.2.2.2.2.1 k = ac) (kn : ac ≠ -1) (kl : left = q - A.2.2.2.2.2.2.2 k) (eo : eO E ac = 2) (x0 : 0 ≤ x ∧ x < T0.1) (h : SB E W pts A T0 q T (kyO (A.1 + k) (op3 x (-1) (-1)))) : SB E W pts A T0 q (s2 E W pts A T0 q k ac left x T) (kyO (A.1 + k) (op3 (x + 1) (-1) (-1))) := by
  have e := rF_inv (n := T0.1.toNat) (P := fun y T => SB E W pts A T0 q T (kyO (A.1 + k) (op3 x y (-1)))) (st := fun y => m2 E W pts A T0 q k ac left x y) (fun y T' a b g => SB_m2 n0 k0 ka kn kl eo x0 ⟨a, by omega⟩ g) (T := T) (SB_m h (by rw [kyO_3, kyO_3]; omega)) _ (Nat.le_refl _)
  exact SB_m e (by rw [kyO_3, kyO_3]; omega)
theorem SB_s3y {k ac left x y : Int} {T : TB} (n0 : 0 ≤ T0.1) (n1 : T0.1 ≤ 120) (k0 : 0 ≤ k ∧ k < A.2.2.2.1) (ka : A.2.2.2.2.1 k = ac) (kn : ac ≠ -1) (kl : left = q - A.2.2.2.2.2.2.2 k) (eo : eO E ac = 3) (x0 : 0 ≤ x ∧ x < T0.1) (y0 : 0 ≤ y ∧ y < T0.1) (h : SB E W pts A T0 q T (kyO (A.1 + k) (op3 x y (-1)))) : SB E W pts A T0 q (s3y E W pts A T0 q k ac left x y T) (kyO (A.1 + k) (op3 x (y + 1) (-1))) := by
  have e := rF_inv (n := T0.1.toNat) (P := fun z T => SB E W pts A T0 q T (kyO (A.1 + k) (op3 x y z))) (st := fun z => m3 E W pts A T0 q k ac left x y z) (fun z T' a b g => SB_m3 n0 k0 ka kn kl eo x0 y0 ⟨a, by omega⟩ g) (T := T) (SB_m h (by rw [kyO_3, kyO_3]; omega)) _ (Nat.le_refl _)
  exact SB_m e (by rw [kyO_3, kyO_3]; omega)
theorem SB_s3 {k ac left x : Int} {T : TB} (n0 : 0 ≤ T0.1) (n1 : T0.1 ≤ 120) (k0 : 0 ≤ k ∧ k < A.2.2.2.1) (ka : A.2.2.2.2.1 k = ac) (kn : ac ≠ -1) (kl : left = q - A.2.2.2.2.2.2.2 k) (eo : eO E ac = 3) (x0 : 0 ≤ x ∧ x < T0.1) (h : SB E W pts A T0 q T (kyO (A.1 + k) (op3 x (-1) (-1)))) : SB E W pts A T0 q (s3 E W pts A T0 q k ac left x T) (kyO (A.1 + k) (op3 (x + 1) (-1) (-1))) := by
  have e := rF_inv (n := T0.1.toNat) (P := fun y T => SB E W pts A T0 q T (kyO (A.1 + k) (op3 x y (-1)))) (st := fun y => s3y E W pts A T0 q k ac left x y) (fun y T' a b g => SB_s3y n0 n1 k0 ka kn kl eo x0 ⟨a, by omega⟩ g) (T := T) (SB_m h (by rw [kyO_3, kyO_3]; omega)) _ (Nat.le_refl _)
  exact SB_m e (by rw [kyO_3, kyO_3]; omega)
theorem SB_sX {k ac left x : Int} {T : TB} (n0 : 0 ≤ T0.1) (n1 : T0.1 ≤ 120) (k0 : 0 ≤ k ∧ k < A.2.2.2.1) (ka : A.2.2.2.2.1 k = ac) (kn : ac ≠ -1) (kl : left = q - A.2.2.2.2.2.2.2 k) (eo : 1 ≤ eO E ac ∧ eO E ac ≤ 3) (x0 : 0 ≤ x ∧ x < T0.1) (h : SB E W pts A T0 q T (kyO (A.1 + k) (op3 x (-1) (-1)))) : SB E W pts A T0 q (sX E W pts A T0 q k ac left x T) (kyO (A.1 + k) (op3 (x + 1) (-1) (-1))) := by
  unfold sX
  by_cases c : eO E ac = 1
  · rw [if_pos c]; exact SB_m1 n0 k0 ka kn kl c x0 h
  · rw [if_neg c]
    by_cases c2 : eO E ac = 2
    · rw [if_pos c2]; exact SB_s2 n0 n1 k0 ka kn kl c2 x0 h
    · rw [if_neg c2]; exact SB_s3 n0 n1 k0 ka kn kl (by omega) x0 h
theorem SB_ac {k ac left : Int} {T : TB} (n0 : 0 ≤ T0.1) (n1 : T0.1 ≤ 120) (k0 : 0 ≤ k ∧ k < A.2.2.2.1) (ka : A.2.2.2.2.1 k = ac) (kn : ac ≠ -1) (kl : left = q - A.2.2.2.2.2.2.2 k) (eo : 1 ≤ eO E ac ∧ eO E ac ≤ 3) (h : SB E W pts A T0 q T (kyO (A.1 + k) (op3 (-1) (-1) (-1)))) : SB E W pts A T0 q (acT E W pts A T0 q k ac left T) (kyO (A.1 + (k + 1)) (op3 (-1) (-1) (-1))) := by
  have e := rF_inv (n := T0.1.toNat) (P := fun x T => SB E W pts A T0 q T (kyO (A.1 + k) (op3 x (-1) (-1)))) (st := fun x => sX E W pts A T0 q k ac left x) (fun x T' a b g => SB_sX n0 n1 k0 ka kn kl eo ⟨a, by omega⟩ g) (T := T) (SB_m h (by rw [kyO_3, kyO_3]; omega)) _ (Nat.le_refl _)
  exact SB_m e (by rw [kyO_3, kyO_3]; omega)
theorem SB_P {k : Int} {T : TB} (n0 : 0 ≤ T0.1) (k0 : 0 ≤ k ∧ k < A.1) (q1 : q = 1) (h : SB E W pts A T0 q T (kyO k (op3 (-1) (-1) (-1)))) : SB E W pts A T0 q (stP pts A k T) (kyO (k + 1) (op3 (-1) (-1) (-1))) := by
  subst q1
  exact SB_m (SB_s h n0 (Or.inl ⟨k0.1, k0.2, rfl, rfl, rfl, eqV_r _⟩) (Int.le_refl _)) (by rw [kyO_3, kyO_3]; omega)
theorem SB_Q {k : Int} {T : TB} (n0 : 0 ≤ T0.1) (n1 : T0.1 ≤ 120) (k0 : 0 ≤ k ∧ k < A.2.2.2.1) (eo : A.2.2.2.2.1 k ≠ -1 → 1 ≤ eO E (A.2.2.2.2.1 k) ∧ eO E (A.2.2.2.2.1 k) ≤ 3) (h : SB E W pts A T0 q T (kyO (A.1 + k) (op3 (-1) (-1) (-1)))) : SB E W pts A T0 q (stQ E W pts A T0 q k T) (kyO (A.1 + (k + 1)) (op3 (-1) (-1) (-1))) := by
  unfold stQ
  by_cases c : A.2.2.2.2.1 k = -1
  · rw [if_pos c]
    by_cases c2 : A.2.2.2.2.2.2.2 k = q
    · rw [if_pos c2]
      exact SB_m (SB_s h n0 (Or.inr (Or.inl ⟨k, k0.1, k0.2, rfl, c, rfl, c2.symm, rfl, eqV_r _⟩)) (Int.le_refl _)) (by rw [kyO_3, kyO_3]; omega)
    · rw [if_neg c2]; exact SB_m h (by rw [kyO_3, kyO_3]; omega)
  · rw [if_neg c]; exact SB_ac n0 n1 k0 rfl c rfl (eo c) h
theorem SB_l1 (n0 : 0 ≤ T0.1) (a0 : 0 ≤ A.1) (h : SB E W pts A T0 q T0 (kyO 0 (op3 (-1) (-1) (-1)))) : SB E W pts A T0 q (l1 pts A T0 q) (kyO (A.1 + 0) (op3 (-1) (-1) (-1))) := by
  unfold l1
  by_cases c : q = 1
  · rw [if_pos c]
    have e := rF_inv (n := A.1.toNat) (P := fun k T => SB E W pts A T0 q T (kyO k (op3 (-1) (-1) (-1)))) (st := stP pts A) (fun k T' a b g => SB_P n0 ⟨a, by omega⟩ c g) (T := T0) h _ (Nat.le_refl _)
    exact SB_m e (by rw [kyO_3, kyO_3]; omega)
  · rw [if_neg c]; exact SB_m h (by rw [kyO_3, kyO_3]; omega)
/-- each piece's act has operands -/
def eoA (E : EV) (A : AD) : Prop := ∀ k, 0 ≤ k → k < A.2.2.2.1 → A.2.2.2.2.1 k ≠ -1 → 1 ≤ eO E (A.2.2.2.2.1 k) ∧ eO E (A.2.2.2.2.1 k) ≤ 3
theorem SB_0 (d : ∀ a b, 0 ≤ a → a < b → b < T0.1 → ¬ (T0.2.1 a = T0.2.1 b ∧ eqV pts (T0.2.2.2.2.2 a) (T0.2.2.2.2.2 b))) (B : Int) : SB E W pts A T0 q T0 B := ⟨extT_r _, fun a a0 a1 => by omega, fun a b a0 a1 b1 => by omega, d⟩
theorem SB_lev (n0 : 0 ≤ T0.1) (n1 : T0.1 ≤ 120) (a0 : 0 ≤ A.1) (np0 : 0 ≤ A.2.2.2.1) (eo : eoA E A) (d : ∀ a b, 0 ≤ a → a < b → b < T0.1 → ¬ (T0.2.1 a = T0.2.1 b ∧ eqV pts (T0.2.2.2.2.2 a) (T0.2.2.2.2.2 b))) : SB E W pts A T0 q (levT E W pts A T0 q) (kyO (A.1 + A.2.2.2.1) (op3 (-1) (-1) (-1))) := by
  have e := rF_inv (n := A.2.2.2.1.toNat) (P := fun k T => SB E W pts A T0 q T (kyO (A.1 + k) (op3 (-1) (-1) (-1)))) (st := stQ E W pts A T0 q) (fun k T' a b g => SB_Q n0 n1 ⟨a, by omega⟩ (eo k a (by omega)) g) (T := l1 pts A T0 q) (SB_l1 n0 a0 (SB_0 d _)) _ (Nat.le_refl _)
  rw [show ((A.2.2.2.1.toNat : Nat) : Int) = A.2.2.2.1 by omega] at e
  exact e
end SBS

