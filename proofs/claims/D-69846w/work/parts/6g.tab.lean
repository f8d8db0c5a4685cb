/-! the search's table, pure: offers one behind the other -/
abbrev TB : Type := Int × (Int → Int) × (Int → Int) × (Int → Int) × (Int → Int → Int) × (Int → Int → Int)
def hasT (pts : Int) (T : TB) (k : Int) (u : Int → Int) : Prop := ∃ f, 0 ≤ f ∧ f < T.1 ∧ T.2.1 f = k ∧ eqV pts (T.2.2.2.2.2 f) u
def addT (T : TB) (k w d : Int) (o u : Int → Int) : TB := (T.1 + 1, up1 T.2.1 T.1 k, up1 T.2.2.1 T.1 w, up1 T.2.2.2.1 T.1 d, up1 T.2.2.2.2.1 T.1 o, up1 T.2.2.2.2.2 T.1 u)
noncomputable def stepT (pts : Int) (T : TB) (k w d : Int) (o u : Int → Int) : TB := @ite TB (hasT pts T k u) (Classical.propDecidable _) T (addT T k w d o u)
theorem stepT_h {pts : Int} {T : TB} {k w d : Int} {o u : Int → Int} (h : hasT pts T k u) : stepT pts T k w d o u = T := by
  unfold stepT
  exact @if_pos _ (Classical.propDecidable _) h _ _ _
theorem stepT_n {pts : Int} {T : TB} {k w d : Int} {o u : Int → Int} (h : ¬ hasT pts T k u) : stepT pts T k w d o u = addT T k w d o u := by
  unfold stepT
  exact @if_neg _ (Classical.propDecidable _) h _ _ _
def rF (st : Int → TB → TB) : Nat → TB → TB
  | 0, T => T
  | n + 1, T => st n (rF st n T)
theorem rF_inv {st : Int → TB → TB} {P : Int → TB → Prop} {n : Nat} (hs : ∀ k T, 0 ≤ k → k < (n : Int) → P k T → P (k + 1) (st k T)) {T : TB} (h0 : P 0 T) : ∀ m : Nat, m ≤ n → P m (rF st m T)
  | 0, _ => h0
  | m + 1, l => by
    have := hs (m : Int) (rF st m T) (by omega) (by omega) (rF_inv hs h0 m (by omega))
    exact this
theorem rF_to {st : Int → TB → TB} {T : TB} {m : Nat} : ∀ n : Nat, (∀ k T', (m : Int) ≤ k → k < (n : Int) → st k T' = T') → m ≤ n → rF st n T = rF st m T
  | 0, _, l => by rw [show m = 0 by omega]
  | n + 1, z, l => by
    by_cases y : m = n + 1
    · rw [y]
    · show st n (rF st n T) = _
      rw [z _ _ (by omega) (by omega)]
      exact rF_to n (fun k T' a b => z k T' a (by omega)) (by omega)
theorem rF_id {st : Int → TB → TB} {T : TB} (n : Nat) (z : ∀ k T', 0 ≤ k → k < (n : Int) → st k T' = T') : rF st n T = T := by
  have := rF_to (m := 0) (T := T) n (fun k T' a b => z k T' (by omega) b) (by omega)
  exact this
def extT (T T' : TB) : Prop := T.1 ≤ T'.1 ∧ ∀ a, 0 ≤ a → a < T.1 → T'.2.1 a = T.2.1 a ∧ T'.2.2.1 a = T.2.2.1 a ∧ T'.2.2.2.1 a = T.2.2.2.1 a ∧ T'.2.2.2.2.1 a = T.2.2.2.2.1 a ∧ T'.2.2.2.2.2 a = T.2.2.2.2.2 a
theorem extT_r (T : TB) : extT T T := ⟨Int.le_refl _, fun _ _ _ => ⟨rfl, rfl, rfl, rfl, rfl⟩⟩
theorem extT_t {A B C : TB} (x : extT A B) (y : extT B C) : extT A C := by
  refine ⟨Int.le_trans x.1 y.1, fun a a0 a1 => ?_⟩
  have p := x.2 a a0 a1
  have q := y.2 a a0 (Int.lt_of_lt_of_le a1 x.1)
  exact ⟨q.1.trans p.1, q.2.1.trans p.2.1, q.2.2.1.trans p.2.2.1, q.2.2.2.1.trans p.2.2.2.1, q.2.2.2.2.trans p.2.2.2.2⟩
theorem extT_add (T : TB) (k w d : Int) (o u : Int → Int) : extT T (addT T k w d o u) := by
  refine ⟨by show T.1 ≤ T.1 + 1; omega, fun a a0 a1 => ?_⟩
  have n : a ≠ T.1 := by omega
  exact ⟨up1_o n, up1_o n, up1_o n, up1_o n, up1_o n⟩
theorem extT_s (pts : Int) (T : TB) (k w d : Int) (o u : Int → Int) : extT T (stepT pts T k w d o u) := by
  by_cases h : hasT pts T k u
  · rw [stepT_h h]; exact extT_r T
  · rw [stepT_n h]; exact extT_add T k w d o u
theorem extT_F {st : Int → TB → TB} {T : TB} {n : Nat} (hs : ∀ k T, 0 ≤ k → k < (n : Int) → extT T (st k T)) : ∀ m : Nat, m ≤ n → extT T (rF st m T) :=
  rF_inv (P := fun _ T' => extT T T') (fun k T' a b e => extT_t e (hs k T' a b)) (extT_r T)
theorem extT_FF {st : Int → TB → TB} {T : TB} {n : Nat} (hs : ∀ k T, 0 ≤ k → k < (n : Int) → extT T (st k T)) {m : Nat} : ∀ j : Nat, m ≤ j → j ≤ n → extT (rF st m T) (rF st j T)
  | 0, l, _ => by rw [show m = 0 by omega]; exact extT_r _
  | j + 1, l, b => by
    by_cases y : m = j + 1
    · rw [y]; exact extT_r _
    · exact extT_t (extT_FF hs j (by omega) (by omega)) (hs _ _ (by omega) (by omega))
theorem hasT_e {pts : Int} {T T' : TB} {k : Int} {u : Int → Int} (e : extT T T') (h : hasT pts T k u) : hasT pts T' k u := by
  obtain ⟨f, f0, f1, f2, f3⟩ := h
  have q := e.2 f f0 f1
  exact ⟨f, f0, Int.lt_of_lt_of_le f1 e.1, by rw [q.1]; exact f2, by rw [q.2.2.2.2]; exact f3⟩
theorem hasT_s {pts : Int} {T : TB} {k w d : Int} {o u : Int → Int} (n0 : 0 ≤ T.1) : hasT pts (stepT pts T k w d o u) k u := by
  by_cases h : hasT pts T k u
  · rw [stepT_h h]; exact h
  · rw [stepT_n h]
    exact ⟨T.1, n0, by show T.1 < T.1 + 1; omega, up1_e, fun p _ _ => by show up1 T.2.2.2.2.2 T.1 u T.1 p = u p; rw [up1_e]⟩
/-! the offers of a level -/
abbrev AD : Type := Int × (Int → Int) × (Int → Int → Int) × Int × (Int → Int) × (Int → Int) × (Int → Int) × (Int → Int)
section LEVEL
variable (E : EV) (W : Int → Int → Int → VW) (pts : Int) (A : AD)
/-- an act's offer -/
noncomputable def mkT (T0 : TB) (q k ac x y z : Int) (T : TB) : TB := stepT pts T (eK E ac (eO E ac)) q (A.1 + k) (op3 x y z) (mkV E W T0.2.2.2.2.2 ac x y z)
def k1 (T0 : TB) (ac left x : Int) : Prop := T0.2.1 x = eK E ac 0 ∧ T0.2.2.1 x = left
def k2 (T0 : TB) (ac left x y : Int) : Prop := T0.2.1 x = eK E ac 0 ∧ T0.2.1 y = eK E ac 1 ∧ T0.2.2.1 x + T0.2.2.1 y = left
def k3 (T0 : TB) (ac left x y z : Int) : Prop := T0.2.1 x = eK E ac 0 ∧ T0.2.1 y = eK E ac 1 ∧ T0.2.1 z = eK E ac 2 ∧ T0.2.2.1 x + T0.2.2.1 y + T0.2.2.1 z = left
noncomputable def m1 (T0 : TB) (q k ac left x : Int) (T : TB) : TB := @ite TB (k1 E T0 ac left x) (Classical.propDecidable _) (mkT E W pts A T0 q k ac x (-1) (-1) T) T
noncomputable def m2 (T0 : TB) (q k ac left x y : Int) (T : TB) : TB := @ite TB (k2 E T0 ac left x y) (Classical.propDecidable _) (mkT E W pts A T0 q k ac x y (-1) T) T
noncomputable def m3 (T0 : TB) (q k ac left x y z : Int) (T : TB) : TB := @ite TB (k3 E T0 ac left x y z) (Classical.propDecidable _) (mkT E W pts A T0 q k ac x y z T) T
noncomputable def s2 (T0 : TB) (q k ac left x : Int) (T : TB) : TB := rF (fun y => m2 E W pts A T0 q k ac left x y) T0.1.toNat T
noncomputable def s3y (T0 : TB) (q k ac left x y : Int) (T : TB) : TB := rF (fun z => m3 E W pts A T0 q k ac left x y z) T0.1.toNat T
noncomputable def s3 (T0 : TB) (q k ac left x : Int) (T : TB) : TB := rF (fun y => s3y E W pts A T0 q k ac left x y) T0.1.toNat T
noncomputable def sX (T0 : TB) (q k ac left x : Int) (T : TB) : TB := if eO E ac = 1 then m1 E W pts A T0 q k ac left x T else if eO E ac = 2 then s2 E W pts A T0 q k ac left x T else s3 E W pts A T0 q k ac left x T
noncomputable def acT (T0 : TB) (q k ac left : Int) (T : TB) : TB := rF (fun x => sX E W pts A T0 q k ac left x) T0.1.toNat T
/-- a parameter's, a piece's -/
noncomputable def stP (k : Int) (T : TB) : TB := stepT pts T (A.2.1 k) 1 k (op3 (-1) (-1) (-1)) (fun p => A.2.2.1 p k)
noncomputable def stQ (T0 : TB) (q k : Int) (T : TB) : TB := if A.2.2.2.2.1 k = -1 then (if A.2.2.2.2.2.2.2 k = q then stepT pts T (A.2.2.2.2.2.1 k) q (A.1 + k) (op3 (-1) (-1) (-1)) (fun _ => A.2.2.2.2.2.2.1 k) else T) else acT E W pts A T0 q k (A.2.2.2.2.1 k) (q - A.2.2.2.2.2.2.2 k) T
noncomputable def l1 (T0 : TB) (q : Int) : TB := if q = 1 then rF (stP pts A) A.1.toNat T0 else T0
noncomputable def levT (T0 : TB) (q : Int) : TB := rF (stQ E W pts A T0 q) A.2.2.2.1.toNat (l1 pts A T0 q)
noncomputable def LV : Nat → TB
  | 0 => (0, fun _ => 0, fun _ => 0, fun _ => 0, fun _ _ => 0, fun _ _ => 0)
  | q + 1 => levT E W pts A (LV q) (q + 1)
end LEVEL
section LEVELS
variable {E : EV} {W : Int → Int → Int → VW} {pts : Int} {A : AD} {T0 : TB} {q k ac left x y z : Int} {T : TB}
theorem m1_y (h : k1 E T0 ac left x) : m1 E W pts A T0 q k ac left x T = mkT E W pts A T0 q k ac x (-1) (-1) T := @if_pos _ (Classical.propDecidable _) h _ _ _
theorem m1_n (h : ¬ k1 E T0 ac left x) : m1 E W pts A T0 q k ac left x T = T := @if_neg _ (Classical.propDecidable _) h _ _ _
theorem m2_y (h : k2 E T0 ac left x y) : m2 E W pts A T0 q k ac left x y T = mkT E W pts A T0 q k ac x y (-1) T := @if_pos _ (Classical.propDecidable _) h _ _ _
theorem m2_n (h : ¬ k2 E T0 ac left x y) : m2 E W pts A T0 q k ac left x y T = T := @if_neg _ (Classical.propDecidable _) h _ _ _
theorem m3_y (h : k3 E T0 ac left x y z) : m3 E W pts A T0 q k ac left x y z T = mkT E W pts A T0 q k ac x y z T := @if_pos _ (Classical.propDecidable _) h _ _ _
theorem m3_n (h : ¬ k3 E T0 ac left x y z) : m3 E W pts A T0 q k ac left x y z T = T := @if_neg _ (Classical.propDecidable _) h _ _ _
theorem ext_mk : extT T (mkT E W pts A T0 q k ac x y z T) := extT_s _ _ _ _ _ _ _
theorem ext_m1 : extT T (m1 E W pts A T0 q k ac left x T) := by
  by_cases h : k1 E T0 ac left x
  · rw [m1_y h]; exact ext_mk
  · rw [m1_n h]; exact extT_r _
theorem ext_m2 : extT T (m2 E W pts A T0 q k ac left x y T) := by
  by_cases h : k2 E T0 ac left x y
  · rw [m2_y h]; exact ext_mk
  · rw [m2_n h]; exact extT_r _
theorem ext_m3 : extT T (m3 E W pts A T0 q k ac left x y z T) := by
  by_cases h : k3 E T0 ac left x y z
  · rw [m3_y h]; exact ext_mk
  · rw [m3_n h]; exact extT_r _
theorem ext_s2 : extT T (s2 E W pts A T0 q k ac left x T) := extT_F (n := T0.1.toNat) (fun _ _ _ _ => ext_m2) _ (Nat.le_refl _)
theorem ext_s3y : extT T (s3y E W pts A T0 q k ac left x y T) := extT_F (n := T0.1.toNat) (fun _ _ _ _ => ext_m3) _ (Nat.le_refl _)
theorem ext_s3 : extT T (s3 E W pts A T0 q k ac left x T) := extT_F (n := T0.1.toNat) (fun _ _ _ _ => ext_s3y) _ (Nat.le_refl _)
theorem ext_sX : extT T (sX E W pts A T0 q k ac left x T) := by
  unfold sX
  by_cases h : eO E ac = 1
  · rw [if_pos h]; exact ext_m1
  · rw [if_neg h]
    by_cases h2 : eO E ac = 2
    · rw [if_pos h2]; exact ext_s2
    · rw [if_neg h2]; exact ext_s3
theorem ext_ac : extT T (acT E W pts A T0 q k ac left T) := extT_F (n := T0.1.toNat) (fun _ _ _ _ => ext_sX) _ (Nat.le_refl _)
theorem ext_P : extT T (stP pts A k T) := extT_s _ _ _ _ _ _ _
theorem ext_Q : extT T (stQ E W pts A T0 q k T) := by
  unfold stQ
  by_cases h : A.2.2.2.2.1 k = -1
  · rw [if_pos h]
    by_cases h2 : A.2.2.2.2.2.2.2 k = q
    · rw [if_pos h2]; exact extT_s _ _ _ _ _ _ _
    · rw [if_neg h2]; exact extT_r _
  · rw [if_neg h]; exact ext_ac
theorem ext_l1 : extT T0 (l1 pts A T0 q) := by
  unfold l1
  by_cases h : q = 1
  · rw [if_pos h]; exact extT_F (n := A.1.toNat) (fun _ _ _ _ => ext_P) _ (Nat.le_refl _)
  · rw [if_neg h]; exact extT_r _
theorem ext_lev : extT T0 (levT E W pts A T0 q) := extT_t ext_l1 (extT_F (n := A.2.2.2.1.toNat) (fun _ _ _ _ => ext_Q) _ (Nat.le_refl _))
theorem ext_LV {a : Nat} : ∀ b : Nat, a ≤ b → extT (LV E W pts A a) (LV E W pts A b)
  | 0, l => by rw [show a = 0 by omega]; exact extT_r _
  | b + 1, l => by
    by_cases y : a = b + 1
    · rw [y]; exact extT_r _
    · exact extT_t (ext_LV b (by omega)) ext_lev
theorem LV_0 : ∀ a : Nat, 0 ≤ (LV E W pts A a).1 := fun a => (ext_LV (E := E) (W := W) (pts := pts) (A := A) (a := 0) a (by omega)).1
/-! what is skipped offers nothing -/
theorem m1_left (h : T0.2.2.1 x ≠ left) : m1 E W pts A T0 q k ac left x T = T := m1_n (fun e => h e.2)
theorem s2_skip (h : ∀ y, 0 ≤ y → y < T0.1 → T0.2.1 y = eK E ac 1 → ¬ (T0.2.1 x = eK E ac 0 ∧ T0.2.2.1 x + T0.2.2.1 y = left)) : s2 E W pts A T0 q k ac left x T = T := rF_id _ (fun j T' a b => m2_n (fun e => h j a (by omega) e.2.1 ⟨e.1, e.2.2⟩))
theorem s3y_skip (h : ∀ z, 0 ≤ z → z < T0.1 → T0.2.1 z = eK E ac 2 → ¬ (T0.2.1 x = eK E ac 0 ∧ T0.2.1 y = eK E ac 1 ∧ T0.2.2.1 x + T0.2.2.1 y + T0.2.2.1 z = left)) : s3y E W pts A T0 q k ac left x y T = T := rF_id _ (fun j T' a b => m3_n (fun e => h j a (by omega) e.2.2.1 ⟨e.1, e.2.1, e.2.2.2⟩))
theorem s3_skip (h : ∀ y z, 0 ≤ y → y < T0.1 → 0 ≤ z → z < T0.1 → T0.2.1 y = eK E ac 1 → ¬ (T0.2.1 x = eK E ac 0 ∧ T0.2.2.1 x + T0.2.2.1 y + T0.2.2.1 z = left)) : s3 E W pts A T0 q k ac left x T = T := rF_id _ (fun j T' a b => s3y_skip (fun z z0 z1 _ e => h j z a (by omega) z0 z1 e.2.1 ⟨e.1, e.2.2⟩))
end LEVELS

