/-! how many terms of a price have a function, pure: the place of a function, ways of operands -/
noncomputable def ixT (pts : Int) (T : TB) (k : Int) (u : Int → Int) : Int := @dite Int (hasT pts T k u) (Classical.propDecidable _) (fun h => Classical.choose h) (fun _ => -1)
theorem ixT_h {pts : Int} {T : TB} {k : Int} {u : Int → Int} (h : hasT pts T k u) : 0 ≤ ixT pts T k u ∧ ixT pts T k u < T.1 ∧ T.2.1 (ixT pts T k u) = k ∧ eqV pts (T.2.2.2.2.2 (ixT pts T k u)) u := by
  have e : ixT pts T k u = Classical.choose h := @dif_pos _ (Classical.propDecidable _) h _ _ _
  rw [e]
  exact Classical.choose_spec h
theorem ixT_n {pts : Int} {T : TB} {k : Int} {u : Int → Int} (h : ¬ hasT pts T k u) : ixT pts T k u = -1 := @dif_neg _ (Classical.propDecidable _) h _ _ _
theorem ixT_u {pts : Int} {T : TB} {k a : Int} {u : Int → Int} (d : dsT pts T) (a0 : 0 ≤ a) (a1 : a < T.1) (k1 : T.2.1 a = k) (e : eqV pts (T.2.2.2.2.2 a) u) : ixT pts T k u = a := by
  have i := ixT_h (pts := pts) (T := T) (k := k) (u := u) ⟨a, a0, a1, k1, e⟩
  rcases Int.lt_trichotomy (ixT pts T k u) a with l | l | l
  · exact absurd ⟨i.2.2.1.trans k1.symm, eqV_t i.2.2.2 (eqV_s e)⟩ (d _ _ i.1 l a1)
  · exact l
  · exact absurd ⟨k1.trans i.2.2.1.symm, eqV_t e (eqV_s i.2.2.2)⟩ (d _ _ a0 l i.2.1)
theorem ixT_e {pts : Int} {T T' : TB} {k : Int} {u : Int → Int} (x : extT T T') (d : dsT pts T') (h : hasT pts T k u) : ixT pts T' k u = ixT pts T k u := by
  have i := ixT_h h
  have q := x.2 _ i.1 i.2.1
  exact ixT_u d i.1 (Int.lt_of_lt_of_le i.2.1 x.1) (q.1.trans i.2.2.1) (by rw [q.2.2.2.2]; exact i.2.2.2)
theorem ixT_lt {pts : Int} {T : TB} {k : Int} {u : Int → Int} (t0 : 0 ≤ T.1) : -1 ≤ ixT pts T k u ∧ ixT pts T k u < T.1 := by
  by_cases h : hasT pts T k u
  · have i := ixT_h h; omega
  · rw [ixT_n h]; omega
theorem sumN_ex {g : Int → Int} {m n : Nat} (a : ∀ j, (m : Int) ≤ j → j < (n : Int) → g j = 0) (b : ∀ j, (n : Int) ≤ j → j < (m : Int) → g j = 0) : sumN g m = sumN g n := by
  have key : ∀ (i j : Nat), i ≤ j → (∀ x, (i : Int) ≤ x → x < (j : Int) → g x = 0) → sumN g j = sumN g i := by
    intro i j
    induction j with
    | zero => intro l _; rw [show i = 0 by omega]
    | succ j ih =>
      intro l z
      by_cases y : i = j + 1
      · rw [y]
      · show sumN g j + g j = _
        rw [z _ (by omega) (by omega), ih (by omega) (fun x x0 x1 => z x x0 (by omega)), Int.add_zero]
  by_cases y : m ≤ n
  · exact (key m n y a).symm
  · exact key n m (by omega) b
theorem sumN_le {f g : Int → Int} : ∀ {n : Nat}, (∀ j, 0 ≤ j → j < (n : Int) → f j ≤ g j) → sumN f n ≤ sumN g n
  | 0, _ => Int.le_refl _
  | n + 1, h => by
    have a := sumN_le (f := f) (g := g) (n := n) (fun j p q => h j p (by omega))
    have b := h n (by omega) (by omega)
    show sumN f n + f n ≤ sumN g n + g n
    omega
theorem sumN_mr {f : Int → Int} {k : Int} : ∀ n : Nat, sumN (fun j => f j * k) n = sumN f n * k
  | 0 => (Int.zero_mul k).symm
  | n + 1 => by
    show sumN (fun j => f j * k) n + f n * k = (sumN f n + f n) * k
    rw [sumN_mr n, Int.add_mul]
theorem sumN_ml {f : Int → Int} {k : Int} : ∀ n : Nat, sumN (fun j => k * f j) n = k * sumN f n
  | 0 => (Int.mul_zero k).symm
  | n + 1 => by
    show sumN (fun j => k * f j) n + k * f n = k * (sumN f n + f n)
    rw [sumN_ml n, Int.mul_add]
theorem sumN_sw (g : Int → Int → Int) (n : Nat) : ∀ m : Nat, sumN (fun f => sumN (fun x => g f x) n) m = sumN (fun x => sumN (fun f => g f x) m) n
  | 0 => (sumN_0 (fun _ _ _ => rfl)).symm
  | m + 1 => by
    show sumN (fun f => sumN (fun x => g f x) n) m + sumN (fun x => g m x) n = sumN (fun x => sumN (fun f => g f x) m + g m x) n
    rw [sumN_sw g n m, sumN_add (fun x => sumN (fun f => g f x) m) (fun x => g m x) n]
theorem sumN_one {P : Prop} {v w : Int} (w0 : 0 ≤ w) (n : Nat) : sumN (fun f => cif (P ∧ v = f) w 0) n ≤ w := by
  by_cases y : P ∧ 0 ≤ v ∧ v < (n : Int)
  · rw [sumN_1 (i := v) y.2.1 y.2.2 (fun j _ _ ne => cif_n (fun z => ne z.2.symm)), cif_y ⟨y.1, rfl⟩]
    exact Int.le_refl _
  · rw [sumN_0 (fun j a b => cif_n (fun z => y ⟨z.1, by omega, by omega⟩))]
    exact w0
theorem sumN_nz {f : Int → Int} {n : Nat} (h : sumN f n ≠ 0) : ∃ j, 0 ≤ j ∧ j < (n : Int) ∧ f j ≠ 0 := by
  refine Classical.byContradiction (fun z => h (sumN_0 (fun j a b => ?_)))
  by_cases y : f j = 0
  · exact y
  · exact absurd ⟨j, a, b, y⟩ z
theorem mul_nz {a b : Int} (h : a * b ≠ 0) : a ≠ 0 ∧ b ≠ 0 := ⟨fun z => h (by rw [z, Int.zero_mul]), fun z => h (by rw [z, Int.mul_zero])⟩
/-- ways of two operands, of three: of a price together -/
def w2C (c : Int → Int → Int) (left x y : Int) : Int := sumN (fun i => c i x * c (left - i) y) left.toNat
def w3C (c : Int → Int → Int) (left x y z : Int) : Int := sumN (fun i => c i x * w2C c (left - i) y z) left.toNat
section WAYS
variable {c : Int → Int → Int} (c0 : ∀ i f, 0 ≤ c i f) (left x y z : Int)
theorem w2C_0 (c0 : ∀ i f, 0 ≤ c i f) (left x y : Int) : 0 ≤ w2C c left x y := sumN_n (fun _ _ => Int.mul_nonneg (c0 _ _) (c0 _ _)) _
theorem w3C_0 (c0 : ∀ i f, 0 ≤ c i f) (left x y z : Int) : 0 ≤ w3C c left x y z := sumN_n (fun _ _ => Int.mul_nonneg (c0 _ _) (w2C_0 c0 _ _ _)) _
end WAYS
/-- all ways -/
def t1C (c : Int → Int → Int) (n : Nat) (i : Int) : Int := sumN (c i) n
def t2C (t : Int → Int) (left : Int) : Int := sumN (fun i => t i * t (left - i)) left.toNat
def t3C (t : Int → Int) (left : Int) : Int := sumN (fun i => t i * t2C t (left - i)) left.toNat
theorem w2_all (c : Int → Int → Int) (n : Nat) (left : Int) : sumN (fun x => sumN (fun y => w2C c left x y) n) n = t2C (t1C c n) left := by
  have e1 : ∀ x, sumN (fun y => w2C c left x y) n = sumN (fun i => c i x * t1C c n (left - i)) left.toNat := fun x => by
    show sumN (fun y => sumN (fun i => c i x * c (left - i) y) left.toNat) n = _
    rw [sumN_sw (fun y i => c i x * c (left - i) y) left.toNat n]
    exact sumN_c (fun i _ _ => sumN_ml n)
  rw [sumN_c (fun x _ _ => e1 x), sumN_sw (fun x i => c i x * t1C c n (left - i)) left.toNat n]
  exact sumN_c (fun i _ _ => sumN_mr n)
theorem w3_all (c : Int → Int → Int) (n : Nat) (left : Int) : sumN (fun x => sumN (fun y => sumN (fun z => w3C c left x y z) n) n) n = t3C (t1C c n) left := by
  have e1 : ∀ x y, sumN (fun z => w3C c left x y z) n = sumN (fun i => c i x * sumN (fun z => w2C c (left - i) y z) n) left.toNat := fun x y => by
    show sumN (fun z => sumN (fun i => c i x * w2C c (left - i) y z) left.toNat) n = _
    rw [sumN_sw (fun z i => c i x * w2C c (left - i) y z) left.toNat n]
    exact sumN_c (fun i _ _ => sumN_ml n)
  have e2 : ∀ x, sumN (fun y => sumN (fun z => w3C c left x y z) n) n = sumN (fun i => c i x * t2C (t1C c n) (left - i)) left.toNat := fun x => by
    rw [sumN_c (fun y _ _ => e1 x y), sumN_sw (fun y i => c i x * sumN (fun z => w2C c (left - i) y z) n) left.toNat n]
    refine sumN_c (fun i _ _ => ?_)
    rw [sumN_ml n, w2_all c n (left - i)]
  rw [sumN_c (fun x _ _ => e2 x), sumN_sw (fun x i => c i x * t2C (t1C c n) (left - i)) left.toNat n]
  exact sumN_c (fun i _ _ => sumN_mr n)
/-! the counts of a price -/
section CNT
variable (E : EV) (W : Int → Int → Int → VW) (pts : Int) (A : AD) (T : TB) (c : Int → Int → Int)
noncomputable def ixC (ac x y z : Int) : Int := ixT pts T (eK E ac (eO E ac)) (mkV E W T.2.2.2.2.2 ac x y z)
noncomputable def czC (ac left x y f z : Int) : Int := cif (T.2.1 z = eK E ac 2 ∧ ixC E W pts T ac x y z = f) (w3C c left x y z) 0
noncomputable def cyC (ac left x f y : Int) : Int := if eO E ac = 2 then cif (T.2.1 y = eK E ac 1 ∧ ixC E W pts T ac x y (-1) = f) (w2C c left x y) 0 else cif (T.2.1 y = eK E ac 1) (sumN (czC E W pts T c ac left x y f) T.1.toNat) 0
noncomputable def cxC (ac left f x : Int) : Int := if eO E ac = 1 then cif (T.2.1 x = eK E ac 0 ∧ ixC E W pts T ac x (-1) (-1) = f) (c left x) 0 else cif (T.2.1 x = eK E ac 0) (sumN (cyC E W pts T c ac left x f) T.1.toNat) 0
/-- heads: parameters, then pieces -/
def iLf (h : Int) : Prop := h < A.1 ∨ A.2.2.2.2.1 (h - A.1) = -1
def prL (h : Int) : Int := if h < A.1 then 1 else A.2.2.2.2.2.2.2 (h - A.1)
def lkA (h : Int) : Int := if h < A.1 then A.2.1 h else A.2.2.2.2.2.1 (h - A.1)
def lvA (h p : Int) : Int := if h < A.1 then A.2.2.1 p h else A.2.2.2.2.2.2.1 (h - A.1)
noncomputable def ixL (h : Int) : Int := ixT pts T (lkA A h) (lvA A h)
noncomputable def chC (q f h : Int) : Int := cif (iLf A h) (cif (prL A h = q ∧ ixL pts A T h = f) 1 0) (cif (prL A h < q) (sumN (cxC E W pts T c (A.2.2.2.2.1 (h - A.1)) (q - prL A h) f) T.1.toNat) 0)
noncomputable def rowC (q f : Int) : Int := sumN (chC E W pts A T c q f) (A.1 + A.2.2.2.1).toNat
end CNT
noncomputable def ctN (E : EV) (W : Int → Int → Int → VW) (pts : Int) (A : AD) : Nat → Int → Int → Int
  | 0 => fun _ _ => 0
  | n + 1 => fun q f => if q = (n : Int) + 1 then rowC E W pts A (LV E W pts A (n + 1)) (ctN E W pts A n) q f else ctN E W pts A n q f
noncomputable def ct (E : EV) (W : Int → Int → Int → VW) (pts : Int) (A : AD) : Int → Int → Int := ctN E W pts A 12
theorem cif_0 {P : Prop} {v : Int} (v0 : 0 ≤ v) : 0 ≤ cif P v 0 := by
  by_cases h : P
  · rw [cif_y h]; exact v0
  · rw [cif_n h]; exact Int.le_refl _
theorem cif_00 {P : Prop} : cif P (0 : Int) 0 = 0 := by
  by_cases h : P
  · exact cif_y h
  · exact cif_n h
section CNTS
variable {E : EV} {W : Int → Int → Int → VW} {pts : Int} {A : AD} {T : TB} {c c' : Int → Int → Int} {ac left x y z f q h : Int}
theorem czC_0 (c0 : ∀ i f, 0 ≤ c i f) : 0 ≤ czC E W pts T c ac left x y f z := cif_0 (w3C_0 c0 _ _ _ _)
theorem cyC_0 (c0 : ∀ i f, 0 ≤ c i f) : 0 ≤ cyC E W pts T c ac left x f y := by
  unfold cyC
  by_cases e : eO E ac = 2
  · rw [if_pos e]; exact cif_0 (w2C_0 c0 _ _ _)
  · rw [if_neg e]; exact cif_0 (sumN_n (fun _ _ => czC_0 c0) _)
theorem cxC_0 (c0 : ∀ i f, 0 ≤ c i f) : 0 ≤ cxC E W pts T c ac left f x := by
  unfold cxC
  by_cases e : eO E ac = 1
  · rw [if_pos e]; exact cif_0 (c0 _ _)
  · rw [if_neg e]; exact cif_0 (sumN_n (fun _ _ => cyC_0 c0) _)
theorem chC_0 (c0 : ∀ i f, 0 ≤ c i f) : 0 ≤ chC E W pts A T c q f h := by
  unfold chC
  by_cases e : iLf A h
  · rw [cif_y e]; exact cif_0 (by decide)
  · rw [cif_n e]; exact cif_0 (sumN_n (fun _ _ => cxC_0 c0) _)
theorem rowC_0 (c0 : ∀ i f, 0 ≤ c i f) : 0 ≤ rowC E W pts A T c q f := sumN_n (fun _ _ => chC_0 c0) _
theorem w2C_c (e : ∀ i f, i ≤ left → c i f = c' i f) : w2C c left x y = w2C c' left x y := sumN_c (fun i i0 i1 => by rw [e i x (by omega), e (left - i) y (by omega)])
theorem w3C_c (e : ∀ i f, i ≤ left → c i f = c' i f) : w3C c left x y z = w3C c' left x y z := sumN_c (fun i i0 i1 => by rw [e i x (by omega), w2C_c (fun j f l => e j f (by omega))])
theorem cxC_c (e : ∀ i f, i ≤ left → c i f = c' i f) : cxC E W pts T c ac left f x = cxC E W pts T c' ac left f x := by
  have ez : ∀ y, czC E W pts T c ac left x y f = czC E W pts T c' ac left x y f := fun y => by
    funext z
    unfold czC
    rw [w3C_c e]
  have ey : cyC E W pts T c ac left x f = cyC E W pts T c' ac left x f := by
    funext y
    unfold cyC
    rw [w2C_c e, ez y]
  unfold cxC
  rw [e left x (Int.le_refl _), ey]
theorem rowC_c (pp : ppA A) (e : ∀ i f, i < q → c i f = c' i f) : rowC E W pts A T c q f = rowC E W pts A T c' q f := by
  refine sumN_c (fun h h0 h1 => ?_)
  unfold chC
  by_cases l : iLf A h
  · rw [cif_y l, cif_y l]
  · rw [cif_n l, cif_n l]
    have l1 : ¬ h < A.1 := fun z => l (Or.inl z)
    have pr : 1 ≤ prL A h := by
      unfold prL
      rw [if_neg l1]
      exact pp _ (by omega) (by omega)
    have ex : cxC E W pts T c (A.2.2.2.2.1 (h - A.1)) (q - prL A h) f = cxC E W pts T c' (A.2.2.2.2.1 (h - A.1)) (q - prL A h) f := by
      funext x
      exact cxC_c (fun i f l => e i f (by omega))
    rw [ex]
theorem ctN_0 : ∀ (n : Nat) (q f : Int), 0 ≤ ctN E W pts A n q f
  | 0, _, _ => Int.le_refl _
  | n + 1, q, f => by
    unfold ctN
    by_cases e : q = (n : Int) + 1
    · rw [if_pos e]; exact rowC_0 (ctN_0 n)
    · rw [if_neg e]; exact ctN_0 n q f
theorem ct_0 (q f : Int) : 0 ≤ ct E W pts A q f := ctN_0 12 q f
theorem ctN_le {n : Nat} {q f : Int} (l : q ≤ (n : Int)) : ∀ m : Nat, n ≤ m → ctN E W pts A m q f = ctN E W pts A n q f
  | 0, k => by rw [show n = 0 by omega]
  | m + 1, k => by
    by_cases y : n = m + 1
    · rw [y]
    · show (if q = (m : Int) + 1 then _ else ctN E W pts A m q f) = _
      rw [if_neg (by omega), ctN_le l m (by omega)]
theorem ctN_n : ∀ (n : Nat) {q f : Int}, q ≤ 0 → ctN E W pts A n q f = 0
  | 0, _, _, _ => rfl
  | n + 1, q, f, l => by
    show (if q = (n : Int) + 1 then _ else ctN E W pts A n q f) = _
    rw [if_neg (by omega)]
    exact ctN_n n l
theorem ct_n (l : q ≤ 0) : ct E W pts A q f = 0 := ctN_n 12 l
theorem ct_row (pp : ppA A) {n : Nat} (n1 : 1 ≤ n) (n12 : n ≤ 12) : ct E W pts A n f = rowC E W pts A (LV E W pts A n) (ct E W pts A) n f := by
  obtain ⟨m, rfl⟩ : ∃ m, n = m + 1 := ⟨n - 1, by omega⟩
  have e : ct E W pts A ((m + 1 : Nat) : Int) f = ctN E W pts A (m + 1) ((m + 1 : Nat) : Int) f := ctN_le (by omega) 12 (by omega)
  rw [e]
  show (if ((m + 1 : Nat) : Int) = (m : Int) + 1 then rowC E W pts A (LV E W pts A (m + 1)) (ctN E W pts A m) ((m + 1 : Nat) : Int) f else _) = _
  rw [if_pos (by omega)]
  exact rowC_c pp (fun i g l => (ctN_le (by omega) 12 (by omega)).symm)
theorem rowC_hi (t0 : 0 ≤ T.1) (l : T.1 ≤ f) : rowC E W pts A T c q f = 0 := by
  have no : ∀ k u, ixT pts T k u ≠ f := fun k u z => by have := ixT_lt (pts := pts) (k := k) (u := u) t0; omega
  have cz : ∀ ac left x y z, czC E W pts T c ac left x y f z = 0 := fun ac left x y z => cif_n (fun e => no _ _ e.2)
  have cy : ∀ ac left x y, cyC E W pts T c ac left x f y = 0 := fun ac left x y => by
    unfold cyC
    by_cases e : eO E ac = 2
    · rw [if_pos e]; exact cif_n (fun e => no _ _ e.2)
    · rw [if_neg e, sumN_0 (fun z _ _ => cz ac left x y z)]; exact cif_00
  have cx : ∀ ac left x, cxC E W pts T c ac left f x = 0 := fun ac left x => by
    unfold cxC
    by_cases e : eO E ac = 1
    · rw [if_pos e]; exact cif_n (fun e => no _ _ e.2)
    · rw [if_neg e, sumN_0 (fun z _ _ => cy ac left x z)]; exact cif_00
  refine sumN_0 (fun h _ _ => ?_)
  unfold chC
  by_cases l : iLf A h
  · rw [cif_y l]; exact cif_n (fun e => no _ _ e.2)
  · rw [cif_n l, sumN_0 (fun z _ _ => cx _ _ z)]; exact cif_00
end CNTS
/-! what is known of whole levels -/
def CQ (E : EV) (W : Int → Int → Int → VW) (pts : Int) (A : AD) (n : Nat) : Prop := (1 ≤ n ∧ n ≤ 12) ∧ (∀ m : Nat, m ≤ n → GT E W pts A m (LV E W pts A m)) ∧ lvK E W pts A n ∧ VA E A pts ∧ acE E ∧ (1 ≤ A.1 ∧ A.1 ≤ 3 ∧ 0 ≤ A.2.2.2.1 ∧ A.2.2.2.1 ≤ 12)
theorem CQ_le {E : EV} {W : Int → Int → Int → VW} {pts : Int} {A : AD} {n m : Nat} (c : CQ E W pts A n) (m1 : 1 ≤ m) (l : m ≤ n) : CQ E W pts A m := ⟨⟨m1, Nat.le_trans l c.1.2⟩, fun k z => c.2.1 k (Nat.le_trans z l), fun k z => c.2.2.1 k (Nat.le_trans z l), c.2.2.2⟩
section CQS
variable {E : EV} {W : Int → Int → Int → VW} {pts : Int} {A : AD} {n : Nat} {T : TB}
theorem ct_hi (cq : CQ E W pts A n) {i f : Int} (l : i ≤ n) (k : (LV E W pts A n).1 ≤ f) : ct E W pts A i f = 0 := by
  by_cases i1 : 1 ≤ i
  · have ei : i = ((i.toNat : Nat) : Int) := by omega
    have x := ext_LV (E := E) (W := W) (pts := pts) (A := A) (a := i.toNat) n (by omega)
    have n12 := cq.1.2
    rw [ei, ct_row (ppA_V cq.2.2.2.1) (by omega) (by omega)]
    exact rowC_hi (LV_0 _) (Int.le_trans x.1 k)
  · exact ct_n (by omega)
/-- what is counted is of the levels, and of no greater price -/
theorem ct_sup (cq : CQ E W pts A n) {i f : Int} (f0 : 0 ≤ f) (l : i ≤ n) (h : ct E W pts A i f ≠ 0) : 1 ≤ i ∧ f < (LV E W pts A n).1 ∧ 1 ≤ (LV E W pts A n).2.2.1 f ∧ (LV E W pts A n).2.2.1 f ≤ i := by
  have i1 : 1 ≤ i := by
    by_cases z : 1 ≤ i
    · exact z
    · exact absurd (ct_n (by omega)) h
  have ei : ((i.toNat : Nat) : Int) = i := by omega
  have n12 := cq.1.2
  have x := ext_LV (E := E) (W := W) (pts := pts) (A := A) (a := i.toNat) n (by omega)
  have fl : f < (LV E W pts A i.toNat).1 := by
    by_cases z : f < (LV E W pts A i.toNat).1
    · exact z
    · refine absurd (ct_hi (CQ_le (m := i.toNat) cq (by omega) (by omega)) (by omega) (by omega)) h
  have g := (cq.2.1 i.toNat (by omega)).2.1 f f0 fl
  have q := x.2 f f0 fl
  exact ⟨i1, Int.lt_of_lt_of_le fl x.1, by rw [q.2.1]; exact g.1, by rw [q.2.1]; omega⟩
theorem w2_sup (cq : CQ E W pts A n) {left x y : Int} (x0 : 0 ≤ x) (y0 : 0 ≤ y) (l : left ≤ n) (h : w2C (ct E W pts A) left x y ≠ 0) : x < (LV E W pts A n).1 ∧ y < (LV E W pts A n).1 ∧ 1 ≤ (LV E W pts A n).2.2.1 x ∧ 1 ≤ (LV E W pts A n).2.2.1 y ∧ (LV E W pts A n).2.2.1 x + (LV E W pts A n).2.2.1 y ≤ left := by
  obtain ⟨j, j0, j1, j2⟩ := sumN_nz h
  have m := mul_nz j2
  have a := ct_sup cq x0 (by omega) m.1
  have b := ct_sup cq y0 (by omega) m.2
  exact ⟨a.2.1, b.2.1, a.2.2.1, b.2.2.1, by omega⟩
theorem w3_sup (cq : CQ E W pts A n) {left x y z : Int} (x0 : 0 ≤ x) (y0 : 0 ≤ y) (z0 : 0 ≤ z) (l : left ≤ n) (h : w3C (ct E W pts A) left x y z ≠ 0) : x < (LV E W pts A n).1 ∧ y < (LV E W pts A n).1 ∧ z < (LV E W pts A n).1 ∧ 1 ≤ (LV E W pts A n).2.2.1 x ∧ 1 ≤ (LV E W pts A n).2.2.1 y ∧ 1 ≤ (LV E W pts A n).2.2.1 z ∧ (LV E W pts A n).2.2.1 x + (LV E W pts A n).2.2.1 y + (LV E W pts A n).2.2.1 z ≤ left := by
  obtain ⟨j, j0, j1, j2⟩ := sumN_nz h
  have m := mul_nz j2
  have a := ct_sup cq x0 (by omega) m.1
  have b := w2_sup cq y0 z0 (by omega) m.2
  exact ⟨a.2.1, b.1, b.2.1, a.2.2.1, b.2.2.1, b.2.2.2.1, by omega⟩
/-- what an act makes of functions of the levels is there -/
theorem ac_has (cq : CQ E W pts A n) {k ac x y z : Int} (k0 : 0 ≤ k ∧ k < A.2.2.2.1) (ka : A.2.2.2.2.1 k = ac) (an : ac ≠ -1) (ar : arT E (LV E W pts A n) (LV E W pts A n).1 ac x y z) (s : A.2.2.2.2.2.2.2 k + (LV E W pts A n).2.2.1 x + wO (LV E W pts A n) y + wO (LV E W pts A n) z ≤ n) : hasT pts (LV E W pts A n) (eK E ac (eO E ac)) (mkV E W (LV E W pts A n).2.2.2.2.2 ac x y z) := by
  have g := (cq.2.1 n (Nat.le_refl _)).2.2.2.2
  exact g _ _ (A.1 + k) (op3 x y z) _ s (Or.inr (Or.inr ⟨k, x, y, z, k0.1, k0.2, rfl, by rw [ka]; exact an, by rw [ka], rfl, by rw [ka]; exact ar, rfl, by rw [ka]; exact eqV_r _⟩))
theorem lf_has (cq : CQ E W pts A n) {h : Int} (h0 : 0 ≤ h) (h1 : h < A.1 + A.2.2.2.1) (l : iLf A h) (p : prL A h ≤ n) : hasT pts (LV E W pts A n) (lkA A h) (lvA A h) := by
  have g := (cq.2.1 n (Nat.le_refl _)).2.2.2.2
  by_cases y : h < A.1
  · have pe : prL A h = 1 := if_pos y
    have ke : lkA A h = A.2.1 h := if_pos y
    refine g 1 _ h (op3 (-1) (-1) (-1)) _ (by omega) (Or.inl ⟨h0, y, ke, rfl, rfl, fun p _ _ => ?_⟩)
    exact if_pos y
  · have pe : prL A h = A.2.2.2.2.2.2.2 (h - A.1) := if_neg y
    have ke : lkA A h = A.2.2.2.2.2.1 (h - A.1) := if_neg y
    refine g (prL A h) _ h (op3 (-1) (-1) (-1)) _ p (Or.inr (Or.inl ⟨h - A.1, by omega, by omega, by omega, ?_, ke, pe, rfl, fun p _ _ => ?_⟩))
    · rcases l with l | l
      · omega
      · exact l
    · exact if_neg y
theorem ixC_e (cq : CQ E W pts A n) {ac x y z : Int} (ex : extT (LV E W pts A n) T) (d : dsT pts T) (b : x < (LV E W pts A n).1 ∧ y < (LV E W pts A n).1 ∧ z < (LV E W pts A n).1) (h : hasT pts (LV E W pts A n) (eK E ac (eO E ac)) (mkV E W (LV E W pts A n).2.2.2.2.2 ac x y z)) : ixC E W pts T ac x y z = ixC E W pts (LV E W pts A n) ac x y z := by
  have e : mkV E W T.2.2.2.2.2 ac x y z = mkV E W (LV E W pts A n).2.2.2.2.2 ac x y z := funext fun p => mkV_e ex b
  unfold ixC
  rw [e]
  exact ixT_e ex d h
end CQS

