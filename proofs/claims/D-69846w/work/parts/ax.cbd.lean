/-! how many terms there are at most -/
def bBl : List Int := [0, 15, 195, 5055, 171375, 5912115, 217776795, 8392053255, 332262327975, 13455838593915, 554878017651795, 23214301588866255, 982944732549134175]
def bB (q : Int) : Int := if q < 0 then 0 else bBl.getD q.toNat 0
def bXn (l : Int) : Int := bB l + t2C bB l + t3C bB l
theorem bX_le : ∀ m : Nat, m < 13 → ∀ l : Nat, l < m → 15 + 12 * bXn l ≤ bB m := by decide +kernel
theorem bB_0' : ∀ m : Nat, m < 13 → 0 ≤ bB m ∧ bB m ≤ 982944732549134175 := by decide +kernel
theorem bB_0 {q : Int} (l : q ≤ 12) : 0 ≤ bB q ∧ bB q ≤ 982944732549134175 := by
  by_cases n : q < 0
  · have e : bB q = 0 := if_pos n
    rw [e]; decide
  · have := bB_0' q.toNat (by omega)
    rw [show ((q.toNat : Nat) : Int) = q by omega] at this
    exact this
theorem sumN_t {f : Int → Int} {i : Int} (h : ∀ j, 0 ≤ j → 0 ≤ f j) : ∀ {n : Nat}, 0 ≤ i → i < (n : Int) → f i ≤ sumN f n
  | 0, a, b => by omega
  | n + 1, a, b => by
    show f i ≤ sumN f n + f n
    by_cases y : i = n
    · have := sumN_n h n; rw [y]; omega
    · have := sumN_t h (n := n) a (by omega)
      have := h n (by omega)
      omega
theorem sumN_kb {f : Int → Int} {k : Int} : ∀ n : Nat, (∀ j, 0 ≤ j → j < (n : Int) → f j ≤ k) → sumN f n ≤ n * k
  | 0, _ => by show (0 : Int) ≤ ((0 : Nat) : Int) * k; rw [show ((0 : Nat) : Int) = 0 from rfl, Int.zero_mul]; exact Int.le_refl _
  | n + 1, h => by
    have a := sumN_kb (f := f) (k := k) n (fun j p q => h j p (by omega))
    have b := h n (by omega) (by omega)
    show sumN f n + f n ≤ _
    rw [show ((n + 1 : Nat) : Int) = (n : Int) + 1 by omega, Int.add_mul, Int.one_mul]
    omega
theorem sum_hd {f : Int → Int} {a X : Int} (a0 : 0 ≤ a) (h1 : ∀ h, 0 ≤ h → h < a → f h ≤ 1) : ∀ b : Nat, (∀ h, a ≤ h → h < a + b → f h ≤ 1 + X) → sumN f (a + b).toNat ≤ a + b * (1 + X)
  | 0, _ => by
    have := sumN_kb (f := f) (k := 1) a.toNat (fun j p q => h1 j p (by omega))
    rw [show (a + ((0 : Nat) : Int)).toNat = a.toNat by omega, show ((0 : Nat) : Int) = 0 from rfl, Int.zero_mul]
    omega
  | b + 1, h => by
    have i := sum_hd (X := X) a0 h1 b (fun j p q => h j p (by omega))
    have z := h (a + b) (by omega) (by omega)
    rw [show (a + ((b + 1 : Nat) : Int)).toNat = (a + b).toNat + 1 by omega]
    show sumN f (a + b).toNat + f (((a + b).toNat : Nat) : Int) ≤ _
    rw [show (((a + (b : Int)).toNat : Nat) : Int) = a + b by omega, show ((b + 1 : Nat) : Int) = (b : Int) + 1 by omega, Int.add_mul, Int.one_mul]
    omega
theorem mul_le2 {a b x y : Int} (a0 : 0 ≤ a) (b0 : 0 ≤ b) (l : a ≤ x) (k : b ≤ y) : a * b ≤ x * y := Int.le_trans (Int.mul_le_mul_of_nonneg_right l b0) (Int.mul_le_mul_of_nonneg_left k (Int.le_trans a0 l))
theorem t2C_le {t b : Int → Int} {left : Int} (t0 : ∀ i, 0 ≤ t i) (h : ∀ i, i ≤ left → t i ≤ b i) : t2C t left ≤ t2C b left := sumN_le (fun i i0 i1 => mul_le2 (t0 _) (t0 _) (h _ (by omega)) (h _ (by omega)))
theorem t2C_0 {t : Int → Int} {left : Int} (t0 : ∀ i, 0 ≤ t i) : 0 ≤ t2C t left := sumN_n (fun _ _ => Int.mul_nonneg (t0 _) (t0 _)) _
theorem t3C_le {t b : Int → Int} {left : Int} (t0 : ∀ i, 0 ≤ t i) (h : ∀ i, i ≤ left → t i ≤ b i) : t3C t left ≤ t3C b left := sumN_le (fun i i0 i1 => mul_le2 (t0 _) (t2C_0 t0) (h _ (by omega)) (t2C_le t0 (fun j l => h j (by omega))))
theorem t3C_0 {t : Int → Int} {left : Int} (t0 : ∀ i, 0 ≤ t i) : 0 ≤ t3C t left := sumN_n (fun _ _ => Int.mul_nonneg (t0 _) (t2C_0 t0)) _
section ALLC
variable {E : EV} {W : Int → Int → Int → VW} {pts : Int} {A : AD} {T : TB} {c : Int → Int → Int} {ac left q h : Int}
theorem cif_le {P : Prop} {v : Int} (v0 : 0 ≤ v) : cif P v 0 ≤ v := by
  by_cases h : P
  · rw [cif_y h]; exact Int.le_refl _
  · rw [cif_n h]; exact v0
theorem cz_all (c0 : ∀ i f, 0 ≤ c i f) (x y z : Int) (m : Nat) : sumN (fun f => czC E W pts T c ac left x y f z) m ≤ w3C c left x y z := sumN_one (w3C_0 c0 _ _ _ _) m
theorem cy_all (c0 : ∀ i f, 0 ≤ c i f) (x y : Int) (m : Nat) : sumN (fun f => cyC E W pts T c ac left x f y) m ≤ if eO E ac = 2 then w2C c left x y else sumN (fun z => w3C c left x y z) T.1.toNat := by
  by_cases e : eO E ac = 2
  · rw [if_pos e]
    have e2 : sumN (fun f => cyC E W pts T c ac left x f y) m = sumN (fun f => cif (T.2.1 y = eK E ac 1 ∧ ixC E W pts T ac x y (-1) = f) (w2C c left x y) 0) m := sumN_c (fun f _ _ => by unfold cyC; rw [if_pos e])
    rw [e2]
    exact sumN_one (w2C_0 c0 _ _ _) m
  · rw [if_neg e]
    have e2 : sumN (fun f => cyC E W pts T c ac left x f y) m ≤ sumN (fun f => sumN (fun z => czC E W pts T c ac left x y f z) T.1.toNat) m := sumN_le (fun f _ _ => by unfold cyC; rw [if_neg e]; exact cif_le (sumN_n (fun _ _ => czC_0 c0) _))
    rw [sumN_sw (fun f z => czC E W pts T c ac left x y f z) T.1.toNat m] at e2
    exact Int.le_trans e2 (sumN_le (fun z _ _ => cz_all c0 x y z m))
theorem cx_all (c0 : ∀ i f, 0 ≤ c i f) (x : Int) (m : Nat) : sumN (fun f => cxC E W pts T c ac left f x) m ≤ if eO E ac = 1 then c left x else if eO E ac = 2 then sumN (fun y => w2C c left x y) T.1.toNat else sumN (fun y => sumN (fun z => w3C c left x y z) T.1.toNat) T.1.toNat := by
  by_cases e : eO E ac = 1
  · rw [if_pos e]
    have e2 : sumN (fun f => cxC E W pts T c ac left f x) m = sumN (fun f => cif (T.2.1 x = eK E ac 0 ∧ ixC E W pts T ac x (-1) (-1) = f) (c left x) 0) m := sumN_c (fun f _ _ => by unfold cxC; rw [if_pos e])
    rw [e2]
    exact sumN_one (c0 _ _) m
  · rw [if_neg e]
    have e2 : sumN (fun f => cxC E W pts T c ac left f x) m ≤ sumN (fun f => sumN (fun y => cyC E W pts T c ac left x f y) T.1.toNat) m := sumN_le (fun f _ _ => by unfold cxC; rw [if_neg e]; exact cif_le (sumN_n (fun _ _ => cyC_0 c0) _))
    rw [sumN_sw (fun f y => cyC E W pts T c ac left x f y) T.1.toNat m] at e2
    refine Int.le_trans e2 ?_
    by_cases k : eO E ac = 2
    · rw [if_pos k]
      refine sumN_le (fun y _ _ => ?_)
      have := cy_all (E := E) (W := W) (pts := pts) (T := T) (ac := ac) (left := left) c0 x y m
      rw [if_pos k] at this
      exact this
    · rw [if_neg k]
      refine sumN_le (fun y _ _ => ?_)
      have := cy_all (E := E) (W := W) (pts := pts) (T := T) (ac := ac) (left := left) c0 x y m
      rw [if_neg k] at this
      exact this
theorem sumN_120 {f : Int → Int} {t : Int} (h : ∀ j, 0 ≤ j → 0 ≤ f j) (l : t ≤ 120) : sumN f t.toNat ≤ sumN f 120 := sumN_m h (by omega)
theorem ac_all (c0 : ∀ i f, 0 ≤ c i f) (n : T.1 ≤ 120) (m : Nat) : sumN (fun f => sumN (cxC E W pts T c ac left f) T.1.toNat) m ≤ t1C c 120 left + t2C (t1C c 120) left + t3C (t1C c 120) left := by
  rw [sumN_sw (fun f x => cxC E W pts T c ac left f x) T.1.toNat m]
  have p1 : 0 ≤ t1C c 120 left := sumN_n (fun _ _ => c0 _ _) _
  have p2 : 0 ≤ t2C (t1C c 120) left := t2C_0 (fun i => sumN_n (fun _ _ => c0 _ _) _)
  have p3 : 0 ≤ t3C (t1C c 120) left := t3C_0 (fun i => sumN_n (fun _ _ => c0 _ _) _)
  have g := fun x => cx_all (E := E) (W := W) (pts := pts) (T := T) (ac := ac) (left := left) c0 x m
  have s := sumN_le (f := fun x => sumN (fun f => cxC E W pts T c ac left f x) m) (n := T.1.toNat) (fun x _ _ => g x)
  refine Int.le_trans s ?_
  have w20 : ∀ x y, 0 ≤ w2C c left x y := w2C_0 c0 left
  have w30 : ∀ x y z, 0 ≤ w3C c left x y z := w3C_0 c0 left
  by_cases e : eO E ac = 1
  · have q : sumN (fun x => if eO E ac = 1 then c left x else if eO E ac = 2 then sumN (fun y => w2C c left x y) T.1.toNat else sumN (fun y => sumN (fun z => w3C c left x y z) T.1.toNat) T.1.toNat) T.1.toNat = sumN (fun x => c left x) T.1.toNat := sumN_c (fun x _ _ => if_pos e)
    rw [q]
    have := sumN_120 (f := fun x => c left x) (t := T.1) (fun _ _ => c0 _ _) n
    have : t1C c 120 left = sumN (fun x => c left x) 120 := rfl
    omega
  · by_cases k : eO E ac = 2
    · have q : sumN (fun x => if eO E ac = 1 then c left x else if eO E ac = 2 then sumN (fun y => w2C c left x y) T.1.toNat else sumN (fun y => sumN (fun z => w3C c left x y z) T.1.toNat) T.1.toNat) T.1.toNat ≤ sumN (fun x => sumN (fun y => w2C c left x y) 120) 120 := by
        refine Int.le_trans (sumN_le (g := fun x => sumN (fun y => w2C c left x y) 120) (fun x _ _ => ?_)) (sumN_120 (fun x _ => sumN_n (fun _ _ => w20 _ _) _) n)
        rw [if_neg e, if_pos k]
        exact sumN_120 (fun _ _ => w20 _ _) n
      rw [w2_all c 120 left] at q
      omega
    · have q : sumN (fun x => if eO E ac = 1 then c left x else if eO E ac = 2 then sumN (fun y => w2C c left x y) T.1.toNat else sumN (fun y => sumN (fun z => w3C c left x y z) T.1.toNat) T.1.toNat) T.1.toNat ≤ sumN (fun x => sumN (fun y => sumN (fun z => w3C c left x y z) 120) 120) 120 := by
        refine Int.le_trans (sumN_le (g := fun x => sumN (fun y => sumN (fun z => w3C c left x y z) 120) 120) (fun x _ _ => ?_)) (sumN_120 (fun x _ => sumN_n (fun _ _ => sumN_n (fun _ _ => w30 _ _ _) _) _) n)
        rw [if_neg e, if_neg k]
        refine Int.le_trans (sumN_le (g := fun y => sumN (fun z => w3C c left x y z) 120) (fun y _ _ => sumN_120 (fun _ _ => w30 _ _ _) n)) (sumN_120 (fun y _ => sumN_n (fun _ _ => w30 _ _ _) _) n)
      rw [w3_all c 120 left] at q
      omega
end ALLC
section TTB
variable {E : EV} {W : Int → Int → Int → VW} {pts : Int} {A : AD} {n : Nat}
theorem tt_0 (q : Int) : 0 ≤ t1C (ct E W pts A) 120 q := sumN_n (fun _ _ => ct_0 _ _) _
theorem tt_b (cq : CQ E W pts A n) : ∀ m : Nat, m ≤ n → ∀ q : Int, q ≤ m → t1C (ct E W pts A) 120 q ≤ bB q := by
  intro m
  induction m with
  | zero =>
    intro _ q l
    have e : t1C (ct E W pts A) 120 q = 0 := sumN_0 (fun _ _ _ => ct_n (by omega))
    have n12 := cq.1.2
    rw [e]
    exact (bB_0 (by omega)).1
  | succ m ih =>
    intro l q l2
    by_cases y : q ≤ m
    · exact ih (by omega) q y
    · have eq : q = ((m + 1 : Nat) : Int) := by omega
      have n12 := cq.1.2
      have A3 := cq.2.2.2.2.2
      have pp := ppA_V cq.2.2.2.1
      rw [eq]
      have e1 : t1C (ct E W pts A) 120 ((m + 1 : Nat) : Int) = sumN (fun f => rowC E W pts A (LV E W pts A (m + 1)) (ct E W pts A) ((m + 1 : Nat) : Int) f) 120 := sumN_c (fun f _ _ => ct_row pp (by omega) (by omega))
      have N1 := cq.2.2.1 (m + 1) l
      have IX : ∀ i, i ≤ (m : Int) → t1C (ct E W pts A) 120 i ≤ bB i := fun i z => ih (by omega) i z
      rw [e1]
      show sumN (fun f => sumN (fun h => chC E W pts A (LV E W pts A (m + 1)) (ct E W pts A) ((m + 1 : Nat) : Int) f h) (A.1 + A.2.2.2.1).toNat) 120 ≤ _
      rw [sumN_sw (fun f h => chC E W pts A (LV E W pts A (m + 1)) (ct E W pts A) ((m + 1 : Nat) : Int) f h) (A.1 + A.2.2.2.1).toNat 120]
      have bx0 : ∀ l : Nat, l < m + 1 → 0 ≤ bXn l := fun l z => by
        have a := (bB_0 (q := (l : Int)) (by omega)).1
        have b := t2C_le (t := fun _ => 0) (b := bB) (left := (l : Int)) (fun _ => Int.le_refl _) (fun i z => (bB_0 (by omega)).1)
        have c := t3C_le (t := fun _ => 0) (b := bB) (left := (l : Int)) (fun _ => Int.le_refl _) (fun i z => (bB_0 (by omega)).1)
        have b0 := t2C_0 (t := fun _ => 0) (left := (l : Int)) (fun _ => Int.le_refl _)
        have c0 := t3C_0 (t := fun _ => 0) (left := (l : Int)) (fun _ => Int.le_refl _)
        unfold bXn
        omega
      have hm := bX_le (m + 1) (by omega)
      have X0 : 0 ≤ bB ((m + 1 : Nat) : Int) - 15 := by have := hm 0 (by omega); have := bx0 0 (by omega); omega
      have step : ∀ h, A.1 ≤ h → h < A.1 + ((A.2.2.2.1.toNat : Nat) : Int) → sumN (fun f => chC E W pts A (LV E W pts A (m + 1)) (ct E W pts A) ((m + 1 : Nat) : Int) f h) 120 ≤ 1 + (bB ((m + 1 : Nat) : Int) - 15) / 12 := by
        intro h h0 h1
        by_cases lf : iLf A h
        · have e : sumN (fun f => chC E W pts A (LV E W pts A (m + 1)) (ct E W pts A) ((m + 1 : Nat) : Int) f h) 120 = sumN (fun f => cif (prL A h = ((m + 1 : Nat) : Int) ∧ ixL pts A (LV E W pts A (m + 1)) h = f) 1 0) 120 := sumN_c (fun f _ _ => by unfold chC; rw [cif_y lf])
          have := sumN_one (P := prL A h = ((m + 1 : Nat) : Int)) (v := ixL pts A (LV E W pts A (m + 1)) h) (w := 1) (by decide) 120
          rw [e]
          omega
        · by_cases pr : prL A h < ((m + 1 : Nat) : Int)
          · have e : sumN (fun f => chC E W pts A (LV E W pts A (m + 1)) (ct E W pts A) ((m + 1 : Nat) : Int) f h) 120 = sumN (fun f => sumN (cxC E W pts (LV E W pts A (m + 1)) (ct E W pts A) (A.2.2.2.2.1 (h - A.1)) (((m + 1 : Nat) : Int) - prL A h) f) (LV E W pts A (m + 1)).1.toNat) 120 := sumN_c (fun f _ _ => by unfold chC; rw [cif_n lf, cif_y pr])
            have pr1 : 1 ≤ prL A h := by
              unfold prL
              rw [if_neg (by omega)]
              exact pp _ (by omega) (by omega)
            have g := ac_all (E := E) (W := W) (pts := pts) (T := LV E W pts A (m + 1)) (ac := A.2.2.2.2.1 (h - A.1)) (left := ((m + 1 : Nat) : Int) - prL A h) (c := ct E W pts A) ct_0 N1 120
            rw [e]
            have el : ((m + 1 : Nat) : Int) - prL A h = (((((m + 1 : Nat) : Int) - prL A h).toNat : Nat) : Int) := by omega
            generalize (((m + 1 : Nat) : Int) - prL A h).toNat = lf2 at el
            have h2 := hm lf2 (by omega)
            have a1 := IX ((m + 1 : Nat) - prL A h) (by omega)
            have a2 := t2C_le (t := t1C (ct E W pts A) 120) (b := bB) (left := ((m + 1 : Nat) : Int) - prL A h) tt_0 (fun i z => IX i (by omega))
            have a3 := t3C_le (t := t1C (ct E W pts A) 120) (b := bB) (left := ((m + 1 : Nat) : Int) - prL A h) tt_0 (fun i z => IX i (by omega))
            rw [el] at g a1 a2 a3
            have ex : bXn (lf2 : Int) = bB lf2 + t2C bB lf2 + t3C bB lf2 := rfl
            rw [el]
            omega
          · have e : sumN (fun f => chC E W pts A (LV E W pts A (m + 1)) (ct E W pts A) ((m + 1 : Nat) : Int) f h) 120 = 0 := sumN_0 (fun f _ _ => by unfold chC; rw [cif_n lf, cif_n pr])
            rw [e]
            omega
      have one : ∀ h, 0 ≤ h → h < A.1 → sumN (fun f => chC E W pts A (LV E W pts A (m + 1)) (ct E W pts A) ((m + 1 : Nat) : Int) f h) 120 ≤ 1 := fun h h0 h1 => by
        have lf : iLf A h := Or.inl h1
        have e : sumN (fun f => chC E W pts A (LV E W pts A (m + 1)) (ct E W pts A) ((m + 1 : Nat) : Int) f h) 120 = sumN (fun f => cif (prL A h = ((m + 1 : Nat) : Int) ∧ ixL pts A (LV E W pts A (m + 1)) h = f) 1 0) 120 := sumN_c (fun f _ _ => by unfold chC; rw [cif_y lf])
        rw [e]
        exact sumN_one (by decide) 120
      have g := sum_hd (f := fun h => sumN (fun f => chC E W pts A (LV E W pts A (m + 1)) (ct E W pts A) ((m + 1 : Nat) : Int) f h) 120) (X := (bB ((m + 1 : Nat) : Int) - 15) / 12) (a := A.1) (by omega) one A.2.2.2.1.toNat step
      rw [show A.1 + ((A.2.2.2.1.toNat : Nat) : Int) = A.1 + A.2.2.2.1 by omega] at g
      refine Int.le_trans g ?_
      have d0 : 0 ≤ (bB ((m + 1 : Nat) : Int) - 15) / 12 := by omega
      have mm : ((A.2.2.2.1.toNat : Nat) : Int) * (1 + (bB ((m + 1 : Nat) : Int) - 15) / 12) ≤ 12 * (1 + (bB ((m + 1 : Nat) : Int) - 15) / 12) := Int.mul_le_mul_of_nonneg_right (by omega) (by omega)
      omega
theorem tt_B (cq : CQ E W pts A n) {q : Int} (l : q ≤ n) : t1C (ct E W pts A) 120 q ≤ 982944732549134175 := by
  have n12 := cq.1.2
  have a := tt_b cq n (Nat.le_refl _) q l
  have b := (bB_0 (q := q) (by omega)).2
  omega
theorem ct_b (cq : CQ E W pts A n) {q f : Int} (l : q ≤ n) (f0 : 0 ≤ f) : ct E W pts A q f ≤ 982944732549134175 := by
  by_cases y : ct E W pts A q f = 0
  · rw [y]; decide
  · have s := ct_sup cq f0 l y
    have N := cq.2.2.1 n (Nat.le_refl _)
    have a := sumN_t (f := ct E W pts A q) (i := f) (n := 120) (fun _ _ => ct_0 _ _) f0 (by omega)
    have b := tt_B cq l
    have : t1C (ct E W pts A) 120 q = sumN (ct E W pts A q) 120 := rfl
    omega
theorem w2_b (cq : CQ E W pts A n) {left x y : Int} (l : left < n) (x0 : 0 ≤ x) (y0 : 0 ≤ y) : w2C (ct E W pts A) left x y ≤ 982944732549134175 := by
  by_cases z : w2C (ct E W pts A) left x y = 0
  · rw [z]; decide
  · have s := w2_sup cq x0 y0 (by omega) z
    have N := cq.2.2.1 n (Nat.le_refl _)
    have n12 := cq.1.2
    have a := sumN_t (f := fun y => w2C (ct E W pts A) left x y) (i := y) (n := 120) (fun _ _ => w2C_0 ct_0 _ _ _) y0 (by omega)
    have b := sumN_t (f := fun x => sumN (fun y => w2C (ct E W pts A) left x y) 120) (i := x) (n := 120) (fun _ _ => sumN_n (fun _ _ => w2C_0 ct_0 _ _ _) _) x0 (by omega)
    have b2 : sumN (fun x => sumN (fun y => w2C (ct E W pts A) left x y) 120) 120 = t2C (t1C (ct E W pts A) 120) left := w2_all _ _ _
    have c := t2C_le (t := t1C (ct E W pts A) 120) (b := bB) (left := left) tt_0 (fun i z => tt_b cq n (Nat.le_refl _) i (by omega))
    have left0 : 0 < left := by omega
    have h := bX_le 12 (by decide) left.toNat (by omega)
    have el : ((left.toNat : Nat) : Int) = left := by omega
    rw [el] at h
    have e12 : bB ((12 : Nat) : Int) = 982944732549134175 := by decide +kernel
    have p1 := (bB_0 (q := left) (by omega)).1
    have p3 := t3C_0 (t := t1C (ct E W pts A) 120) (left := left) tt_0
    have p4 := t3C_le (t := t1C (ct E W pts A) 120) (b := bB) (left := left) tt_0 (fun i z => tt_b cq n (Nat.le_refl _) i (by omega))
    have ex : bXn left = bB left + t2C bB left + t3C bB left := rfl
    try dsimp only at a b
    omega
theorem w3_b (cq : CQ E W pts A n) {left x y z : Int} (l : left < n) (x0 : 0 ≤ x) (y0 : 0 ≤ y) (z0 : 0 ≤ z) : w3C (ct E W pts A) left x y z ≤ 982944732549134175 := by
  by_cases u : w3C (ct E W pts A) left x y z = 0
  · rw [u]; decide
  · have s := w3_sup cq x0 y0 z0 (by omega) u
    have N := cq.2.2.1 n (Nat.le_refl _)
    have n12 := cq.1.2
    have w30 : ∀ x y z, 0 ≤ w3C (ct E W pts A) left x y z := w3C_0 ct_0 left
    have a := sumN_t (f := fun z => w3C (ct E W pts A) left x y z) (i := z) (n := 120) (fun _ _ => w30 _ _ _) z0 (by omega)
    have b := sumN_t (f := fun y => sumN (fun z => w3C (ct E W pts A) left x y z) 120) (i := y) (n := 120) (fun _ _ => sumN_n (fun _ _ => w30 _ _ _) _) y0 (by omega)
    have b3 := sumN_t (f := fun x => sumN (fun y => sumN (fun z => w3C (ct E W pts A) left x y z) 120) 120) (i := x) (n := 120) (fun _ _ => sumN_n (fun _ _ => sumN_n (fun _ _ => w30 _ _ _) _) _) x0 (by omega)
    have b2 : sumN (fun x => sumN (fun y => sumN (fun z => w3C (ct E W pts A) left x y z) 120) 120) 120 = t3C (t1C (ct E W pts A) 120) left := w3_all _ _ _
    have left0 : 0 < left := by omega
    have h := bX_le 12 (by decide) left.toNat (by omega)
    have el : ((left.toNat : Nat) : Int) = left := by omega
    rw [el] at h
    have e12 : bB ((12 : Nat) : Int) = 982944732549134175 := by decide +kernel
    have p1 := (bB_0 (q := left) (by omega)).1
    have p3 := t2C_0 (t := t1C (ct E W pts A) 120) (left := left) tt_0
    have p5 := t2C_le (t := t1C (ct E W pts A) 120) (b := bB) (left := left) tt_0 (fun i z => tt_b cq n (Nat.le_refl _) i (by omega))
    have p4 := t3C_le (t := t1C (ct E W pts A) 120) (b := bB) (left := left) tt_0 (fun i z => tt_b cq n (Nat.le_refl _) i (by omega))
    have ex : bXn left = bB left + t2C bB left + t3C bB left := rfl
    try dsimp only at a b b3
    omega
end TTB
theorem w64_a {a b : Int} : w64 (w64 a + w64 b) = w64 (a + b) := by unfold w64; omega
theorem w64_al {a b : Int} : w64 (w64 a + b) = w64 (a + b) := by unfold w64; omega

