/-! what terms answer: a value, and how many acts were worked for it -/
abbrev VW : Type := Int × Int
def gv : List VW → Nat → VW
  | [], _ => (0, 0)
  | x :: _, 0 => x
  | _ :: l, k + 1 => gv l k
section EVAL
variable (W : Int → Int → Int → VW) (f : Int → Int → Int → Int) (p hl : Int → Int)
def evS (i : NI) (x y z : VW) : VW := if x.1 = -1 ∨ y.1 = -1 ∨ z.1 = -1 then (-1, x.2 + y.2 + z.2 + 1) else if i.1 = 4 then (f x.1 y.1 z.1, x.2 + y.2 + z.2 + 1) else ((W i.2.1 x.1 y.1).1, x.2 + y.2 + z.2 + 1 + (W i.2.1 x.1 y.1).2)
def evC (x y z : VW) : VW := if x.1 = -1 then (-1, x.2 + 1) else if x.1 = 1 then (y.1, x.2 + 1 + y.2) else (z.1, x.2 + 1 + z.2)
def evN (i : NI) (l : List VW) : VW := if i.1 = 0 then (p i.2.1, 0) else if i.1 = 1 then (i.2.1, 0) else if i.1 = 3 then (hl i.2.1, 0) else if i.1 = 2 ∧ (i.2.1 = 15 ∨ i.2.1 = 16) then evC (gv l 0) (gv l 1) (gv l 2) else evS W f i (gv l 0) (gv l 1) (gv l 2)
def evK : TR → List VW
  | .leaf _ => []
  | .branch _ k r => evN W f p hl (inf k) (evK k) :: evK r
def evT (t : TR) : VW := evN W f p hl (inf t) (evK W f p hl t)
end EVAL
def kdA : TR → Nat → TR
  | .leaf i, _ => .leaf i
  | .branch _ s _, 0 => s
  | .branch _ _ r, k + 1 => kdA r k
theorem gv_kd {W : Int → Int → Int → VW} {f : Int → Int → Int → Int} {p hl : Int → Int} : ∀ (t : TR) (k : Nat), (k : Int) < nk t → gv (evK W f p hl t) k = evT W f p hl (kdA t k)
  | .leaf i, k, l => by have e : nk (.leaf i) = 0 := rfl; omega
  | .branch b s r, 0, _ => rfl
  | .branch b s r, k + 1, l => gv_kd r k (by have e : nk (.branch b s r) = nk r + 1 := rfl; omega)
theorem gv_no {W : Int → Int → Int → VW} {f : Int → Int → Int → Int} {p hl : Int → Int} : ∀ (t : TR) (k : Nat), nk t ≤ (k : Int) → gv (evK W f p hl t) k = (0, 0)
  | .leaf _, 0, _ => rfl
  | .leaf _, k + 1, _ => rfl
  | .branch b s r, 0, l => by have e : nk (.branch b s r) = nk r + 1 := rfl; have := nk_0 r; omega
  | .branch b s r, k + 1, l => gv_no r k (by have e : nk (.branch b s r) = nk r + 1 := rfl; omega)
/-! terms that are well made: kinds, operands -/
def acI (i : NI) : Int := if i.1 = 4 then -2 else i.2.1
def tyI (E : EV) (np : Int) (kp : Int → Int) (i : NI) (n : Int) : Prop := 0 ≤ i.2.2.1 ∧ i.2.2.1 ≤ 2 ∧ ((i.1 = 0 ∧ n = 0 ∧ 0 ≤ i.2.1 ∧ i.2.1 < np ∧ i.2.2.1 = kp i.2.1) ∨ (i.1 = 1 ∧ n = 0 ∧ (i.2.1 = -1 ∨ vlR i.2.2.1 i.2.1)) ∨ (i.1 = 3 ∧ n = 0 ∧ 0 ≤ i.2.1 ∧ i.2.1 ≤ 2 ∧ i.2.2.1 = 0) ∨ (i.1 = 2 ∧ 0 ≤ i.2.1 ∧ i.2.1 < E.1.1 ∧ n = eO E i.2.1 ∧ i.2.2.1 = eK E i.2.1 (eO E i.2.1)) ∨ (i.1 = 4 ∧ E.2.2.1 = 1 ∧ n = eO E (-2) ∧ i.2.2.1 = eK E (-2) (eO E (-2))))
def tyT (E : EV) (np : Int) (kp : Int → Int) : TR → Int → Prop
  | .leaf i, j => tyI E np kp i j
  | .branch _ s r, j => tyT E np kp s 0 ∧ (inf s).2.2.1 = eK E (acI (inf r)) j ∧ tyT E np kp r (j + 1)
theorem tyT_nd {E : EV} {np : Int} {kp : Int → Int} : ∀ {R : TR} {j : Int}, tyT E np kp R j → tyI E np kp (inf R) (j + nk R)
  | .leaf i, j, t => by rw [show j + nk (.leaf i) = j from Int.add_zero j]; exact t
  | .branch b s r, j, t => by rw [show j + nk (.branch b s r) = j + 1 + nk r by show j + (nk r + 1) = _; omega]; exact tyT_nd (R := r) t.2.2
theorem tyT_kd {E : EV} {np : Int} {kp : Int → Int} : ∀ {R : TR} {j : Int} (k : Nat), tyT E np kp R j → (k : Int) < nk R → tyT E np kp (kdA R k) 0 ∧ (inf (kdA R k)).2.2.1 = eK E (acI (inf R)) (j + k)
  | .leaf i, j, k, _, l => by have e : nk (.leaf i) = 0 := rfl; omega
  | .branch b s r, j, 0, t, _ => ⟨t.1, by rw [show j + ((0 : Nat) : Int) = j from Int.add_zero j]; exact t.2.1⟩
  | .branch b s r, j, k + 1, t, l => by
    have e : nk (.branch b s r) = nk r + 1 := rfl
    have q := tyT_kd (R := r) (j := j + 1) k t.2.2 (by omega)
    rw [show j + ((k + 1 : Nat) : Int) = j + 1 + (k : Int) by omega]
    exact q
/-- how deep acts stand within acts, those of own acts' terms with them -/
def dpE (wA : Int → Int) : TR → Int
  | .leaf i => lwI wA i
  | .branch _ s r => max (dpE wA s + 1) (dpE wA r)
theorem dpE_nd {wA : Int → Int} : ∀ R : TR, lwI wA (inf R) ≤ dpE wA R
  | .leaf _ => Int.le_refl _
  | .branch b s r => by have := dpE_nd (wA := wA) r; show lwI wA (inf r) ≤ max (dpE wA s + 1) (dpE wA r); omega
theorem dpE_kd {wA : Int → Int} : ∀ (R : TR) (k : Nat), (k : Int) < nk R → dpE wA (kdA R k) + 1 ≤ dpE wA R
  | .leaf i, k, l => by have e : nk (.leaf i) = 0 := rfl; omega
  | .branch b s r, 0, _ => by show dpE wA s + 1 ≤ max (dpE wA s + 1) (dpE wA r); omega
  | .branch b s r, k + 1, l => by
    have e : nk (.branch b s r) = nk r + 1 := rfl
    have := dpE_kd (wA := wA) r k (by omega)
    show dpE wA (kdA r k) + 1 ≤ max (dpE wA s + 1) (dpE wA r)
    omega
theorem dpE_wt {wA : Int → Int} {N : Int} (W : ∀ a, 26 ≤ a → 0 ≤ wA a) : ∀ {R : TR}, acR N R → dpE wA R ≤ wtR wA R
  | .leaf _, _ => Int.le_refl _
  | .branch b s r, a => by
    have h1 := dpE_wt W (R := s) a.2.1
    have h2 := dpE_wt W (R := r) a.2.2
    have h3 := wtR_0 W r
    have h4 := wtR_0 W s
    have h5 : 1 ≤ lwI wA (inf r) := by
      unfold lwI
      rcases a.1 with z | z
      · rw [if_pos z]
        by_cases q : 26 ≤ (inf r).2.1
        · rw [if_pos q]; have := W _ q; omega
        · rw [if_neg q]; omega
      · rw [if_neg (by omega), if_pos z]; omega
    show max (dpE wA s + 1) (dpE wA r) ≤ wtR wA s + wtR wA r
    omega
theorem dpE_0 {wA : Int → Int} (W : ∀ a, 26 ≤ a → 0 ≤ wA a) : ∀ R : TR, 0 ≤ dpE wA R
  | .leaf i => (wtR_0 W (.leaf i)).1
  | .branch b s r => by have := dpE_0 W r; show 0 ≤ max (dpE wA s + 1) (dpE wA r); omega
/-! the acts that are there from the start -/
def oB (a : Int) : Int := if a = 12 ∨ a = 18 ∨ a = 21 ∨ a = 22 ∨ a = 24 ∨ a = 25 then 1 else if a = 15 ∨ a = 16 then 3 else 2
def kB (a k : Int) : Int :=
  if a ≤ 9 then 0 else if a = 10 ∨ a = 11 then (if k = 2 then 1 else 0) else if a ≤ 14 then 1 else if a = 15 then (if k = 0 then 1 else 0)
  else if a = 16 then (if k = 0 then 1 else 2) else if a = 17 then 2 else if a = 18 then (if k = 0 then 2 else 0)
  else if a = 19 ∨ a = 20 then (if k = 1 then 0 else 2) else if a = 21 ∨ a = 22 then 2 else if a = 23 then (if k = 2 then 1 else 2)
  else if a = 24 then (if k = 0 then 2 else 0) else (if k = 0 then 0 else 2)
/-- what is known of the acts -/
def acE (E : EV) : Prop := 26 ≤ E.1.1 ∧ E.1.1 ≤ 36 ∧ (∀ a, 0 ≤ a → a < E.1.1 → 1 ≤ eO E a ∧ eO E a ≤ 3 ∧ (26 ≤ a → eO E a ≤ 2) ∧ ∀ k, 0 ≤ k → k ≤ eO E a → 0 ≤ eK E a k ∧ eK E a k ≤ 2) ∧ (∀ a, 0 ≤ a → a < 26 → eO E a = oB a ∧ ∀ k, 0 ≤ k → k ≤ oB a → eK E a k = kB a k) ∧ (E.2.2.1 = 1 → 1 ≤ eO E (-2) ∧ eO E (-2) ≤ 3 ∧ ∀ k, 0 ≤ k → k ≤ eO E (-2) → 0 ≤ eK E (-2) k ∧ eK E (-2) k ≤ 2)
def okV (k v : Int) : Prop := v = -1 ∨ vlR k v
theorem bits16 : ∀ x y : Fin 16, 0 ≤ jand (x.val : Int) y.val ∧ jand (x.val : Int) y.val ≤ 15 ∧ 0 ≤ jor (x.val : Int) y.val ∧ jor (x.val : Int) y.val ≤ 15 ∧ 0 ≤ jxor (x.val : Int) y.val ∧ jxor (x.val : Int) y.val ≤ 15 := by decide +kernel
theorem bits2 : ∀ x y : Fin 2, 0 ≤ jand (x.val : Int) y.val ∧ jand (x.val : Int) y.val ≤ 1 ∧ 0 ≤ jor (x.val : Int) y.val ∧ jor (x.val : Int) y.val ≤ 1 := by decide +kernel
theorem b16 {x y : Int} (hx : 0 ≤ x ∧ x ≤ 15) (hy : 0 ≤ y ∧ y ≤ 15) : 0 ≤ jand x y ∧ jand x y ≤ 15 ∧ 0 ≤ jor x y ∧ jor x y ≤ 15 ∧ 0 ≤ jxor x y ∧ jxor x y ≤ 15 := by
  have h := bits16 ⟨x.toNat, by omega⟩ ⟨y.toNat, by omega⟩
  have ex : ((x.toNat : Nat) : Int) = x := by omega
  have ey : ((y.toNat : Nat) : Int) = y := by omega
  simp only [ex, ey] at h
  exact h
theorem b2 {x y : Int} (hx : 0 ≤ x ∧ x ≤ 1) (hy : 0 ≤ y ∧ y ≤ 1) : 0 ≤ jand x y ∧ jand x y ≤ 1 ∧ 0 ≤ jor x y ∧ jor x y ≤ 1 := by
  have h := bits2 ⟨x.toNat, by omega⟩ ⟨y.toNat, by omega⟩
  have ex : ((x.toNat : Nat) : Int) = x := by omega
  have ey : ((y.toNat : Nat) : Int) = y := by omega
  simp only [ex, ey] at h
  exact h
theorem wtu6 {v : Int} (h : 0 ≤ v ∧ v < 387420489) : 0 ≤ wtu 6 0 v ∧ wtu 6 0 v < 387420489 := wtu_r 6 0 v (by decide) (by decide) (by decide) h.1
theorem emod_self_le {x y : Int} (hx : 0 ≤ x) (hy : 0 ≤ y) : x % y ≤ x := by
  rw [Int.emod_def]
  have := Int.mul_nonneg hy (Int.ediv_nonneg hx hy)
  omega
theorem wbh_r {x n : Int} (h : 0 ≤ x ∧ x < 387420489) : 0 ≤ wbh x n ∧ wbh x n < 387420489 := by
  unfold wbh
  by_cases q : n < wlen 7 x
  · rw [if_pos q]
    have p := pow27_p (wlen 7 x - n).toNat
    have a := Int.emod_nonneg x (show pow27 (wlen 7 x - n).toNat ≠ 0 by omega)
    have b := emod_self_le h.1 (show 0 ≤ pow27 (wlen 7 x - n).toNat by omega)
    omega
  · rw [if_neg q]; omega
theorem argP_ty {a x y : Int} (h : 0 ≤ a ∧ a < 26 ∧ a ≠ 15 ∧ a ≠ 16) (hx : vlR (kB a 0) x) (hy : oB a = 2 → vlR (kB a 1) y) (h0 : oB a = 1 → y = 0) : argP a x y := by
  obtain ⟨a0, a1, a2, a3⟩ := h
  unfold vlR at hx hy
  obtain ⟨x0, x1, x2, x3⟩ := hx
  unfold argP
  rcases (show a = 0 ∨ a = 1 ∨ a = 2 ∨ a = 3 ∨ a = 4 ∨ a = 5 ∨ a = 6 ∨ a = 7 ∨ a = 8 ∨ a = 9 ∨ a = 10 ∨ a = 11 ∨ a = 12 ∨ a = 13 ∨ a = 14 ∨ a = 17 ∨ a = 18 ∨ a = 19 ∨ a = 20 ∨ a = 21 ∨ a = 22 ∨ a = 23 ∨ a = 24 ∨ a = 25 by omega) with rfl | rfl | rfl | rfl | rfl | rfl | rfl | rfl | rfl | rfl | rfl | rfl | rfl | rfl | rfl | rfl | rfl | rfl | rfl | rfl | rfl | rfl | rfl | rfl <;> first
    | (have z := h0 (by decide); have u1 := x1; have u2 := x2; have u3 := x3; (try have u1 := u1 (by decide)); (try have u2 := u2 (by decide)); (try have u3 := u3 (by decide)); omega)
    | (have z := hy (by decide); obtain ⟨y0, y1, y2, y3⟩ := z; have u1 := x1; have u2 := x2; have u3 := x3; (try have u1 := u1 (by decide)); (try have u2 := u2 (by decide)); (try have u3 := u3 (by decide)); (try have y1 := y1 (by decide)); (try have y2 := y2 (by decide)); (try have y3 := y3 (by decide)); omega)
theorem okV_n {v : Int} (h : v = -1 ∨ (0 ≤ v ∧ v ≤ 15)) : okV 0 v := h.imp id (fun y => ⟨y.1, fun _ => y.2, fun z => absurd z (by decide), fun z => absurd z (by decide)⟩)
theorem okV_t {v : Int} (h : v = -1 ∨ (0 ≤ v ∧ v ≤ 1)) : okV 1 v := h.imp id (fun y => ⟨y.1, fun z => absurd z (by decide), fun _ => y.2, fun z => absurd z (by decide)⟩)
theorem okV_s {v : Int} (h : v = -1 ∨ (0 ≤ v ∧ v < 387420489)) : okV 2 v := h.imp id (fun y => ⟨y.1, fun z => absurd z (by decide), fun z => absurd z (by decide), fun _ => y.2⟩)
theorem dv15 {x y : Int} (hx : 0 ≤ x ∧ x ≤ 15) (hy : 0 ≤ y) : 0 ≤ x / y ∧ x / y ≤ 15 := ⟨Int.ediv_nonneg hx.1 hy, Int.le_trans (Int.ediv_le_self y hx.1) hx.2⟩
theorem md15 {x y : Int} (hx : 0 ≤ x ∧ x ≤ 15) (hy : 0 < y) : 0 ≤ x % y ∧ x % y ≤ 15 := ⟨Int.emod_nonneg x (by omega), Int.le_trans (emod_self_le hx.1 (by omega)) hx.2⟩
theorem plP_ty {a x y : Int} (h : 0 ≤ a ∧ a < 26 ∧ a ≠ 15 ∧ a ≠ 16) (hx : vlR (kB a 0) x) (hy : oB a = 2 → vlR (kB a 1) y) (h0 : oB a = 1 → y = 0) : okV (kB a (oB a)) (plP a x y) := by
  have ar := argP_ty h hx hy h0
  obtain ⟨g1, g2, g3, g4⟩ := ar
  obtain ⟨a0, a1, a2, a3⟩ := h
  unfold vlR at hx hy
  obtain ⟨x0, x1, x2, x3⟩ := hx
  rcases (show a = 0 ∨ a = 1 ∨ a = 2 ∨ a = 3 ∨ a = 4 ∨ a = 5 ∨ a = 6 ∨ a = 7 ∨ a = 8 ∨ a = 9 ∨ a = 10 ∨ a = 11 ∨ a = 12 ∨ a = 13 ∨ a = 14 ∨ a = 17 ∨ a = 18 ∨ a = 19 ∨ a = 20 ∨ a = 21 ∨ a = 22 ∨ a = 23 ∨ a = 24 ∨ a = 25 by omega) with rfl | rfl | rfl | rfl | rfl | rfl | rfl | rfl | rfl | rfl | rfl | rfl | rfl | rfl | rfl | rfl | rfl | rfl | rfl | rfl | rfl | rfl | rfl | rfl
  · have g := g1 (by decide); refine okV_n (Or.inr ?_); show 0 ≤ (x + y) % 16 ∧ (x + y) % 16 ≤ 15; omega
  · have g := g1 (by decide); refine okV_n (Or.inr ?_); show 0 ≤ (x - y) % 16 ∧ (x - y) % 16 ≤ 15; omega
  · refine okV_n (Or.inr ?_); show 0 ≤ (x * y) % 16 ∧ (x * y) % 16 ≤ 15; generalize x * y = q; omega
  · have g := g1 (by decide); refine okV_n ?_; show (if y = 0 then (-1 : Int) else x / y) = -1 ∨ _
    show _ ∨ (0 ≤ (if y = 0 then (-1 : Int) else x / y) ∧ (if y = 0 then (-1 : Int) else x / y) ≤ 15)
    by_cases q : y = 0
    · rw [if_pos q]; exact Or.inl rfl
    · rw [if_neg q]; exact Or.inr (dv15 ⟨g.1, g.2.1⟩ g.2.2.1)
  · have g := g1 (by decide); refine okV_n ?_; show (if y = 0 then (-1 : Int) else x % y) = -1 ∨ (0 ≤ (if y = 0 then (-1 : Int) else x % y) ∧ (if y = 0 then (-1 : Int) else x % y) ≤ 15)
    by_cases q : y = 0
    · rw [if_pos q]; exact Or.inl rfl
    · rw [if_neg q]; exact Or.inr (md15 ⟨g.1, g.2.1⟩ (by omega))
  · have g := g1 (by decide); refine okV_n (Or.inr ?_); show 0 ≤ min x y ∧ min x y ≤ 15; omega
  · have g := g1 (by decide); refine okV_n (Or.inr ?_); show 0 ≤ max x y ∧ max x y ≤ 15; omega
  · have g := g1 (by decide); exact okV_n (Or.inr (by have b := b16 ⟨g.1, g.2.1⟩ g.2.2; exact ⟨b.1, b.2.1⟩))
  · have g := g1 (by decide); exact okV_n (Or.inr (by have b := b16 ⟨g.1, g.2.1⟩ g.2.2; exact ⟨b.2.2.1, b.2.2.2.1⟩))
  · have g := g1 (by decide); exact okV_n (Or.inr (by have b := b16 ⟨g.1, g.2.1⟩ g.2.2; exact ⟨b.2.2.2.2.1, b.2.2.2.2.2⟩))
  · refine okV_t (Or.inr ?_); show 0 ≤ (if y ≤ x then (0 : Int) else 1) ∧ (if y ≤ x then (0 : Int) else 1) ≤ 1; by_cases q : y ≤ x
    · rw [if_pos q]; decide
    · rw [if_neg q]; decide
  · refine okV_t (Or.inr ?_); show 0 ≤ (if x = y then (1 : Int) else 0) ∧ (if x = y then (1 : Int) else 0) ≤ 1; by_cases q : x = y
    · rw [if_pos q]; decide
    · rw [if_neg q]; decide
  · have u := x2 (by decide); refine okV_t (Or.inr ?_); show 0 ≤ 1 - x ∧ 1 - x ≤ 1; omega
  · have u := x2 (by decide); have z := hy (by decide); have z2 := z.2.2.1 (by decide); exact okV_t (Or.inr (by have b := b2 ⟨x0, u⟩ ⟨z.1, z2⟩; exact ⟨b.1, b.2.1⟩))
  · have u := x2 (by decide); have z := hy (by decide); have z2 := z.2.2.1 (by decide); exact okV_t (Or.inr (by have b := b2 ⟨x0, u⟩ ⟨z.1, z2⟩; exact ⟨b.2.2.1, b.2.2.2⟩))
  · have u := g2 (by decide); have v := g3 (by decide); refine okV_s ?_; show (if wlen 7 x + wlen 7 y ≤ 6 then x * pow27 (wlen 7 y).toNat + y else -1) = -1 ∨ (0 ≤ (if wlen 7 x + wlen 7 y ≤ 6 then x * pow27 (wlen 7 y).toNat + y else -1) ∧ (if wlen 7 x + wlen 7 y ≤ 6 then x * pow27 (wlen 7 y).toNat + y else -1) < 387420489)
    by_cases q : wlen 7 x + wlen 7 y ≤ 6
    · rw [if_pos q]; have j := join_r u.1 u.2 v.1 v.2 q; exact Or.inr ⟨j.2.2, j.2.1⟩
    · rw [if_neg q]; exact Or.inl rfl
  · have u := g2 (by decide); refine okV_n (Or.inr ?_); have w := wlen6 u.2; show 0 ≤ wlen 7 x ∧ wlen 7 x ≤ 15; omega
  · have u := g2 (by decide); refine okV_s (Or.inr ?_); have w := wfr_r (n := y) u.1; show 0 ≤ wfr x y ∧ wfr x y < 387420489; omega
  · have u := g2 (by decide); exact okV_s (Or.inr (wbh_r u))
  · have u := g2 (by decide); exact okV_s (Or.inr (wtu6 u))
  · have u := g2 (by decide); refine okV_s ?_; have w := wfr_r (n := 1) u.1; show (if x = 0 then (-1 : Int) else wfr x 1) = -1 ∨ (0 ≤ (if x = 0 then (-1 : Int) else wfr x 1) ∧ (if x = 0 then (-1 : Int) else wfr x 1) < 387420489)
    by_cases q : x = 0
    · rw [if_pos q]; exact Or.inl rfl
    · rw [if_neg q]; exact Or.inr ⟨w.1, by omega⟩
  · refine okV_t (Or.inr ?_); show 0 ≤ (if x = y then (1 : Int) else 0) ∧ (if x = y then (1 : Int) else 0) ≤ 1; by_cases q : x = y
    · rw [if_pos q]; decide
    · rw [if_neg q]; decide
  · refine okV_n ?_; show (if x = 0 then (-1 : Int) else (wfr x 1 - 1) % 16) = -1 ∨ (0 ≤ (if x = 0 then (-1 : Int) else (wfr x 1 - 1) % 16) ∧ (if x = 0 then (-1 : Int) else (wfr x 1 - 1) % 16) ≤ 15)
    by_cases q : x = 0
    · rw [if_pos q]; exact Or.inl rfl
    · rw [if_neg q]; exact Or.inr (by omega)
  · have u := x1 (by decide); refine okV_s (Or.inr ?_); show 0 ≤ x + 1 ∧ x + 1 < 387420489; omega

