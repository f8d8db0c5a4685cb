/-! the i-th term that meets, pure: weights -/
theorem mul_cif {P : Prop} {a b : Int} : a * cif P b 0 = cif P (a * b) 0 := by
  by_cases h : P
  · rw [cif_y h, cif_y h]
  · rw [cif_n h, cif_n h, Int.mul_zero]
theorem cif_mul {P : Prop} {a b : Int} : cif P b 0 * a = cif P (b * a) 0 := by
  by_cases h : P
  · rw [cif_y h, cif_y h]
  · rw [cif_n h, cif_n h, Int.zero_mul]
theorem sumN_cif {P : Prop} {f : Int → Int} {n : Nat} : sumN (fun j => cif P (f j) 0) n = cif P (sumN f n) 0 := by
  by_cases h : P
  · rw [cif_y h]; exact sumN_c (fun j _ _ => cif_y h)
  · rw [cif_n h]; exact sumN_0 (fun j _ _ => cif_n h)
theorem cif_and {P Q : Prop} {a : Int} : cif P (cif Q a 0) 0 = cif (P ∧ Q) a 0 := by
  by_cases h : P
  · rw [cif_y h]
    by_cases k : Q
    · rw [cif_y k, cif_y ⟨h, k⟩]
    · rw [cif_n k, cif_n (fun z => k z.2)]
  · rw [cif_n h, cif_n (fun z => h z.1)]
section ITH
variable (E : EV) (W : Int → Int → Int → VW) (pts : Int) (L : TB) (c : Int → Int → Int) (ac : Int) (w : Int → Int)
noncomputable def ixS (s : Int → Int) : Int := ixC E W pts L ac (s 0) (s 1) (s 2)
/-- the weight of so many operands, from one on, of a price together -/
noncomputable def rsW : Nat → Int → Int → (Int → Int) → Int
  | 0, _, left, s => if left = 0 then w (ixS E W pts L ac s) else 0
  | m + 1, k, left, s => sumN (fun r => sumN (fun f => c r f * cif (L.2.1 f = eK E ac k) (rsW m (k + 1) (left - r) (up1 s k f)) 0) L.1.toNat) (left + 1).toNat
/-- what an operand of a price weighs by its function -/
noncomputable def owW (m : Nat) (k left : Int) (s : Int → Int) (r f : Int) : Int := cif (L.2.1 f = eK E ac k ∧ c r f ≠ 0) (rsW E W pts L c ac w m (k + 1) (left - r) (up1 s k f)) 0
noncomputable def alW (m : Nat) (k left : Int) (s : Int → Int) (r : Int) : Int := sumN (fun f => c r f * owW E W pts L c ac w m k left s r f) L.1.toNat
end ITH
section ITHS
variable {E : EV} {W : Int → Int → Int → VW} {pts : Int} {L : TB} {c : Int → Int → Int} {ac : Int} {w : Int → Int} {k left : Int} {s : Int → Int}
theorem owW_c {m : Nat} {r f : Int} : c r f * owW E W pts L c ac w m k left s r f = c r f * cif (L.2.1 f = eK E ac k) (rsW E W pts L c ac w m (k + 1) (left - r) (up1 s k f)) 0 := by
  unfold owW
  by_cases h : c r f = 0
  · rw [h, Int.zero_mul, Int.zero_mul]
  · by_cases g : L.2.1 f = eK E ac k
    · rw [cif_y ⟨g, h⟩, cif_y g]
    · rw [cif_n (fun z => g z.1), cif_n g]
theorem rsT_a {m : Nat} : rsW E W pts L c ac w (m + 1) k left s = sumN (alW E W pts L c ac w m k left s) (left + 1).toNat := by
  show sumN _ _ = _
  exact sumN_c (fun r _ _ => sumN_c (fun f _ _ => owW_c.symm))
theorem rs1 (l0 : 0 ≤ left) : rsW E W pts L c ac w 1 k left s = sumN (fun f => cif (L.2.1 f = eK E ac k) (c left f * w (ixS E W pts L ac (up1 s k f))) 0) L.1.toNat := by
  show sumN (fun r => sumN (fun f => c r f * cif (L.2.1 f = eK E ac k) (if left - r = 0 then w (ixS E W pts L ac (up1 s k f)) else 0) 0) L.1.toNat) (left + 1).toNat = _
  rw [sumN_1 (i := left) l0 (by omega) (fun j j0 j1 ne => sumN_0 (fun f _ _ => by rw [if_neg (by omega), cif_00, Int.mul_zero]))]
  exact sumN_c (fun f _ _ => by rw [if_pos (by omega), mul_cif])
theorem rs2 (l0 : 0 ≤ left) (c0 : ∀ f, c 0 f = 0) : rsW E W pts L c ac w 2 k left s = sumN (fun f => cif (L.2.1 f = eK E ac k) (sumN (fun g => cif (L.2.1 g = eK E ac (k + 1)) (w2C c left f g * w (ixS E W pts L ac (up1 (up1 s k f) (k + 1) g))) 0) L.1.toNat) 0) L.1.toNat := by
  have e1 : rsW E W pts L c ac w 2 k left s = sumN (fun r => sumN (fun f => cif (L.2.1 f = eK E ac k) (sumN (fun g => cif (L.2.1 g = eK E ac (k + 1)) (c r f * c (left - r) g * w (ixS E W pts L ac (up1 (up1 s k f) (k + 1) g))) 0) L.1.toNat) 0) L.1.toNat) (left + 1).toNat := by
    show sumN (fun r => sumN (fun f => c r f * cif (L.2.1 f = eK E ac k) (rsW E W pts L c ac w 1 (k + 1) (left - r) (up1 s k f)) 0) L.1.toNat) (left + 1).toNat = _
    refine sumN_c (fun r r0 r1 => sumN_c (fun f _ _ => ?_))
    rw [mul_cif, rs1 (by omega)]
    congr 1
    rw [← sumN_ml]
    refine sumN_c (fun g _ _ => ?_)
    rw [mul_cif, Int.mul_assoc]
  rw [e1, sumN_sw (fun r f => cif (L.2.1 f = eK E ac k) (sumN (fun g => cif (L.2.1 g = eK E ac (k + 1)) (c r f * c (left - r) g * w (ixS E W pts L ac (up1 (up1 s k f) (k + 1) g))) 0) L.1.toNat) 0) L.1.toNat (left + 1).toNat]
  refine sumN_c (fun f _ _ => ?_)
  rw [sumN_cif]
  congr 1
  rw [sumN_sw (fun r g => cif (L.2.1 g = eK E ac (k + 1)) (c r f * c (left - r) g * w (ixS E W pts L ac (up1 (up1 s k f) (k + 1) g))) 0) L.1.toNat (left + 1).toNat]
  refine sumN_c (fun g _ _ => ?_)
  rw [sumN_cif]
  congr 1
  rw [sumN_mr (f := fun r => c r f * c (left - r) g)]
  congr 1
  rw [show (left + 1).toNat = left.toNat + 1 by omega]
  show sumN (fun r => c r f * c (left - r) g) left.toNat + c ((left.toNat : Nat) : Int) f * c (left - ((left.toNat : Nat) : Int)) g = _
  rw [show left - ((left.toNat : Nat) : Int) = 0 by omega, c0 g, Int.mul_zero, Int.add_zero]
  rfl
theorem rs3 (l0 : 0 ≤ left) (c0 : ∀ f, c 0 f = 0) : rsW E W pts L c ac w 3 k left s = sumN (fun f => cif (L.2.1 f = eK E ac k) (sumN (fun g => cif (L.2.1 g = eK E ac (k + 1)) (sumN (fun e => cif (L.2.1 e = eK E ac (k + 1 + 1)) (w3C c left f g e * w (ixS E W pts L ac (up1 (up1 (up1 s k f) (k + 1) g) (k + 1 + 1) e))) 0) L.1.toNat) 0) L.1.toNat) 0) L.1.toNat := by
  have e1 : rsW E W pts L c ac w 3 k left s = sumN (fun r => sumN (fun f => cif (L.2.1 f = eK E ac k) (sumN (fun g => cif (L.2.1 g = eK E ac (k + 1)) (sumN (fun e => cif (L.2.1 e = eK E ac (k + 1 + 1)) (c r f * w2C c (left - r) g e * w (ixS E W pts L ac (up1 (up1 (up1 s k f) (k + 1) g) (k + 1 + 1) e))) 0) L.1.toNat) 0) L.1.toNat) 0) L.1.toNat) (left + 1).toNat := by
    show sumN (fun r => sumN (fun f => c r f * cif (L.2.1 f = eK E ac k) (rsW E W pts L c ac w 2 (k + 1) (left - r) (up1 s k f)) 0) L.1.toNat) (left + 1).toNat = _
    refine sumN_c (fun r r0 r1 => sumN_c (fun f _ _ => ?_))
    rw [mul_cif, rs2 (by omega) c0]
    congr 1
    rw [← sumN_ml]
    refine sumN_c (fun g _ _ => ?_)
    rw [mul_cif]
    congr 1
    rw [← sumN_ml]
    refine sumN_c (fun e _ _ => ?_)
    rw [mul_cif, Int.mul_assoc]
  rw [e1, sumN_sw (fun r f => cif (L.2.1 f = eK E ac k) (sumN (fun g => cif (L.2.1 g = eK E ac (k + 1)) (sumN (fun e => cif (L.2.1 e = eK E ac (k + 1 + 1)) (c r f * w2C c (left - r) g e * w (ixS E W pts L ac (up1 (up1 (up1 s k f) (k + 1) g) (k + 1 + 1) e))) 0) L.1.toNat) 0) L.1.toNat) 0) L.1.toNat (left + 1).toNat]
  refine sumN_c (fun f _ _ => ?_)
  rw [sumN_cif]
  congr 1
  rw [sumN_sw (fun r g => cif (L.2.1 g = eK E ac (k + 1)) (sumN (fun e => cif (L.2.1 e = eK E ac (k + 1 + 1)) (c r f * w2C c (left - r) g e * w (ixS E W pts L ac (up1 (up1 (up1 s k f) (k + 1) g) (k + 1 + 1) e))) 0) L.1.toNat) 0) L.1.toNat (left + 1).toNat]
  refine sumN_c (fun g _ _ => ?_)
  rw [sumN_cif]
  congr 1
  rw [sumN_sw (fun r e => cif (L.2.1 e = eK E ac (k + 1 + 1)) (c r f * w2C c (left - r) g e * w (ixS E W pts L ac (up1 (up1 (up1 s k f) (k + 1) g) (k + 1 + 1) e))) 0) L.1.toNat (left + 1).toNat]
  refine sumN_c (fun e _ _ => ?_)
  rw [sumN_cif]
  congr 1
  rw [sumN_mr (f := fun r => c r f * w2C c (left - r) g e)]
  congr 1
  rw [show (left + 1).toNat = left.toNat + 1 by omega]
  show sumN (fun r => c r f * w2C c (left - r) g e) left.toNat + c ((left.toNat : Nat) : Int) f * w2C c (left - ((left.toNat : Nat) : Int)) g e = _
  have z : w2C c (left - ((left.toNat : Nat) : Int)) g e = 0 := by
    rw [show left - ((left.toNat : Nat) : Int) = 0 by omega]
    rfl
  rw [z, Int.mul_zero, Int.add_zero]
  rfl
theorem rsT_0 (c0 : ∀ i f, 0 ≤ c i f) (w0 : ∀ f, 0 ≤ w f) : ∀ (m : Nat) (k left : Int) (s : Int → Int), 0 ≤ rsW E W pts L c ac w m k left s
  | 0, k, left, s => by
    show 0 ≤ if left = 0 then _ else (0 : Int)
    split
    · exact w0 _
    · exact Int.le_refl _
  | m + 1, k, left, s => sumN_n (fun r _ => sumN_n (fun f _ => Int.mul_nonneg (c0 _ _) (cif_0 (rsT_0 c0 w0 m _ _ _))) _) _
theorem owT_0 (c0 : ∀ i f, 0 ≤ c i f) (w0 : ∀ f, 0 ≤ w f) {m : Nat} {r f : Int} : 0 ≤ owW E W pts L c ac w m k left s r f := cif_0 (rsT_0 c0 w0 m _ _ _)
theorem alT_0 (c0 : ∀ i f, 0 ≤ c i f) (w0 : ∀ f, 0 ≤ w f) {m : Nat} {r : Int} : 0 ≤ alW E W pts L c ac w m k left s r := sumN_n (fun f _ => Int.mul_nonneg (c0 _ _) (owT_0 c0 w0)) _
end ITHS
/-! what is counted, by the levels up to a greater price -/
section ROWL
variable {E : EV} {W : Int → Int → Int → VW} {pts : Int} {A : AD} {n : Nat} {L : TB} {ac left x y z f k : Int}
def pcKk (E : EV) (A : AD) (n : Nat) (k ac left : Int) : Prop := (0 ≤ k ∧ k < A.2.2.2.1) ∧ A.2.2.2.2.1 k = ac ∧ (0 ≤ ac ∧ ac < E.1.1) ∧ left = n - A.2.2.2.2.2.2.2 k ∧ left < n
theorem cz_L (tq : TQ E W pts A n L) (d : dsT pts L) (p : pcKk E A n k ac left) (eo : eO E ac = 3) (x0 : 0 ≤ x ∧ ((LV E W pts A n).1 ≤ x ∨ L.2.1 x = eK E ac 0)) (y0 : 0 ≤ y ∧ ((LV E W pts A n).1 ≤ y ∨ L.2.1 y = eK E ac 1)) (z0 : 0 ≤ z) : czC E W pts (LV E W pts A n) (ct E W pts A) ac left x y f z = czC E W pts L (ct E W pts A) ac left x y f z := by
  have pl := p.2.2.2.1
  have pl2 := p.2.2.2.2
  by_cases u : w3C (ct E W pts A) left x y z = 0
  · rw [cz_0 u, cz_0 u]
  · have s := w3_sup tq.1 x0.1 y0.1 z0 (by omega) u
    have qx := tq.2.1.2 x x0.1 s.1
    have qy := tq.2.1.2 y y0.1 s.2.1
    have qz := tq.2.1.2 z z0 s.2.2.1
    unfold czC
    rw [qz.1]
    by_cases kz : (LV E W pts A n).2.1 z = eK E ac 2
    · have ar : arT E (LV E W pts A n) (LV E W pts A n).1 ac x y z := ⟨⟨x0.1, s.1, by rw [← qx.1]; rcases x0.2 with r | r; (omega); exact r⟩, Or.inr (Or.inr ⟨eo, ⟨y0.1, s.2.1, by rw [← qy.1]; rcases y0.2 with r | r; (omega); exact r⟩, ⟨z0, s.2.2.1, kz⟩⟩)⟩
      have HT := hs_T tq d p.1 p.2.1 p.2.2.1 ar (by rw [wO_0 y0.1, wO_0 z0]; have := p.2.2.2.1; omega)
      rw [HT.2.2.1]
    · rw [cif_n (fun e => kz e.1), cif_n (fun e => kz e.1)]
theorem cy_L (tq : TQ E W pts A n L) (d : dsT pts L) (p : pcKk E A n k ac left) (eo : eO E ac = 2 ∨ eO E ac = 3) (x0 : 0 ≤ x ∧ ((LV E W pts A n).1 ≤ x ∨ L.2.1 x = eK E ac 0)) (y0 : 0 ≤ y) : cyC E W pts (LV E W pts A n) (ct E W pts A) ac left x f y = cyC E W pts L (ct E W pts A) ac left x f y := by
  have pl := p.2.2.2.1
  have pl2 := p.2.2.2.2
  unfold cyC
  by_cases e : eO E ac = 2
  · rw [if_pos e, if_pos e]
    by_cases u : w2C (ct E W pts A) left x y = 0
    · rw [u, cif_00, cif_00]
    · have s := w2_sup tq.1 x0.1 y0 (by omega) u
      have qx := tq.2.1.2 x x0.1 s.1
      have qy := tq.2.1.2 y y0 s.2.1
      rw [qy.1]
      by_cases ky : (LV E W pts A n).2.1 y = eK E ac 1
      · have ar : arT E (LV E W pts A n) (LV E W pts A n).1 ac x y (-1) := ⟨⟨x0.1, s.1, by rw [← qx.1]; rcases x0.2 with r | r; (omega); exact r⟩, Or.inr (Or.inl ⟨e, ⟨y0, s.2.1, ky⟩, rfl⟩)⟩
        have HT := hs_T tq d p.1 p.2.1 p.2.2.1 ar (by rw [wO_0 y0, wO_n]; omega)
        rw [HT.2.2.1]
      · rw [cif_n (fun e => ky e.1), cif_n (fun e => ky e.1)]
  · rw [if_neg e, if_neg e]
    by_cases yl : y < (LV E W pts A n).1
    · have qy := tq.2.1.2 y y0 yl
      rw [qy.1]
      by_cases ky : (LV E W pts A n).2.1 y = eK E ac 1
      · rw [cif_y ky, cif_y ky]
        have lx := tq.2.1.1
        have l0 := LV_0 (E := E) (W := W) (pts := pts) (A := A) n
        rw [sumN_c (f := czC E W pts (LV E W pts A n) (ct E W pts A) ac left x y f) (fun j j0 _ => cz_L tq d p (by omega) x0 ⟨y0, Or.inr (by rw [qy.1]; exact ky)⟩ j0)]
        refine (sumN_ex (fun j a b => by omega) (fun j a b => ?_)).symm
        exact cz_0 (w3_zT tq x0.1 y0 (by omega) (by omega) (Or.inr (Or.inr (Or.inl (by omega)))))
      · rw [cif_n ky, cif_n ky]
    · rw [sumN_0 (fun j j0 _ => cz_0 (w3_zT tq x0.1 y0 j0 (by omega) (Or.inr (Or.inl (by omega))))), sumN_0 (fun j j0 _ => cz_0 (w3_zT tq x0.1 y0 j0 (by omega) (Or.inr (Or.inl (by omega))))), cif_00, cif_00]
theorem cx_L (tq : TQ E W pts A n L) (d : dsT pts L) (p : pcKk E A n k ac left) (eo : 1 ≤ eO E ac ∧ eO E ac ≤ 3) (x0 : 0 ≤ x) : cxC E W pts (LV E W pts A n) (ct E W pts A) ac left f x = cxC E W pts L (ct E W pts A) ac left f x := by
  have pl := p.2.2.2.1
  have pl2 := p.2.2.2.2
  unfold cxC
  by_cases e : eO E ac = 1
  · rw [if_pos e, if_pos e]
    by_cases u : ct E W pts A left x = 0
    · rw [u, cif_00, cif_00]
    · have s := ct_sup tq.1 x0 (by omega) u
      have qx := tq.2.1.2 x x0 s.2.1
      rw [qx.1]
      by_cases kx : (LV E W pts A n).2.1 x = eK E ac 0
      · have ar : arT E (LV E W pts A n) (LV E W pts A n).1 ac x (-1) (-1) := ⟨⟨x0, s.2.1, kx⟩, Or.inl ⟨e, rfl, rfl⟩⟩
        have HT := hs_T tq d p.1 p.2.1 p.2.2.1 ar (by rw [wO_n]; omega)
        rw [HT.2.2.1]
      · rw [cif_n (fun e => kx e.1), cif_n (fun e => kx e.1)]
  · rw [if_neg e, if_neg e]
    by_cases xl : x < (LV E W pts A n).1
    · have qx := tq.2.1.2 x x0 xl
      rw [qx.1]
      by_cases kx : (LV E W pts A n).2.1 x = eK E ac 0
      · rw [cif_y kx, cif_y kx]
        have lx := tq.2.1.1
        have l0 := LV_0 (E := E) (W := W) (pts := pts) (A := A) n
        rw [sumN_c (f := cyC E W pts (LV E W pts A n) (ct E W pts A) ac left x f) (fun j j0 _ => cy_L tq d p (by omega) ⟨x0, Or.inr (by rw [qx.1]; exact kx)⟩ j0)]
        refine (sumN_ex (fun j a b => by omega) (fun j a b => ?_)).symm
        exact cy_0 (w2_zT tq x0 (by omega) (by omega) (Or.inr (Or.inl (by omega)))) (fun z z0 => w3_zT tq x0 (by omega) z0 (by omega) (Or.inr (Or.inl (by omega))))
      · rw [cif_n kx, cif_n kx]
    · rw [sumN_0 (fun j j0 _ => cy_0 (w2_zT tq x0 j0 (by omega) (Or.inl (by omega))) (fun z z0 => w3_zT tq x0 j0 z0 (by omega) (Or.inl (by omega)))), sumN_0 (fun j j0 _ => cy_0 (w2_zT tq x0 j0 (by omega) (Or.inl (by omega))) (fun z z0 => w3_zT tq x0 j0 z0 (by omega) (Or.inl (by omega)))), cif_00, cif_00]
/-- what functions there are of a price, by L -/
theorem row_L (tq : TQ E W pts A n L) (d : dsT pts L) (f : Int) : ct E W pts A n f = sumN (chC E W pts A L (ct E W pts A) n f) (A.1 + A.2.2.2.1).toNat := by
  have n12 := tq.1.1
  have A3 := tq.1.2.2.2.2.2
  rw [ct_row (ppA_V tq.1.2.2.2.1) n12.1 n12.2]
  refine sumN_c (fun h h0 h1 => ?_)
  unfold chC
  by_cases l : iLf A h
  · rw [cif_y l, cif_y l]
    by_cases p : prL A h = n
    · have hh := lf_has tq.1 h0 (by omega) l (by omega)
      have IE : ixL pts A L h = ixL pts A (LV E W pts A n) h := ixT_e tq.2.1 d hh
      rw [IE]
    · rw [cif_n (fun z => p z.1), cif_n (fun z => p z.1)]
  · rw [cif_n l, cif_n l]
    by_cases p : prL A h < n
    · rw [cif_y p, cif_y p]
      have nl : ¬ h < A.1 := fun z => l (Or.inl z)
      have pe : prL A h = A.2.2.2.2.2.2.2 (h - A.1) := if_neg nl
      have pp := (tq.1.2.2.2.1.2.2 (h - A.1) (by omega) (by omega)).1
      have va : 0 ≤ A.2.2.2.2.1 (h - A.1) ∧ A.2.2.2.2.1 (h - A.1) < E.1.1 := by
        rcases (tq.1.2.2.2.1.2.2 (h - A.1) (by omega) (by omega)).2 with u | u
        · exact absurd (Or.inr u.1) l
        · exact u
      have oo := tq.1.2.2.2.2.1.2.2.1 _ va.1 va.2
      have pk : pcKk E A n (h - A.1) (A.2.2.2.2.1 (h - A.1)) (n - prL A h) := ⟨by omega, rfl, va, by omega, by omega⟩
      have lx := tq.2.1.1
      have l0 := LV_0 (E := E) (W := W) (pts := pts) (A := A) n
      rw [sumN_c (f := cxC E W pts (LV E W pts A n) (ct E W pts A) (A.2.2.2.2.1 (h - A.1)) (n - prL A h) f) (fun j j0 _ => cx_L tq d pk ⟨oo.1, oo.2.1⟩ j0)]
      refine (sumN_ex (fun j a b => by omega) (fun j a b => ?_)).symm
      exact cx_0 (ct_zT tq (by omega) (by omega) (Or.inl (by omega))) (fun y y0 => w2_zT tq (by omega) y0 (by omega) (Or.inl (by omega))) (fun y z y0 z0 => w3_zT tq (by omega) y0 z0 (by omega) (Or.inl (by omega)))
    · rw [cif_n p, cif_n p]
end ROWL

