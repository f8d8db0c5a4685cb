/-! the i-th term that meets, pure: which it is -/
/-- a node with so many operands -/
def ndT (n : Int) (i : NI) (g : Int → TR) : TR := if n = 1 then .branch 0 (g 0) (.leaf i) else if n = 2 then .branch 0 (g 0) (.branch 0 (g 1) (.leaf i)) else .branch 0 (g 0) (.branch 0 (g 1) (.branch 0 (g 2) (.leaf i)))
/-- the node of a leaf's head -/
def lfI (A : AD) (h : Int) : NI := if h < A.1 then (0, h, lkA A h, 0) else (1, lvA A h 0, lkA A h, 0)
def s0T : Int → Int := fun _ => -1
section HWC
variable (E : EV) (W : Int → Int → Int → VW) (pts : Int) (A : AD) (L : TB) (c : Int → Int → Int)
/-- what the terms of a head weigh -/
noncomputable def hwC (w : Int → Int) (q h : Int) : Int := cif (iLf A h) (cif (prL A h = q) (w (ixL pts A L h)) 0) (cif (prL A h < q) (rsW E W pts L c (A.2.2.2.2.1 (h - A.1)) w (eO E (A.2.2.2.2.1 (h - A.1))).toNat 0 (q - prL A h) s0T) 0)
/-- an act's operands, one behind the other -/
def opRd (I : Int → (Int → Int) → Int → TR → Int → Int → Prop) (ac : Int) (w : Int → Int) : Nat → Int → Int → (Int → Int) → (Int → TR) → Int → TR → Int → Int → Prop
  | 0, _, _, s, g, i, R, f, rest => R = ndT (eO E ac) (2, ac, eK E ac (eO E ac), 0) g ∧ f = ixS E W pts L ac s ∧ rest = i
  | m + 1, k, left, s, g, i, R, f, rest => ∃ r R1 f1 i1, 0 ≤ r ∧ r ≤ left ∧ sumN (alW E W pts L c ac w m k left s) r.toNat ≤ i ∧ i < sumN (alW E W pts L c ac w m k left s) (r + 1).toNat ∧ I r (owW E W pts L c ac w m k left s r) (i - sumN (alW E W pts L c ac w m k left s) r.toNat) R1 f1 i1 ∧ opRd I ac w m (k + 1) (left - r) (up1 s k f1) (up1 g k R1) i1 R f rest
def itR : Nat → Int → (Int → Int) → Int → TR → Int → Int → Prop
  | 0, _, _, _, _, _, _ => False
  | D + 1, q, w, i, R, f, rest => ∃ h, 0 ≤ h ∧ h < A.1 + A.2.2.2.1 ∧ sumN (hwC E W pts A L c w q) h.toNat ≤ i ∧ i < sumN (hwC E W pts A L c w q) (h + 1).toNat ∧ ((iLf A h ∧ prL A h = q ∧ R = .leaf (lfI A h) ∧ f = ixL pts A L h ∧ rest = i - sumN (hwC E W pts A L c w q) h.toNat) ∨ (¬ iLf A h ∧ prL A h < q ∧ opRd E W pts L c (itR D) (A.2.2.2.2.1 (h - A.1)) w (eO E (A.2.2.2.2.1 (h - A.1))).toNat 0 (q - prL A h) s0T (fun _ => .leaf (0, 0, 0, 0)) (i - sumN (hwC E W pts A L c w q) h.toNat) R f rest))
end HWC
/-- a place in a row of sums is one alone -/
theorem cum_u {g : Int → Int} (g0 : ∀ j, 0 ≤ g j) {a b i : Int} (a0 : 0 ≤ a) (b0 : 0 ≤ b) (x : sumN g a.toNat ≤ i) (x' : i < sumN g (a + 1).toNat) (y : sumN g b.toNat ≤ i) (y' : i < sumN g (b + 1).toNat) : a = b := by
  rcases Int.lt_trichotomy a b with l | l | l
  · have := sumN_m (f := g) (fun j _ => g0 j) (n := (a + 1).toNat) (m := b.toNat) (by omega); omega
  · exact l
  · have := sumN_m (f := g) (fun j _ => g0 j) (n := (b + 1).toNat) (m := a.toNat) (by omega); omega
theorem cum_x {g : Int → Int} {i : Int} (i0 : 0 ≤ i) : ∀ n : Nat, i < sumN g n → ∃ a : Int, 0 ≤ a ∧ a < n ∧ sumN g a.toNat ≤ i ∧ i < sumN g (a + 1).toNat
  | 0, h => by have : sumN g 0 = 0 := rfl; omega
  | n + 1, h => by
    by_cases y : i < sumN g n
    · obtain ⟨a, a0, a1, a2⟩ := cum_x i0 n y
      exact ⟨a, a0, by omega, a2⟩
    · exact ⟨n, by omega, by omega, by rw [Int.toNat_natCast]; omega, by rw [show ((n : Int) + 1).toNat = n + 1 by omega]; exact h⟩
section ITRS
variable {E : EV} {W : Int → Int → Int → VW} {pts : Int} {A : AD} {L : TB} {c : Int → Int → Int}
theorem hwC_0 (c0 : ∀ i f, 0 ≤ c i f) {w : Int → Int} (w0 : ∀ f, 0 ≤ w f) (q h : Int) : 0 ≤ hwC E W pts A L c w q h := by
  unfold hwC
  by_cases l : iLf A h
  · rw [cif_y l]; exact cif_0 (w0 _)
  · rw [cif_n l]; exact cif_0 (rsT_0 c0 w0 _ _ _ _)
theorem opR_det (c0 : ∀ i f, 0 ≤ c i f) {I : Int → (Int → Int) → Int → TR → Int → Int → Prop} (hI : ∀ q w i R f r R' f' r', (∀ f, 0 ≤ w f) → I q w i R f r → I q w i R' f' r' → R = R' ∧ f = f' ∧ r = r') {ac : Int} {w : Int → Int} (w0 : ∀ f, 0 ≤ w f) : ∀ (m : Nat) (k left : Int) (s : Int → Int) (g : Int → TR) (i : Int) (R : TR) (f r : Int) (R' : TR) (f' r' : Int), opRd E W pts L c I ac w m k left s g i R f r → opRd E W pts L c I ac w m k left s g i R' f' r' → R = R' ∧ f = f' ∧ r = r'
  | 0, k, left, s, g, i, R, f, r, R', f', r', a, b => ⟨a.1.trans b.1.symm, a.2.1.trans b.2.1.symm, a.2.2.trans b.2.2.symm⟩
  | m + 1, k, left, s, g, i, R, f, r, R', f', r', a, b => by
    obtain ⟨x, R1, f1, i1, x0, x1, x2, x3, x4, x5⟩ := a
    obtain ⟨y, R2, f2, i2, y0, y1, y2, y3, y4, y5⟩ := b
    have e : x = y := cum_u (fun j => alT_0 c0 w0) x0 y0 x2 x3 y2 y3
    subst e
    obtain ⟨e1, e2, e3⟩ := hI _ _ _ _ _ _ _ _ _ (fun f => owT_0 c0 w0) x4 y4
    subst e1
    subst e2
    subst e3
    exact opR_det c0 hI w0 m _ _ _ _ _ _ _ _ _ _ _ x5 y5
theorem itR_det (c0 : ∀ i f, 0 ≤ c i f) : ∀ (D : Nat) (q : Int) (w : Int → Int) (i : Int) (R : TR) (f r : Int) (R' : TR) (f' r' : Int), (∀ f, 0 ≤ w f) → itR E W pts A L c D q w i R f r → itR E W pts A L c D q w i R' f' r' → R = R' ∧ f = f' ∧ r = r'
  | 0, q, w, i, R, f, r, R', f', r', w0, a, b => a.elim
  | D + 1, q, w, i, R, f, r, R', f', r', w0, a, b => by
    obtain ⟨x, x0, x1, x2, x3, x4⟩ := a
    obtain ⟨y, y0, y1, y2, y3, y4⟩ := b
    have e : x = y := cum_u (fun j => hwC_0 c0 w0 q j) x0 y0 x2 x3 y2 y3
    subst e
    rcases x4 with x4 | x4 <;> rcases y4 with y4 | y4
    · exact ⟨x4.2.2.1.trans y4.2.2.1.symm, x4.2.2.2.1.trans y4.2.2.2.1.symm, x4.2.2.2.2.trans y4.2.2.2.2.symm⟩
    · exact absurd x4.1 y4.1
    · exact absurd y4.1 x4.1
    · exact opR_det c0 (fun q w i R f r R' f' r' w0 => itR_det c0 D q w i R f r R' f' r' w0) w0 _ _ _ _ _ _ _ _ _ _ _ _ x4.2.2 y4.2.2
end ITRS
/-! the weights of all heads are those of all functions -/
section HWI
variable {E : EV} {W : Int → Int → Int → VW} {pts : Int} {A : AD} {n : Nat} {L : TB} {w : Int → Int}
theorem one_w {P : Prop} {v a : Int} {N : Nat} (h : P → a ≠ 0 → 0 ≤ v ∧ v < (N : Int)) : sumN (fun f => cif (P ∧ v = f) a 0 * w f) N = cif P (a * w v) 0 := by
  by_cases p : P
  · by_cases z : a = 0
    · rw [z, Int.zero_mul, cif_00]
      exact sumN_0 (fun j _ _ => by rw [cif_00, Int.zero_mul])
    · have r := h p z
      rw [cif_y p, sumN_1 (i := v) r.1 r.2 (fun j _ _ ne => by rw [cif_n (fun z => ne z.2.symm), Int.zero_mul]), cif_y ⟨p, rfl⟩]
  · rw [cif_n p]
    exact sumN_0 (fun j _ _ => by rw [cif_n (fun z => p z.1), Int.zero_mul])
theorem up3_0 (a b d : Int) : (up1 (up1 (up1 s0T 0 a) (0 + 1) b) (0 + 1 + 1) d) 0 = a ∧ (up1 (up1 (up1 s0T 0 a) (0 + 1) b) (0 + 1 + 1) d) 1 = b ∧ (up1 (up1 (up1 s0T 0 a) (0 + 1) b) (0 + 1 + 1) d) 2 = d ∧ (up1 (up1 s0T 0 a) (0 + 1) b) 0 = a ∧ (up1 (up1 s0T 0 a) (0 + 1) b) 1 = b ∧ (up1 (up1 s0T 0 a) (0 + 1) b) 2 = -1 ∧ (up1 s0T 0 a) 0 = a ∧ (up1 s0T 0 a) 1 = -1 ∧ (up1 s0T 0 a) 2 = -1 := ⟨rfl, rfl, rfl, rfl, rfl, rfl, rfl, rfl, rfl⟩
theorem ac_w (tq : TQ E W pts A n L) (d : dsT pts L) {k ac left : Int} (p : pcKk E A n k ac left) (l0 : 0 < left) (eo : 1 ≤ eO E ac ∧ eO E ac ≤ 3) : sumN (fun f => sumN (cxC E W pts L (ct E W pts A) ac left f) L.1.toNat * w f) L.1.toNat = rsW E W pts L (ct E W pts A) ac w (eO E ac).toNat 0 left s0T := by
  have pl2 := p.2.2.2.2
  have pl := p.2.2.2.1
  have lx := tq.2.1.1
  have l00 := LV_0 (E := E) (W := W) (pts := pts) (A := A) n
  have ct0 : ∀ f, ct E W pts A 0 f = 0 := fun f => ct_n (by decide)
  have e1 : sumN (fun f => sumN (cxC E W pts L (ct E W pts A) ac left f) L.1.toNat * w f) L.1.toNat = sumN (fun x => sumN (fun f => cxC E W pts L (ct E W pts A) ac left f x * w f) L.1.toNat) L.1.toNat := by
    rw [sumN_c (g := fun f => sumN (fun x => cxC E W pts L (ct E W pts A) ac left f x * w f) L.1.toNat) (fun f _ _ => (sumN_mr (f := fun x => cxC E W pts L (ct E W pts A) ac left f x) _).symm)]
    exact sumN_sw (fun f x => cxC E W pts L (ct E W pts A) ac left f x * w f) L.1.toNat L.1.toNat
  rw [e1]
  rcases (show eO E ac = 1 ∨ eO E ac = 2 ∨ eO E ac = 3 by omega) with e | e | e
  · rw [e]
    show _ = rsW E W pts L (ct E W pts A) ac w 1 0 left s0T
    rw [rs1 (by omega)]
    refine sumN_c (fun x x0 x1 => ?_)
    have e2 : ∀ f, cxC E W pts L (ct E W pts A) ac left f x = cif (L.2.1 x = eK E ac 0 ∧ ixC E W pts L ac x (-1) (-1) = f) (ct E W pts A left x) 0 := fun f => by unfold cxC; rw [if_pos e]
    rw [sumN_c (fun f _ _ => by rw [e2 f])]
    exact one_w (fun kx nz => by
      have s := ct_sup tq.1 x0 (by omega) nz
      have qx := tq.2.1.2 x x0 s.2.1
      have HT := hs_T tq d p.1 p.2.1 p.2.2.1 ⟨⟨x0, s.2.1, by rw [← qx.1]; exact kx⟩, Or.inl ⟨e, rfl, rfl⟩⟩ (by rw [wO_n]; omega)
      rw [HT.2.2.1]
      omega)
  · rw [e]
    show _ = rsW E W pts L (ct E W pts A) ac w 2 0 left s0T
    rw [rs2 (by omega) ct0]
    refine sumN_c (fun x x0 x1 => ?_)
    have e2 : ∀ f, cxC E W pts L (ct E W pts A) ac left f x = cif (L.2.1 x = eK E ac 0) (sumN (fun y => cif (L.2.1 y = eK E ac 1 ∧ ixC E W pts L ac x y (-1) = f) (w2C (ct E W pts A) left x y) 0) L.1.toNat) 0 := fun f => by
      unfold cxC
      rw [if_neg (by omega)]
      congr 1
      exact sumN_c (fun y _ _ => by unfold cyC; rw [if_pos e])
    rw [sumN_c (fun f _ _ => by rw [e2 f, cif_mul, ← sumN_mr]), sumN_cif]
    by_cases kx : L.2.1 x = eK E ac 0
    · rw [cif_y kx, cif_y kx, sumN_sw (fun f y => cif (L.2.1 y = eK E ac 1 ∧ ixC E W pts L ac x y (-1) = f) (w2C (ct E W pts A) left x y) 0 * w f) L.1.toNat L.1.toNat]
      refine sumN_c (fun y y0 y1 => ?_)
      exact one_w (fun ky nz => by
        have s := w2_sup tq.1 x0 y0 (by omega) nz
        have qx := tq.2.1.2 x x0 s.1
        have qy := tq.2.1.2 y y0 s.2.1
        have HT := hs_T tq d p.1 p.2.1 p.2.2.1 ⟨⟨x0, s.1, by rw [← qx.1]; exact kx⟩, Or.inr (Or.inl ⟨e, ⟨y0, s.2.1, by rw [← qy.1]; exact ky⟩, rfl⟩)⟩ (by rw [wO_0 y0, wO_n]; omega)
        rw [HT.2.2.1]
        omega)
    · rw [cif_n kx, cif_n kx]
  · rw [e]
    show _ = rsW E W pts L (ct E W pts A) ac w 3 0 left s0T
    rw [rs3 (by omega) ct0]
    refine sumN_c (fun x x0 x1 => ?_)
    have e2 : ∀ f, cxC E W pts L (ct E W pts A) ac left f x = cif (L.2.1 x = eK E ac 0) (sumN (fun y => cif (L.2.1 y = eK E ac 1) (sumN (fun z => cif (L.2.1 z = eK E ac 2 ∧ ixC E W pts L ac x y z = f) (w3C (ct E W pts A) left x y z) 0) L.1.toNat) 0) L.1.toNat) 0 := fun f => by
      unfold cxC
      rw [if_neg (by omega)]
      congr 1
      exact sumN_c (fun y _ _ => by unfold cyC; rw [if_neg (by omega)]; rfl)
    rw [sumN_c (fun f _ _ => by rw [e2 f, cif_mul, ← sumN_mr]), sumN_cif]
    by_cases kx : L.2.1 x = eK E ac 0
    · rw [cif_y kx, cif_y kx, sumN_sw (fun f y => cif (L.2.1 y = eK E ac 1) (sumN (fun z => cif (L.2.1 z = eK E ac 2 ∧ ixC E W pts L ac x y z = f) (w3C (ct E W pts A) left x y z) 0) L.1.toNat) 0 * w f) L.1.toNat L.1.toNat]
      refine sumN_c (fun y y0 y1 => ?_)
      rw [sumN_c (fun f _ _ => by rw [cif_mul, ← sumN_mr]), sumN_cif]
      by_cases ky : L.2.1 y = eK E ac 1
      · rw [cif_y ky, cif_y (P := L.2.1 y = eK E ac (0 + 1)) ky, sumN_sw (fun f z => cif (L.2.1 z = eK E ac 2 ∧ ixC E W pts L ac x y z = f) (w3C (ct E W pts A) left x y z) 0 * w f) L.1.toNat L.1.toNat]
        refine sumN_c (fun z z0 z1 => ?_)
        exact one_w (fun kz nz => by
          have s := w3_sup tq.1 x0 y0 z0 (by omega) nz
          have qx := tq.2.1.2 x x0 s.1
          have qy := tq.2.1.2 y y0 s.2.1
          have qz := tq.2.1.2 z z0 s.2.2.1
          have HT := hs_T tq d p.1 p.2.1 p.2.2.1 ⟨⟨x0, s.1, by rw [← qx.1]; exact kx⟩, Or.inr (Or.inr ⟨e, ⟨y0, s.2.1, by rw [← qy.1]; exact ky⟩, ⟨z0, s.2.2.1, by rw [← qz.1]; exact kz⟩⟩)⟩ (by rw [wO_0 y0, wO_0 z0]; omega)
          rw [HT.2.2.1]
          omega)
      · rw [cif_n ky, cif_n (P := L.2.1 y = eK E ac (0 + 1)) ky]
    · rw [cif_n kx, cif_n kx]
/-- all weights of a price: by functions, by heads -/
noncomputable def twC (E : EV) (W : Int → Int → Int → VW) (pts : Int) (A : AD) (L : TB) (w : Int → Int) (q : Int) : Int := sumN (fun f => ct E W pts A q f * w f) L.1.toNat
theorem tw_h (tq : TQ E W pts A n L) (d : dsT pts L) : twC E W pts A L w n = sumN (hwC E W pts A L (ct E W pts A) w n) (A.1 + A.2.2.2.1).toNat := by
  unfold twC
  rw [sumN_c (fun f _ _ => by rw [row_L tq d f, ← sumN_mr]), sumN_sw (fun f h => chC E W pts A L (ct E W pts A) n f h * w f) (A.1 + A.2.2.2.1).toNat L.1.toNat]
  refine sumN_c (fun h h0 h1 => ?_)
  have A3 := tq.1.2.2.2.2.2
  have lx := tq.2.1.1
  unfold hwC
  by_cases l : iLf A h
  · rw [cif_y l, sumN_c (fun f _ _ => by unfold chC; rw [cif_y l]), one_w (fun p _ => by
      have hh := lf_has tq.1 h0 (by omega) l (by omega)
      have i := ixT_h (hasT_e tq.2.1 hh)
      have e : ixL pts A L h = ixT pts L (lkA A h) (lvA A h) := rfl
      rw [e]
      omega)]
    congr 1
    exact Int.one_mul _
  · rw [cif_n l, sumN_c (fun f _ _ => by unfold chC; rw [cif_n l, cif_mul]), sumN_cif]
    by_cases p : prL A h < n
    · rw [cif_y p, cif_y p]
      have nl : ¬ h < A.1 := fun z => l (Or.inl z)
      have pe : prL A h = A.2.2.2.2.2.2.2 (h - A.1) := if_neg nl
      have pp := (tq.1.2.2.2.1.2.2 (h - A.1) (by omega) (by omega)).1
      have va : 0 ≤ A.2.2.2.2.1 (h - A.1) ∧ A.2.2.2.2.1 (h - A.1) < E.1.1 := by
        rcases (tq.1.2.2.2.1.2.2 (h - A.1) (by omega) (by omega)).2 with u | u
        · exact absurd (Or.inr u.1) l
        · exact u
      have oo := tq.1.2.2.2.2.1.2.2.1 _ va.1 va.2
      exact ac_w tq d (k := h - A.1) ⟨by omega, rfl, va, by omega, by omega⟩ (by omega) ⟨oo.1, oo.2.1⟩
    · rw [cif_n p, cif_n p]
end HWI

