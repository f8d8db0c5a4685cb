/-! a term of pieces has a function in the table of its price -/
theorem prH_ex {A : AD} {i : NI} : ∀ n : Nat, prH A i n ≠ -1 → ∃ j : Int, 0 ≤ j ∧ j < (n : Int) ∧ hdP A i j ∧ prH A i n = A.2.2.2.2.2.2.2 j
  | 0, y => absurd rfl y
  | n + 1, y => by
    by_cases q : hdP A i n
    · exact ⟨n, by omega, by omega, q, cif_y q⟩
    · have e : prH A i (n + 1) = prH A i n := cif_n q
      rw [e] at y
      obtain ⟨j, j0, j1, j2, j3⟩ := prH_ex n y
      exact ⟨j, j0, by omega, j2, by rw [e]; exact j3⟩
theorem cosK_pos {A : AD} {R : TR} {k : Nat} (l : (k : Int) < nk R) (c : 0 ≤ cosK A R (k + 1)) : 0 ≤ cosK A R k ∧ 0 ≤ cosT A (kdA R k) ∧ cosK A R (k + 1) = cosK A R k + cosT A (kdA R k) := by
  have e := cosK_s (A := A) l
  by_cases y : cosK A R k < 0 ∨ cosT A (kdA R k) < 0
  · rw [if_pos y] at e; omega
  · rw [if_neg y] at e; exact ⟨by omega, by omega, e⟩
theorem ev_gvA {E : EV} {W : Int → Int → Int → VW} {f : Int → Int → Int → Int} {p hl : Int → Int} {R : TR} (i2 : (inf R).1 = 2) (no : nk R = eO E (inf R).2.1) : (evT W f p hl R).1 = (gvA E W (inf R).2.1 (gv (evK W f p hl R) 0).1 (gv (evK W f p hl R) 1).1 (gv (evK W f p hl R) 2).1).1 := by
  have y1 : nk R ≤ 1 → (gv (evK W f p hl R) 1).1 = 0 := fun l => by rw [gv_no R 1 (by omega)]
  have y2 : nk R ≤ 2 → (gv (evK W f p hl R) 2).1 = 0 := fun l => by rw [gv_no R 2 (by omega)]
  unfold evT evN
  rw [if_neg (by omega), if_neg (by omega), if_neg (by omega)]
  by_cases y : (inf R).2.1 = 15 ∨ (inf R).2.1 = 16
  · rw [if_pos ⟨i2, y⟩]
    unfold evC gvA
    rw [if_pos y]
    by_cases x : (gv (evK W f p hl R) 0).1 = -1
    · rw [if_pos x, if_pos x]
    · rw [if_neg x, if_neg x]
      by_cases x1 : (gv (evK W f p hl R) 0).1 = 1
      · rw [if_pos x1, if_pos x1]
      · rw [if_neg x1, if_neg x1]
  · rw [if_neg (fun z => y z.2)]
    unfold evS gvA
    rw [if_neg y]
    by_cases q : (gv (evK W f p hl R) 0).1 = -1 ∨ (gv (evK W f p hl R) 1).1 = -1 ∨ (gv (evK W f p hl R) 2).1 = -1
    · rw [if_pos q, if_pos (show (gv (evK W f p hl R) 0).1 = -1 ∨ (2 ≤ eO E (inf R).2.1 ∧ (gv (evK W f p hl R) 1).1 = -1) ∨ (3 ≤ eO E (inf R).2.1 ∧ (gv (evK W f p hl R) 2).1 = -1) by omega)]
    · rw [if_neg q, if_neg (by omega), if_neg (show ¬ ((gv (evK W f p hl R) 0).1 = -1 ∨ (2 ≤ eO E (inf R).2.1 ∧ (gv (evK W f p hl R) 1).1 = -1) ∨ (3 ≤ eO E (inf R).2.1 ∧ (gv (evK W f p hl R) 2).1 = -1)) by omega)]
variable {E : EV} {W : Int → Int → Int → VW} {pts : Int} {A : AD}
theorem has_kid {cm c : Nat} {k : Int} {u : Int → Int} (l : cm ≤ c) (g : GT E W pts A cm (LV E W pts A cm)) (h : hasT pts (LV E W pts A cm) k u) : ∃ a, 0 ≤ a ∧ a < (LV E W pts A c).1 ∧ (LV E W pts A c).2.1 a = k ∧ 1 ≤ (LV E W pts A c).2.2.1 a ∧ (LV E W pts A c).2.2.1 a ≤ cm ∧ eqV pts ((LV E W pts A c).2.2.2.2.2 a) u := by
  obtain ⟨a, a0, a1, a2, a3⟩ := h
  have x := ext_LV (E := E) (W := W) (pts := pts) (A := A) c l
  have e := x.2 a a0 a1
  have w := g.2.1 a a0 a1
  exact ⟨a, a0, by have := x.1; omega, by rw [e.1]; exact a2, by rw [e.2.1]; exact w.1, by rw [e.2.1]; exact w.2.1, by rw [e.2.2.2.2]; exact a3⟩
theorem cos_has (ce : acE E) (va : VA E A pts) (np : 0 ≤ A.2.2.2.1) {n : Nat} (G : ∀ m : Nat, m ≤ n → GT E W pts A m (LV E W pts A m)) (f : Int → Int → Int → Int) (hl : Int → Int) : ∀ (D : Nat) (R : TR), dpT R < D → tyT E A.1 A.2.1 R 0 → pnT R → ∀ c : Nat, cosT A R = c → c ≤ n → hasT pts (LV E W pts A c) (inf R).2.2.1 (fun p => (evT W f (A.2.2.1 p) hl R).1)
  | 0, R, d, _, _, _, _, _ => by have := dpT_0 R; omega
  | D + 1, R, d, ty, pl, c, ec, cn => by
    have ti := tyT_nd ty
    rw [Int.zero_add] at ti
    have g := G c cn
    have P : pp9 A := fun k k0 k1 => (va.2.2 k k0 k1).1
    have p0 := pnT_nd pl
    have k0 := nk_0 R
    have e3 := cosT_K (A := A) R 3
    have eI : cosK A R 0 = prI A (inf R) := rfl
    have q01 : cosK A R (0 + 1) = cosK A R 1 := rfl
    have q02 : cosK A R (1 + 1) = cosK A R 2 := rfl
    have q03 : cosK A R (2 + 1) = cosK A R 3 := rfl
    obtain ⟨t1, t2, t3⟩ := ti
    rcases t3 with t | t | t | t | t
    · obtain ⟨u1, u2, u3, u4, u5⟩ := t
      have e := cosT_K (A := A) R 0 (by omega)
      have pe : prI A (inf R) = 1 := if_pos u1
      refine g.2.2.2.2 1 _ (inf R).2.1 (op3 (-1) (-1) (-1)) _ (by omega) (.inl ⟨u3, u4, u5, rfl, rfl, fun p p0 p1 => ?_⟩)
      show (evT W f (A.2.2.1 p) hl R).1 = A.2.2.1 p (inf R).2.1
      unfold evT evN
      rw [if_pos u1]
    · obtain ⟨u1, u2, u3⟩ := t
      have e := cosT_K (A := A) R 0 (by omega)
      have pe : prI A (inf R) = prH A (inf R) A.2.2.2.1.toNat := if_neg (by omega)
      obtain ⟨j, j0, j1, j2, j3⟩ := prH_ex (A := A) (i := inf R) A.2.2.2.1.toNat (by omega)
      rcases j2 with j2 | j2
      · obtain ⟨_, v2, v3, v4⟩ := j2
        refine g.2.2.2.2 (A.2.2.2.2.2.2.2 j) _ (A.1 + j) (op3 (-1) (-1) (-1)) _ (by omega) (.inr (.inl ⟨j, j0, by omega, rfl, v2, v3.symm, rfl, rfl, fun p p0 p1 => ?_⟩))
        show (evT W f (A.2.2.1 p) hl R).1 = A.2.2.2.2.2.2.1 j
        unfold evT evN
        rw [if_neg (by omega), if_pos u1]
        exact v4.symm
      · omega
    · omega
    · obtain ⟨u1, u2, u3, u4, u5⟩ := t
      have n1 := ce.2.2.1 (inf R).2.1 u2 u3
      have pe : prI A (inf R) = prH A (inf R) A.2.2.2.1.toNat := if_neg (by omega)
      have e := e3 (by omega)
      have kp : ∀ k : Nat, k ≤ 3 → 0 ≤ cosK A R k := fun k l => by
        have r := cosK_r P np R k
        by_cases y : cosK A R k = -1
        · have := cosK_ng y 3 l; omega
        · omega
      have ng : prH A (inf R) A.2.2.2.1.toNat ≠ -1 := fun y => by have := kp 0 (by omega); omega
      obtain ⟨j, j0, j1, j2, j3⟩ := prH_ex (A := A) (i := inf R) A.2.2.2.1.toNat ng
      rcases j2 with j2 | j2
      · omega
      · obtain ⟨_, v2, v3⟩ := j2
        have kid : ∀ k : Nat, (k : Int) < nk R → k < 3 → ∃ a, 0 ≤ a ∧ a < (LV E W pts A c).1 ∧ (LV E W pts A c).2.1 a = eK E (A.2.2.2.2.1 j) k ∧ 1 ≤ (LV E W pts A c).2.2.1 a ∧ (LV E W pts A c).2.2.1 a ≤ cosT A (kdA R k) ∧ eqV pts ((LV E W pts A c).2.2.2.2.2 a) (fun p => (evT W f (A.2.2.1 p) hl (kdA R k)).1) := fun k l l3 => by
          have q := cosK_pos (A := A) l (kp (k + 1) (by omega))
          have mo : ∀ m : Nat, k + 1 ≤ m → m ≤ 3 → cosK A R (k + 1) ≤ cosK A R m := fun m => by
            induction m with
            | zero => intro a; omega
            | succ m ih =>
              intro a b
              by_cases z : k + 1 = m + 1
              · rw [z]; exact Int.le_refl _
              · have := ih (by omega) (by omega)
                by_cases w : (m : Int) < nk R
                · have := cosK_pos (A := A) w (kp (m + 1) b); omega
                · rw [cosK_n w]; exact this
          have m3 := mo 3 (by omega) (by omega)
          have ka := kp k (by omega)
          have td := tyT_kd k ty l
          have dk := dpT_kd R k l
          have ih := cos_has ce va np G f hl D (kdA R k) (by omega) td.1 (pnT_kd k pl l) (cosT A (kdA R k)).toNat (by omega) (by omega)
          obtain ⟨a, a0, a1, a2, a3, a4, a5⟩ := has_kid (c := c) (by omega) (G _ (by omega)) ih
          have ea : acI (inf R) = (inf R).2.1 := if_neg (by omega)
          refine ⟨a, a0, a1, ?_, a3, by omega, a5⟩
          rw [a2, td.2, ea, v3, Int.zero_add]
        have vl : ∀ (a : Int) (k : Nat) (p : Int), 0 ≤ a → (k : Int) < nk R → 0 ≤ p → p < pts → eqV pts ((LV E W pts A c).2.2.2.2.2 a) (fun p => (evT W f (A.2.2.1 p) hl (kdA R k)).1) → (gv (evK W f (A.2.2.1 p) hl R) k).1 = vlO (LV E W pts A c).2.2.2.2.2 a p := fun a k p a0 l p0 p1 q => by
          rw [gv_kd R k l]
          show _ = if 0 ≤ a then _ else 0
          rw [if_pos a0]
          exact (q p p0 p1).symm
        have vn : ∀ (k : Nat) (p : Int), nk R ≤ (k : Int) → (gv (evK W f (A.2.2.1 p) hl R) k).1 = vlO (LV E W pts A c).2.2.2.2.2 (-1) p := fun k p l => by
          rw [gv_no R k l]; rfl
        have kk : (inf R).2.2.1 = eK E (A.2.2.2.2.1 j) (eO E (A.2.2.2.2.1 j)) := by rw [u5, v3]
        have eJ : eO E (A.2.2.2.2.1 j) = nk R := by rw [u4, v3]
        have c1 := cosK_pos (A := A) (R := R) (k := 0) (by omega) (kp 1 (by omega))
        obtain ⟨x, x0, x1, x2, x3, x4, x5⟩ := kid 0 (by omega) (by omega)
        have EV0 : ∀ (y z p : Int), 0 ≤ p → p < pts → (gv (evK W f (A.2.2.1 p) hl R) 1).1 = vlO (LV E W pts A c).2.2.2.2.2 y p → (gv (evK W f (A.2.2.1 p) hl R) 2).1 = vlO (LV E W pts A c).2.2.2.2.2 z p → (evT W f (A.2.2.1 p) hl R).1 = mkV E W (LV E W pts A c).2.2.2.2.2 (A.2.2.2.2.1 j) x y z p := fun y z p p0 p1 e1 e2 => by
          rw [ev_gvA u1 u4, vl x 0 p x0 (by omega) p0 p1 x5, e1, e2, v3]; rfl
        rcases (show nk R = 1 ∨ nk R = 2 ∨ nk R = 3 by omega) with N | N | N
        · have z1 := cosK_n (A := A) (R := R) (k := 1) (by omega)
          have z2 := cosK_n (A := A) (R := R) (k := 2) (by omega)
          refine g.2.2.2.2 (A.2.2.2.2.2.2.2 j + (LV E W pts A c).2.2.1 x + wO (LV E W pts A c) (-1) + wO (LV E W pts A c) (-1)) _ (A.1 + j) (op3 x (-1) (-1)) _ ?_ (.inr (.inr ⟨j, x, -1, -1, j0, by omega, rfl, by omega, kk, rfl, ⟨⟨x0, x1, x2⟩, .inl ⟨by omega, rfl, rfl⟩⟩, rfl, fun p p0 p1 => EV0 (-1) (-1) p p0 p1 (vn 1 p (by omega)) (vn 2 p (by omega))⟩))
          have w1 : wO (LV E W pts A c) (-1) = 0 := rfl
          rw [w1]
          have := c1.2.2
          omega
        · have c2 := cosK_pos (A := A) (R := R) (k := 1) (by omega) (kp 2 (by omega))
          obtain ⟨y, y0, y1, y2, y3, y4, y5⟩ := kid 1 (by omega) (by omega)
          have z2 := cosK_n (A := A) (R := R) (k := 2) (by omega)
          refine g.2.2.2.2 (A.2.2.2.2.2.2.2 j + (LV E W pts A c).2.2.1 x + wO (LV E W pts A c) y + wO (LV E W pts A c) (-1)) _ (A.1 + j) (op3 x y (-1)) _ ?_ (.inr (.inr ⟨j, x, y, -1, j0, by omega, rfl, by omega, kk, rfl, ⟨⟨x0, x1, x2⟩, .inr (.inl ⟨by omega, ⟨y0, y1, y2⟩, rfl⟩)⟩, rfl, fun p p0 p1 => EV0 y (-1) p p0 p1 (vl y 1 p y0 (by omega) p0 p1 y5) (vn 2 p (by omega))⟩))
          have w1 : wO (LV E W pts A c) (-1) = 0 := rfl
          have w2 : wO (LV E W pts A c) y = (LV E W pts A c).2.2.1 y := if_pos y0
          rw [w1, w2]
          have := c1.2.2
          have := c2.2.2
          omega
        · have c2 := cosK_pos (A := A) (R := R) (k := 1) (by omega) (kp 2 (by omega))
          have c3 := cosK_pos (A := A) (R := R) (k := 2) (by omega) (kp 3 (by omega))
          obtain ⟨y, y0, y1, y2, y3, y4, y5⟩ := kid 1 (by omega) (by omega)
          obtain ⟨z, z0, z1, z2, z3, z4, z5⟩ := kid 2 (by omega) (by omega)
          refine g.2.2.2.2 (A.2.2.2.2.2.2.2 j + (LV E W pts A c).2.2.1 x + wO (LV E W pts A c) y + wO (LV E W pts A c) z) _ (A.1 + j) (op3 x y z) _ ?_ (.inr (.inr ⟨j, x, y, z, j0, by omega, rfl, by omega, kk, rfl, ⟨⟨x0, x1, x2⟩, .inr (.inr ⟨by omega, ⟨y0, y1, y2⟩, ⟨z0, z1, z2⟩⟩)⟩, rfl, fun p p0 p1 => EV0 y z p p0 p1 (vl y 1 p y0 (by omega) p0 p1 y5) (vl z 2 p z0 (by omega) p0 p1 z5)⟩))
          have w2 : wO (LV E W pts A c) y = (LV E W pts A c).2.2.1 y := if_pos y0
          have w3 : wO (LV E W pts A c) z = (LV E W pts A c).2.2.1 z := if_pos z0
          rw [w2, w3]
          have := c1.2.2
          have := c2.2.2
          have := c3.2.2
          omega
    · have := p0; omega

