/-! the i-th term is a term, of the function that is said, and no greater than its price -/
theorem nd_okR {E : EV} {A : AD} {ac : Int} {g : Int → TR} (c : acE E) (an : 0 ≤ ac ∧ ac < E.1.1) (K : ∀ m, 0 ≤ m → m < eO E ac → okR E A (eK E ac m) (g m)) : okR E A (eK E ac (eO E ac)) (ndT (eO E ac) (2, ac, eK E ac (eO E ac), 0) g) := by
  have ec := c.2.2.1 _ an.1 an.2
  have ek := ec.2.2.2 (eO E ac) (by omega) (Int.le_refl _)
  have ai : acI (2, ac, eK E ac (eO E ac), 0) = ac := if_neg (by show ¬ (2 : Int) = 4; decide)
  have ai2 : acI (inf (Lean.RArray.leaf ((2, ac, eK E ac (eO E ac), 0) : NI))) = ac := ai
  have LI : ∀ n, n = eO E ac → tyI E A.1 A.2.1 (2, ac, eK E ac (eO E ac), 0) n := fun n z => ⟨ek.1, ek.2, Or.inr (Or.inr (Or.inr (Or.inl ⟨rfl, an.1, an.2, z, rfl⟩)))⟩
  have LT : tlT E.1.1 (.leaf (2, ac, eK E ac (eO E ac), 0)) := Or.inr (Or.inr (Or.inl ⟨rfl, an.1, an.2⟩))
  have LC : cgT A.1 E.1.1 (.leaf (2, ac, eK E ac (eO E ac), 0)) := ⟨by show (2 : Int) ≠ 3; decide, by show (2 : Int) ≠ 4; decide, fun z => by have : (2 : Int) = 0 := z; omega, fun _ => an, by show (0 : Int) ≤ 2; decide, by show (2 : Int) ≤ 4; decide⟩
  have l3 : (2 : Int) ≠ 3 := by decide
  have l4 : (2 : Int) ≠ 4 := by decide
  have k0 := K 0 (by omega) (by omega)
  rcases (show eO E ac = 1 ∨ eO E ac = 2 ∨ eO E ac = 3 by omega) with e | e | e
  · have en : ndT (eO E ac) (2, ac, eK E ac (eO E ac), 0) g = .branch 0 (g 0) (.leaf (2, ac, eK E ac (eO E ac), 0)) := if_pos e
    rw [en]
    exact ⟨⟨⟨k0.1.1, by show _ = eK E (acI _) _; (first | rw [ai] | rw [ai2]); exact k0.1.2, LI _ (by omega)⟩, rfl⟩, ⟨rfl, k0.2.1, LT⟩, ⟨k0.2.2.1, l3⟩, ⟨k0.2.2.2.1, l4⟩, fun hl => by show Lean.RArray.branch 0 (flT hl _) (.leaf _) = _; rw [k0.2.2.2.2.1 hl]; rfl, k0.2.2.2.2.2, LC⟩
  · have k1 := K 1 (by omega) (by omega)
    have en : ndT (eO E ac) (2, ac, eK E ac (eO E ac), 0) g = .branch 0 (g 0) (.branch 0 (g 1) (.leaf (2, ac, eK E ac (eO E ac), 0))) := (if_neg (by omega)).trans (if_pos e)
    rw [en]
    exact ⟨⟨⟨k0.1.1, by show _ = eK E (acI _) _; rw [show inf (Lean.RArray.branch 0 (g 1) (.leaf (2, ac, eK E ac (eO E ac), 0))) = (2, ac, eK E ac (eO E ac), 0) from rfl, ai]; exact k0.1.2, k1.1.1, by show _ = eK E (acI _) _; (first | rw [ai] | rw [ai2]); exact k1.1.2, LI _ (by omega)⟩, rfl⟩, ⟨rfl, k0.2.1, rfl, k1.2.1, LT⟩, ⟨k0.2.2.1, k1.2.2.1, l3⟩, ⟨k0.2.2.2.1, k1.2.2.2.1, l4⟩, fun hl => by show Lean.RArray.branch 0 (flT hl _) (.branch 0 (flT hl _) (.leaf _)) = _; rw [k0.2.2.2.2.1 hl, k1.2.2.2.2.1 hl]; rfl, k0.2.2.2.2.2, k1.2.2.2.2.2, LC⟩
  · have k1 := K 1 (by omega) (by omega)
    have k2 := K 2 (by omega) (by omega)
    have en : ndT (eO E ac) (2, ac, eK E ac (eO E ac), 0) g = .branch 0 (g 0) (.branch 0 (g 1) (.branch 0 (g 2) (.leaf (2, ac, eK E ac (eO E ac), 0)))) := (if_neg (by omega)).trans (if_neg (by omega))
    rw [en]
    exact ⟨⟨⟨k0.1.1, by show _ = eK E (acI _) _; rw [show inf (Lean.RArray.branch 0 (g 1) (.branch 0 (g 2) (.leaf (2, ac, eK E ac (eO E ac), 0)))) = (2, ac, eK E ac (eO E ac), 0) from rfl, ai]; exact k0.1.2, k1.1.1, by show _ = eK E (acI _) _; rw [show inf (Lean.RArray.branch 0 (g 2) (.leaf (2, ac, eK E ac (eO E ac), 0))) = (2, ac, eK E ac (eO E ac), 0) from rfl, ai]; exact k1.1.2, k2.1.1, by show _ = eK E (acI _) _; (first | rw [ai] | rw [ai2]); exact k2.1.2, LI _ (by omega)⟩, rfl⟩, ⟨rfl, k0.2.1, rfl, k1.2.1, rfl, k2.2.1, LT⟩, ⟨k0.2.2.1, k1.2.2.1, k2.2.2.1, l3⟩, ⟨k0.2.2.2.1, k1.2.2.2.1, k2.2.2.2.1, l4⟩, fun hl => by show Lean.RArray.branch 0 (flT hl _) (.branch 0 (flT hl _) (.branch 0 (flT hl _) (.leaf _))) = _; rw [k0.2.2.2.2.1 hl, k1.2.2.2.2.1 hl, k2.2.2.2.2.1 hl]; rfl, k0.2.2.2.2.2, k1.2.2.2.2.2, k2.2.2.2.2.2, LC⟩
theorem lf_okR {E : EV} {A : AD} {pts h : Int} (v : VA E A pts) (A3 : A.1 ≤ 3) (h0 : 0 ≤ h) (h1 : h < A.1 + A.2.2.2.1) (l : iLf A h) : okR E A (lkA A h) (.leaf (lfI A h)) := by
  by_cases y : h < A.1
  · have kk := v.1 h h0 y
    have e : lfI A h = (0, h, lkA A h, 0) := if_pos y
    have ek : lkA A h = A.2.1 h := if_pos y
    rw [e, ek]
    exact ⟨⟨⟨kk.1, kk.2, Or.inl ⟨rfl, rfl, h0, y, rfl⟩⟩, rfl⟩, Or.inl ⟨rfl, h0, by show h ≤ 2; omega⟩, by show (0 : Int) ≠ 3; decide, by show (0 : Int) ≠ 4; decide, fun hl => rfl, by show (0 : Int) ≠ 3; decide, by show (0 : Int) ≠ 4; decide, fun _ => ⟨h0, y⟩, fun z => by have : (0 : Int) = 2 := z; omega, by show (0 : Int) ≤ 0; decide, by show (0 : Int) ≤ 4; decide⟩
  · have e : lfI A h = (1, lvA A h 0, lkA A h, 0) := if_neg y
    have ek : lkA A h = A.2.2.2.2.2.1 (h - A.1) := if_neg y
    have ev : lvA A h 0 = A.2.2.2.2.2.2.1 (h - A.1) := if_neg y
    have vj : (0 ≤ A.2.2.2.2.2.1 (h - A.1) ∧ A.2.2.2.2.2.1 (h - A.1) ≤ 2) ∧ vlR (A.2.2.2.2.2.1 (h - A.1)) (A.2.2.2.2.2.2.1 (h - A.1)) := by
      rcases (v.2.2 (h - A.1) (by omega) (by omega)).2 with w | w
      · exact w.2
      · rcases l with l | l <;> omega
    rw [e, ek, ev]
    exact ⟨⟨⟨vj.1.1, vj.1.2, Or.inr (Or.inl ⟨rfl, rfl, Or.inr vj.2⟩)⟩, rfl⟩, Or.inr (Or.inl ⟨rfl, vj.2, vj.1.1, vj.1.2⟩), by show (1 : Int) ≠ 3; decide, by show (1 : Int) ≠ 4; decide, fun hl => rfl, by show (1 : Int) ≠ 3; decide, by show (1 : Int) ≠ 4; decide, fun z => by have : (1 : Int) = 0 := z; omega, fun z => by have : (1 : Int) = 2 := z; omega, by show (0 : Int) ≤ 1; decide, by show (1 : Int) ≤ 4; decide⟩
/-- sizes of operands so far -/
def szG (g : Int → TR) (k : Int) : Int := (if 0 < k then sz (g 0) else 0) + (if 1 < k then sz (g 1) else 0) + (if 2 < k then sz (g 2) else 0)
theorem szG_1 {g : Int → TR} {k : Int} {R : TR} (k0 : 0 ≤ k ∧ k < 3) : szG (up1 g k R) (k + 1) = szG g k + sz R := by
  unfold szG
  rcases (show k = 0 ∨ k = 1 ∨ k = 2 by omega) with y | y | y <;> subst y
  · rw [if_pos (by decide), if_neg (by decide), if_neg (by decide), if_neg (by decide), if_neg (by decide), if_neg (by decide), up1_e]; omega
  · rw [if_pos (by decide), if_pos (by decide), if_neg (by decide), if_pos (by decide), if_neg (by decide), if_neg (by decide), up1_o (by decide), up1_e]; omega
  · rw [if_pos (by decide), if_pos (by decide), if_pos (by decide), if_pos (by decide), if_pos (by decide), if_neg (by decide), up1_o (by decide), up1_o (by decide), up1_e]; omega
theorem nd_sz {n : Int} {i : NI} {g : Int → TR} (n1 : 1 ≤ n ∧ n ≤ 3) : sz (ndT n i g) = 1 + szG g n := by
  unfold szG
  rcases (show n = 1 ∨ n = 2 ∨ n = 3 by omega) with y | y | y <;> subst y
  · rw [if_pos (by decide), if_neg (by decide), if_neg (by decide)]; show sz (g 0) + 1 = _; omega
  · rw [if_pos (by decide), if_pos (by decide), if_neg (by decide)]; show sz (g 0) + (sz (g 1) + 1) = _; omega
  · rw [if_pos (by decide), if_pos (by decide), if_pos (by decide)]; show sz (g 0) + (sz (g 1) + (sz (g 2) + 1)) = _; omega
/-- what is known of a term that was found -/
def itG (E : EV) (W : Int → Int → Int → VW) (pts : Int) (A : AD) (T : TB) (n : Nat) (w : Int → Int) (q : Int) (R : TR) (f r : Int) : Prop := ((0 ≤ f ∧ f < (LV E W pts A n).1) ∧ 0 ≤ r ∧ r < w f) ∧ sz R ≤ q ∧ okR E A (T.2.1 f) R
section ITOK
variable {E : EV} {W : Int → Int → Int → VW} {pts : Int} {A : AD} {n : Nat} {T : TB}
theorem al_1 {ac : Int} {w : Int → Int} {m : Nat} {k left : Int} {s : Int → Int} {r i : Int} (r0 : 0 ≤ r) (x : sumN (alW E W pts T (ct E W pts A) ac w m k left s) r.toNat ≤ i) (y : i < sumN (alW E W pts T (ct E W pts A) ac w m k left s) (r + 1).toNat) : 1 ≤ r ∧ i - sumN (alW E W pts T (ct E W pts A) ac w m k left s) r.toNat < alW E W pts T (ct E W pts A) ac w m k left s r := by
  rw [sumN_s r0] at y
  refine ⟨?_, by omega⟩
  by_cases z : r = 0
  · subst z
    have e : alW E W pts T (ct E W pts A) ac w m k left s 0 = 0 := sumN_0 (fun j _ _ => by rw [ct_n (by decide), Int.zero_mul])
    omega
  · omega
/-- a chosen operand fits -/
theorem ow_op (tq : TQ E W pts A n T) {ac : Int} {w : Int → Int} {m : Nat} {k left used : Int} {s : Int → Int} {r f i : Int} (o : opS E W pts A n ac k used s) (k0 : 0 ≤ k ∧ k < 3) (rn : r ≤ n) (f0 : 0 ≤ f) (i0 : 0 ≤ i) (l : i < owW E W pts T (ct E W pts A) ac w m k left s r f) : T.2.1 f = eK E ac k ∧ f < (LV E W pts A n).1 ∧ opS E W pts A n ac (k + 1) (used + r) (up1 s k f) ∧ i < rsW E W pts T (ct E W pts A) ac w m (k + 1) (left - r) (up1 s k f) := by
  unfold owW at l
  by_cases y : T.2.1 f = eK E ac k ∧ ct E W pts A r f ≠ 0
  · rw [cif_y y] at l
    have SU := ct_sup tq.1 (i := r) (f := f) f0 (by omega) y.2
    have q := tq.2.1.2 f f0 SU.2.1
    exact ⟨y.1, SU.2.1, opS_1 o k0 ⟨f0, SU.2.1⟩ (by rw [← q.1]; exact y.1) SU.2.2.2, l⟩
  · rw [cif_n y] at l
    omega
theorem opR_ok (tq : TQ E W pts A n T) (d : dsT pts T) {I : Int → (Int → Int) → Int → TR → Int → Int → Prop} (hI : ∀ (q : Int) (w : Int → Int) (i : Int) (R : TR) (f r : Int), 1 ≤ q → q ≤ (n : Int) → (∀ f, 0 ≤ w f) → 0 ≤ i → I q w i R f r → itG E W pts A T n w q R f r) {j ac : Int} (ia : (0 ≤ j ∧ j < A.2.2.2.1) ∧ A.2.2.2.2.1 j = ac ∧ 0 ≤ ac ∧ ac < E.1.1) {w : Int → Int} (w0 : ∀ f, 0 ≤ w f) : ∀ (m : Nat) (k left : Int) (s : Int → Int) (g : Int → TR) (i : Int) (R : TR) (f r used : Int), (m : Int) + k = eO E ac → 0 ≤ k → opS E W pts A n ac k used s → A.2.2.2.2.2.2.2 j + used + left ≤ n → 0 ≤ used → 0 ≤ left → (∀ x, 0 ≤ x → x < k → okR E A (eK E ac x) (g x)) → szG g k ≤ used → 0 ≤ i → i < rsW E W pts T (ct E W pts A) ac w m k left s → opRd E W pts T (ct E W pts A) I ac w m k left s g i R f r → itG E W pts A T n w (1 + used + left) R f r
  | 0, k, left, s, g, i, R, f, r, used, mkk, k0, o, pr, u0, l0, K, sg, i0, i1, op => by
    have oo := tq.1.2.2.2.2.1.2.2.1 _ ia.2.2.1 ia.2.2.2
    have OT := opS_T tq d ia o (by omega) (by omega) (by omega)
    obtain ⟨e1, e2, e3⟩ := op
    subst e1
    subst e2
    subst e3
    have rs : rsW E W pts T (ct E W pts A) ac w 0 k left s = if left = 0 then w (ixS E W pts T ac s) else 0 := rfl
    rw [rs] at i1
    have kk : T.2.1 (ixS E W pts T ac s) = eK E ac (eO E ac) := (ixT_h OT.2.1).2.2.1
    refine ⟨⟨OT.2.2.2.1, i0, ?_⟩, ?_, ?_⟩
    · split at i1 <;> omega
    · rw [nd_sz (by omega), show eO E ac = k by omega]
      omega
    · rw [kk]
      exact nd_okR tq.1.2.2.2.2.1 ia.2.2 (fun m m0 m1 => K m m0 (by omega))
  | m + 1, k, left, s, g, i, R, f, r, used, mkk, k0, o, pr, u0, l0, K, sg, i0, i1, op => by
    have oo := tq.1.2.2.2.2.1.2.2.1 _ ia.2.2.1 ia.2.2.2
    have pp := (tq.1.2.2.2.1.2.2 j ia.1.1 ia.1.2).1
    obtain ⟨x, R1, f1, i1', x0, x1, x2, x3, x4, x5⟩ := op
    have A1 := al_1 x0 x2 x3
    have H := hI _ _ _ _ _ _ A1.1 (by omega) (fun f => owT_0 ct_0 w0) (by omega) x4
    have OO := ow_op tq o (by omega) (by omega) H.1.1.1 H.1.2.1 H.1.2.2
    have Z := opR_ok tq d hI ia w0 m (k + 1) (left - x) (up1 s k f1) (up1 g k R1) i1' R f r (used + x) (by omega) (by omega) OO.2.2.1 (by omega) (by omega) (by omega) (fun y y0 y1 => by
      by_cases e : y = k
      · rw [e, up1_e, ← OO.1]
        exact H.2.2
      · rw [up1_o e]
        exact K y y0 (by omega)) (by rw [szG_1 (by omega)]; have := H.2.1; omega) H.1.2.1 OO.2.2.2 x5
    exact ⟨Z.1, by have := Z.2.1; omega, Z.2.2⟩
/-- a head's terms -/
theorem hd_ac (tq : TQ E W pts A n T) {h : Int} (h0 : 0 ≤ h) (h1 : h < A.1 + A.2.2.2.1) (l : ¬ iLf A h) : ((0 ≤ h - A.1 ∧ h - A.1 < A.2.2.2.1) ∧ A.2.2.2.2.1 (h - A.1) = A.2.2.2.2.1 (h - A.1) ∧ 0 ≤ A.2.2.2.2.1 (h - A.1) ∧ A.2.2.2.2.1 (h - A.1) < E.1.1) ∧ prL A h = A.2.2.2.2.2.2.2 (h - A.1) ∧ 1 ≤ prL A h := by
  have A3 := tq.1.2.2.2.2.2
  have nl : ¬ h < A.1 := fun z => l (Or.inl z)
  have pe : prL A h = A.2.2.2.2.2.2.2 (h - A.1) := if_neg nl
  have vv := tq.1.2.2.2.1.2.2 (h - A.1) (by omega) (by omega)
  have va : 0 ≤ A.2.2.2.2.1 (h - A.1) ∧ A.2.2.2.2.1 (h - A.1) < E.1.1 := by
    rcases vv.2 with u | u
    · exact absurd (Or.inr u.1) l
    · exact u
  exact ⟨⟨by omega, rfl, va⟩, pe, by have := vv.1; omega⟩
theorem itR_ok (tq : TQ E W pts A n T) (d : dsT pts T) : ∀ (D : Nat) (q : Int) (w : Int → Int) (i : Int) (R : TR) (f r : Int), 1 ≤ q → q ≤ n → (∀ f, 0 ≤ w f) → 0 ≤ i → itR E W pts A T (ct E W pts A) D q w i R f r → itG E W pts A T n w q R f r
  | 0, q, w, i, R, f, r, _, _, _, _, a => a.elim
  | D + 1, q, w, i, R, f, r, q1, qn, w0, i0, a => by
    have A3 := tq.1.2.2.2.2.2
    obtain ⟨h, h0, h1, x2, x3, x4⟩ := a
    rw [sumN_s h0] at x3
    rcases x4 with x4 | x4
    · obtain ⟨l, p, e1, e2, e3⟩ := x4
      subst e1
      subst e2
      subst e3
      have hh := lf_has tq.1 h0 h1 l (by omega)
      have i1 := ixT_h hh
      have i2 := ixT_h (hasT_e tq.2.1 hh)
      have IE : ixL pts A T h = ixL pts A (LV E W pts A n) h := ixT_e tq.2.1 d hh
      have hw : hwC E W pts A T (ct E W pts A) w q h = w (ixL pts A T h) := by
        unfold hwC
        rw [cif_y l, cif_y p]
      have ix : 0 ≤ ixL pts A T h ∧ ixL pts A T h < (LV E W pts A n).1 := by
        rw [IE]
        exact ⟨i1.1, i1.2.1⟩
      have kk : T.2.1 (ixL pts A T h) = lkA A h := i2.2.2.1
      refine ⟨⟨ix, by omega, by omega⟩, by show (1 : Int) ≤ q; omega, ?_⟩
      rw [kk]
      exact lf_okR tq.1.2.2.2.1 (by omega) h0 h1 l
    · obtain ⟨l, p, op⟩ := x4
      have HA := hd_ac tq h0 h1 l
      have oo := tq.1.2.2.2.2.1.2.2.1 _ HA.1.2.2.1 HA.1.2.2.2
      have hw : hwC E W pts A T (ct E W pts A) w q h = rsW E W pts T (ct E W pts A) (A.2.2.2.2.1 (h - A.1)) w (eO E (A.2.2.2.2.1 (h - A.1))).toNat 0 (q - prL A h) s0T := by
        unfold hwC
        rw [cif_n l, cif_y p]
      have Z := opR_ok tq d (fun q w i R f r q1 qn w0 i0 a => itR_ok tq d D q w i R f r q1 qn w0 i0 a) HA.1 w0 _ 0 (q - prL A h) s0T (fun _ => .leaf (0, 0, 0, 0)) (i - sumN (hwC E W pts A T (ct E W pts A) w q) h.toNat) R f r 0 (by omega) (Int.le_refl _) (opS_0 _) (by omega) (Int.le_refl _) (by omega) (fun x x0 x1 => by omega) (by show szG _ 0 ≤ 0; decide) (by omega) (by rw [← hw]; omega) op
      exact ⟨Z.1, by have := Z.2.1; omega, Z.2.2⟩
end ITOK

