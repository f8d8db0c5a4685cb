/-! the i-th term, by the levels alone: what table stands behind is no matter -/
section ITL
variable {E : EV} {W : Int → Int → Int → VW} {pts : Int} {A : AD} {n : Nat} {T : TB}
theorem rs_L (tq : TQ E W pts A n T) (d : dsT pts T) {j ac : Int} (ia : (0 ≤ j ∧ j < A.2.2.2.1) ∧ A.2.2.2.2.1 j = ac ∧ 0 ≤ ac ∧ ac < E.1.1) {w w' : Int → Int} (ww : ∀ f, 0 ≤ f → f < (LV E W pts A n).1 → w f = w' f) : ∀ (m : Nat) (k left used : Int) (s : Int → Int), (m : Int) + k = eO E ac → 0 ≤ k → opS E W pts A n ac k used s → A.2.2.2.2.2.2.2 j + used + left ≤ n → 0 ≤ used → 0 ≤ left → rsW E W pts T (ct E W pts A) ac w m k left s = rsW E W pts (LV E W pts A n) (ct E W pts A) ac w' m k left s
  | 0, k, left, used, s, mkk, k0, o, pr, u0, l0 => by
    have oo := tq.1.2.2.2.2.1.2.2.1 _ ia.2.2.1 ia.2.2.2
    have OT := opS_T tq d ia o (by omega) (by omega) (by omega)
    show (if left = 0 then w (ixS E W pts T ac s) else 0) = if left = 0 then w' (ixS E W pts (LV E W pts A n) ac s) else 0
    rw [ww _ OT.2.2.2.1.1 OT.2.2.2.1.2, OT.2.2.1]
  | m + 1, k, left, used, s, mkk, k0, o, pr, u0, l0 => by
    have oo := tq.1.2.2.2.2.1.2.2.1 _ ia.2.2.1 ia.2.2.2
    have pp := (tq.1.2.2.2.1.2.2 j ia.1.1 ia.1.2).1
    have lx := tq.2.1.1
    have l00 := LV_0 (E := E) (W := W) (pts := pts) (A := A) n
    show sumN (fun r => sumN (fun f => ct E W pts A r f * cif (T.2.1 f = eK E ac k) (rsW E W pts T (ct E W pts A) ac w m (k + 1) (left - r) (up1 s k f)) 0) T.1.toNat) (left + 1).toNat = sumN (fun r => sumN (fun f => ct E W pts A r f * cif ((LV E W pts A n).2.1 f = eK E ac k) (rsW E W pts (LV E W pts A n) (ct E W pts A) ac w' m (k + 1) (left - r) (up1 s k f)) 0) (LV E W pts A n).1.toNat) (left + 1).toNat
    refine sumN_c (fun r r0 r1 => ?_)
    have ex : sumN (fun f => ct E W pts A r f * cif (T.2.1 f = eK E ac k) (rsW E W pts T (ct E W pts A) ac w m (k + 1) (left - r) (up1 s k f)) 0) T.1.toNat = sumN (fun f => ct E W pts A r f * cif (T.2.1 f = eK E ac k) (rsW E W pts T (ct E W pts A) ac w m (k + 1) (left - r) (up1 s k f)) 0) (LV E W pts A n).1.toNat := sumN_ex (fun f a b => by omega) (fun f a b => by rw [ct_zT tq (by omega) (by omega) (Or.inl (by omega)), Int.zero_mul])
    rw [ex]
    refine sumN_c (fun f f0 f1 => ?_)
    by_cases z : ct E W pts A r f = 0
    · rw [z, Int.zero_mul, Int.zero_mul]
    · have SU := ct_sup tq.1 (i := r) (f := f) f0 (by omega) z
      have q := tq.2.1.2 f f0 SU.2.1
      rw [q.1]
      by_cases y : (LV E W pts A n).2.1 f = eK E ac k
      · rw [cif_y y, cif_y y, rs_L tq d ia ww m (k + 1) (left - r) (used + r) (up1 s k f) (by omega) (by omega) (opS_1 o (by omega) ⟨f0, SU.2.1⟩ y SU.2.2.2) (by omega) (by omega) (by omega)]
      · rw [cif_n y, cif_n y]
theorem ow_L (tq : TQ E W pts A n T) (d : dsT pts T) {j ac : Int} (ia : (0 ≤ j ∧ j < A.2.2.2.1) ∧ A.2.2.2.2.1 j = ac ∧ 0 ≤ ac ∧ ac < E.1.1) {w w' : Int → Int} (ww : ∀ f, 0 ≤ f → f < (LV E W pts A n).1 → w f = w' f) {m : Nat} {k left used r f : Int} {s : Int → Int} (mk : (m : Int) + 1 + k = eO E ac) (k0 : 0 ≤ k) (o : opS E W pts A n ac k used s) (pr : A.2.2.2.2.2.2.2 j + used + left ≤ n) (u0 : 0 ≤ used) (r0 : 0 ≤ r ∧ r ≤ left) (f0 : 0 ≤ f ∧ f < (LV E W pts A n).1) : owW E W pts T (ct E W pts A) ac w m k left s r f = owW E W pts (LV E W pts A n) (ct E W pts A) ac w' m k left s r f := by
  have oo := tq.1.2.2.2.2.1.2.2.1 _ ia.2.2.1 ia.2.2.2
  have pp := (tq.1.2.2.2.1.2.2 j ia.1.1 ia.1.2).1
  have q := tq.2.1.2 f f0.1 f0.2
  unfold owW
  rw [q.1]
  by_cases y : (LV E W pts A n).2.1 f = eK E ac k ∧ ct E W pts A r f ≠ 0
  · have SU := ct_sup tq.1 (i := r) (f := f) f0.1 (by omega) y.2
    rw [cif_y y, cif_y y]
    exact rs_L tq d ia ww m (k + 1) (left - r) (used + r) (up1 s k f) (by omega) (by omega) (opS_1 o (by omega) f0 y.1 SU.2.2.2) (by omega) (by omega) (by omega)
  · rw [cif_n y, cif_n y]
theorem al_L (tq : TQ E W pts A n T) (d : dsT pts T) {j ac : Int} (ia : (0 ≤ j ∧ j < A.2.2.2.1) ∧ A.2.2.2.2.1 j = ac ∧ 0 ≤ ac ∧ ac < E.1.1) {w w' : Int → Int} (ww : ∀ f, 0 ≤ f → f < (LV E W pts A n).1 → w f = w' f) {m : Nat} {k left used : Int} {s : Int → Int} (mk : (m : Int) + 1 + k = eO E ac) (k0 : 0 ≤ k) (o : opS E W pts A n ac k used s) (pr : A.2.2.2.2.2.2.2 j + used + left ≤ n) (u0 : 0 ≤ used) {r : Int} (r1 : r ≤ left + 1) : sumN (alW E W pts T (ct E W pts A) ac w m k left s) r.toNat = sumN (alW E W pts (LV E W pts A n) (ct E W pts A) ac w' m k left s) r.toNat := by
  have lx := tq.2.1.1
  have l00 := LV_0 (E := E) (W := W) (pts := pts) (A := A) n
  have pp := (tq.1.2.2.2.1.2.2 j ia.1.1 ia.1.2).1
  refine sumN_c (fun x x0 x1 => ?_)
  show sumN (fun f => ct E W pts A x f * owW E W pts T (ct E W pts A) ac w m k left s x f) T.1.toNat = sumN (fun f => ct E W pts A x f * owW E W pts (LV E W pts A n) (ct E W pts A) ac w' m k left s x f) (LV E W pts A n).1.toNat
  have ex : sumN (fun f => ct E W pts A x f * owW E W pts T (ct E W pts A) ac w m k left s x f) T.1.toNat = sumN (fun f => ct E W pts A x f * owW E W pts T (ct E W pts A) ac w m k left s x f) (LV E W pts A n).1.toNat := sumN_ex (fun f a b => by omega) (fun f a b => by rw [ct_zT tq (by omega) (by omega) (Or.inl (by omega)), Int.zero_mul])
  rw [ex]
  exact sumN_c (fun f f0 f1 => by rw [ow_L tq d ia ww mk k0 o pr u0 ⟨x0, by omega⟩ ⟨f0, by omega⟩])
theorem hw_L (tq : TQ E W pts A n T) (d : dsT pts T) {w w' : Int → Int} (ww : ∀ f, 0 ≤ f → f < (LV E W pts A n).1 → w f = w' f) {q h : Int} (q1 : 1 ≤ q ∧ q ≤ n) (h0 : 0 ≤ h ∧ h < A.1 + A.2.2.2.1) : hwC E W pts A T (ct E W pts A) w q h = hwC E W pts A (LV E W pts A n) (ct E W pts A) w' q h := by
  unfold hwC
  by_cases l : iLf A h
  · rw [cif_y l, cif_y l]
    by_cases p : prL A h = q
    · have hh := lf_has tq.1 h0.1 h0.2 l (by omega)
      have i1 := ixT_h hh
      have IE : ixL pts A T h = ixL pts A (LV E W pts A n) h := ixT_e tq.2.1 d hh
      rw [cif_y p, cif_y p, IE]
      exact ww _ i1.1 i1.2.1
    · rw [cif_n p, cif_n p]
  · rw [cif_n l, cif_n l]
    by_cases p : prL A h < q
    · have HA := hd_ac tq h0.1 h0.2 l
      have oo := tq.1.2.2.2.2.1.2.2.1 _ HA.1.2.2.1 HA.1.2.2.2
      rw [cif_y p, cif_y p]
      exact rs_L tq d HA.1 ww _ 0 (q - prL A h) 0 s0T (by omega) (Int.le_refl _) (opS_0 _) (by omega) (Int.le_refl _) (by omega)
    · rw [cif_n p, cif_n p]
theorem opR_L (tq : TQ E W pts A n T) (d : dsT pts T) {I I' : Int → (Int → Int) → Int → TR → Int → Int → Prop} (hI : ∀ (q : Int) (w : Int → Int) (i : Int) (R : TR) (f r : Int), 1 ≤ q → q ≤ (n : Int) → (∀ f, 0 ≤ w f) → 0 ≤ i → I q w i R f r → itG E W pts A T n w q R f r) (hL : ∀ (q : Int) (w w' : Int → Int) (i : Int) (R : TR) (f r : Int), 1 ≤ q → q ≤ (n : Int) → (∀ f, 0 ≤ w f) → 0 ≤ i → (∀ f, 0 ≤ f → f < (LV E W pts A n).1 → w f = w' f) → I q w i R f r → I' q w' i R f r) {j ac : Int} (ia : (0 ≤ j ∧ j < A.2.2.2.1) ∧ A.2.2.2.2.1 j = ac ∧ 0 ≤ ac ∧ ac < E.1.1) {w w' : Int → Int} (w0 : ∀ f, 0 ≤ w f) (ww : ∀ f, 0 ≤ f → f < (LV E W pts A n).1 → w f = w' f) : ∀ (m : Nat) (k left used : Int) (s : Int → Int) (g : Int → TR) (i : Int) (R : TR) (f r : Int), (m : Int) + k = eO E ac → 0 ≤ k → opS E W pts A n ac k used s → A.2.2.2.2.2.2.2 j + used + left ≤ n → 0 ≤ used → 0 ≤ left → 0 ≤ i → opRd E W pts T (ct E W pts A) I ac w m k left s g i R f r → opRd E W pts (LV E W pts A n) (ct E W pts A) I' ac w' m k left s g i R f r
  | 0, k, left, used, s, g, i, R, f, r, mkk, k0, o, pr, u0, l0, i0, op => by
    have oo := tq.1.2.2.2.2.1.2.2.1 _ ia.2.2.1 ia.2.2.2
    have OT := opS_T tq d ia o (by omega) (by omega) (by omega)
    exact ⟨op.1, op.2.1.trans OT.2.2.1, op.2.2⟩
  | m + 1, k, left, used, s, g, i, R, f, r, mkk, k0, o, pr, u0, l0, i0, op => by
    have oo := tq.1.2.2.2.2.1.2.2.1 _ ia.2.2.1 ia.2.2.2
    have pp := (tq.1.2.2.2.1.2.2 j ia.1.1 ia.1.2).1
    obtain ⟨x, R1, f1, i1, x0, x1, x2, x3, x4, x5⟩ := op
    have A1 := al_1 x0 x2 x3
    have H := hI _ _ _ _ _ _ A1.1 (by omega) (fun f => owT_0 ct_0 w0) (by omega) x4
    have OO := ow_op tq o (by omega) (by omega) H.1.1.1 H.1.2.1 H.1.2.2
    have e1 := al_L tq d ia ww (m := m) (k := k) (left := left) (by omega) k0 o pr u0 (r := x) (by omega)
    have e2 := al_L tq d ia ww (m := m) (k := k) (left := left) (by omega) k0 o pr u0 (r := x + 1) (by omega)
    refine ⟨x, R1, f1, i1, x0, x1, by rw [← e1]; exact x2, by rw [← e2]; exact x3, ?_, ?_⟩
    · rw [← e1]
      exact hL _ _ _ _ _ _ _ A1.1 (by omega) (fun f => owT_0 ct_0 w0) (by omega) (fun f f0 f1 => ow_L tq d ia ww (by omega) k0 o pr u0 ⟨x0, x1⟩ ⟨f0, f1⟩) x4
    · exact opR_L tq d hI hL ia w0 ww m (k + 1) (left - x) (used + x) (up1 s k f1) (up1 g k R1) i1 R f r (by omega) (by omega) OO.2.2.1 (by omega) (by omega) (by omega) H.1.2.1 x5
theorem itR_L (tq : TQ E W pts A n T) (d : dsT pts T) : ∀ (D : Nat) (q : Int) (w w' : Int → Int) (i : Int) (R : TR) (f r : Int), 1 ≤ q → q ≤ n → (∀ f, 0 ≤ w f) → 0 ≤ i → (∀ f, 0 ≤ f → f < (LV E W pts A n).1 → w f = w' f) → itR E W pts A T (ct E W pts A) D q w i R f r → itR E W pts A (LV E W pts A n) (ct E W pts A) D q w' i R f r
  | 0, q, w, w', i, R, f, r, _, _, _, _, _, a => a.elim
  | D + 1, q, w, w', i, R, f, r, q1, qn, w0, i0, ww, a => by
    have A3 := tq.1.2.2.2.2.2
    obtain ⟨h, h0, h1, x2, x3, x4⟩ := a
    have e1 : sumN (hwC E W pts A T (ct E W pts A) w q) h.toNat = sumN (hwC E W pts A (LV E W pts A n) (ct E W pts A) w' q) h.toNat := sumN_c (fun x x0 x1 => hw_L tq d ww ⟨q1, qn⟩ ⟨x0, by omega⟩)
    have e2 : sumN (hwC E W pts A T (ct E W pts A) w q) (h + 1).toNat = sumN (hwC E W pts A (LV E W pts A n) (ct E W pts A) w' q) (h + 1).toNat := sumN_c (fun x x0 x1 => hw_L tq d ww ⟨q1, qn⟩ ⟨x0, by omega⟩)
    refine ⟨h, h0, h1, by rw [← e1]; exact x2, by rw [← e2]; exact x3, ?_⟩
    rcases x4 with x4 | x4
    · have hh := lf_has tq.1 h0 h1 x4.1 (by omega)
      have IE : ixL pts A T h = ixL pts A (LV E W pts A n) h := ixT_e tq.2.1 d hh
      exact Or.inl ⟨x4.1, x4.2.1, x4.2.2.1, x4.2.2.2.1.trans IE, by rw [← e1]; exact x4.2.2.2.2⟩
    · have HA := hd_ac tq h0 h1 x4.1
      have oo := tq.1.2.2.2.2.1.2.2.1 _ HA.1.2.2.1 HA.1.2.2.2
      refine Or.inr ⟨x4.1, x4.2.1, ?_⟩
      rw [← e1]
      exact opR_L tq d (fun q w i R f r a b c e g => itR_ok tq d D q w i R f r a b c e g) (fun q w w' i R f r a b c e g k => itR_L tq d D q w w' i R f r a b c e g k) HA.1 w0 ww _ 0 (q - prL A h) 0 s0T _ _ R f r (by omega) (Int.le_refl _) (opS_0 _) (by have := x4.2.1; omega) (Int.le_refl _) (by have := x4.2.1; omega) (by omega) x4.2.2
end ITL
/-- which functions meet, as weights -/
noncomputable def wMt (E : EV) (W : Int → Int → Int → VW) (K : AK) (p : Nat) (f : Int) : Int := cif (f < (LV E W (kP K) (kA K) p).1 ∧ MKT E W K p f) 1 0
theorem wM_0 {E : EV} {W : Int → Int → Int → VW} {K : AK} {p : Nat} (f : Int) : 0 ≤ wMt E W K p f := cif_0 (by decide)
theorem tw_mt {E : EV} {W : Int → Int → Int → VW} {K : AK} {p : Nat} {T : TB} (l : (LV E W (kP K) (kA K) p).1 ≤ T.1) : twC E W (kP K) (kA K) T (wMt E W K p) p = mtC E W K p := by
  have l00 := LV_0 (E := E) (W := W) (pts := kP K) (A := kA K) p
  have ex : sumN (fun f => ct E W (kP K) (kA K) p f * wMt E W K p f) T.1.toNat = sumN (fun f => ct E W (kP K) (kA K) p f * wMt E W K p f) (LV E W (kP K) (kA K) p).1.toNat := sumN_ex (fun f a b => by omega) (fun f a b => by rw [show wMt E W K p f = 0 from cif_n (fun y => by have := y.1; omega), Int.mul_zero])
  show sumN (fun f => ct E W (kP K) (kA K) p f * wMt E W K p f) T.1.toNat = sumN (fun f => cif (MKT E W K p f) (ct E W (kP K) (kA K) p f) 0) _
  rw [ex]
  refine sumN_c (fun f f0 f1 => ?_)
  unfold wMt
  by_cases y : MKT E W K p f
  · rw [cif_y y, cif_y ⟨by omega, y⟩, Int.mul_one]
  · rw [cif_n y, cif_n (fun z => y z.2), Int.mul_zero]
/-- the i-th term that meets, of a price -/
def itF (E : EV) (W : Int → Int → Int → VW) (K : AK) (p : Nat) (i : Int) (R : TR) : Prop := ∃ f r, itR E W (kP K) (kA K) (LV E W (kP K) (kA K) p) (ct E W (kP K) (kA K)) 41 p (wMt E W K p) i R f r
theorem itF_u {E : EV} {W : Int → Int → Int → VW} {K : AK} {p : Nat} {i : Int} {R R' : TR} (a : itF E W K p i R) (b : itF E W K p i R') : R = R' := by
  obtain ⟨f, r, a⟩ := a
  obtain ⟨f', r', b⟩ := b
  exact (itR_det ct_0 41 _ _ _ _ _ _ _ _ _ wM_0 a b).1

