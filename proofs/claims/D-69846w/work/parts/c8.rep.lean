/-! a term with a node replaced: pure -/
/-- the term at a place among the operands -/
def sbK : TR → Int → TR
  | .leaf i, _ => .leaf i
  | .branch _ s r, m => if m < sz s then (if m = 0 then s else sbK s (m - 1)) else sbK r (m - sz s)
/-- the term at a place -/
def sbT (R : TR) (m : Int) : TR := if m = 0 then R else sbK R (m - 1)
def rpK : TR → Int → TR → TR
  | .leaf i, _, _ => .leaf i
  | .branch b s r, m, S => if m < sz s then .branch b (if m = 0 then S else rpK s (m - 1) S) r else .branch b s (rpK r (m - sz s) S)
/-- another term in its place -/
def rpT (R : TR) (m : Int) (S : TR) : TR := if m = 0 then S else rpK R (m - 1) S
theorem rpK_inf {S : TR} : ∀ {R : TR} {m : Int}, inf (rpK R m S) = inf R
  | .leaf _, _ => rfl
  | .branch b s r, m => by
    unfold rpK
    by_cases y : m < sz s
    · rw [if_pos y]; rfl
    · rw [if_neg y]; exact rpK_inf (R := r)
theorem rpK_nk {S : TR} : ∀ {R : TR} {m : Int}, nk (rpK R m S) = nk R
  | .leaf _, _ => rfl
  | .branch b s r, m => by
    unfold rpK
    by_cases y : m < sz s
    · rw [if_pos y]; rfl
    · rw [if_neg y]; show nk (rpK r (m - sz s) S) + 1 = nk r + 1; rw [rpK_nk (R := r)]
theorem rpK_sz {S : TR} : ∀ {R : TR} {m : Int}, sz (rpK R m S) ≤ sz R + sz S
  | .leaf _, _ => by have := sz_pos S; show (1 : Int) ≤ 1 + sz S; omega
  | .branch b s r, m => by
    have z1 := sz_pos s
    have z2 := sz_pos S
    have e : sz (.branch b s r) = sz s + sz r := rfl
    unfold rpK
    by_cases y : m < sz s
    · rw [if_pos y]
      show sz (if m = 0 then S else rpK s (m - 1) S) + sz r ≤ sz (.branch b s r) + sz S
      by_cases z : m = 0
      · rw [if_pos z]; omega
      · rw [if_neg z]; have := rpK_sz (S := S) (R := s) (m := m - 1); omega
    · rw [if_neg y]
      show sz s + sz (rpK r (m - sz s) S) ≤ sz (.branch b s r) + sz S
      have := rpK_sz (S := S) (R := r) (m := m - sz s)
      omega
theorem rpT_sz {R S : TR} {m : Int} : sz (rpT R m S) ≤ sz R + sz S := by
  have := sz_pos R
  unfold rpT
  by_cases y : m = 0
  · rw [if_pos y]; omega
  · rw [if_neg y]; exact rpK_sz
theorem rpK_dp {S : TR} : ∀ {R : TR} {m : Int}, dpT (rpK R m S) ≤ dpT R + dpT S
  | .leaf _, _ => by have := dpT_0 S; show (0 : Int) ≤ 0 + dpT S; omega
  | .branch b s r, m => by
    have z1 := dpT_0 s
    have z2 := dpT_0 S
    have e : dpT (.branch b s r) = max (dpT s + 1) (dpT r) := rfl
    unfold rpK
    by_cases y : m < sz s
    · rw [if_pos y]
      show max (dpT (if m = 0 then S else rpK s (m - 1) S) + 1) (dpT r) ≤ dpT (.branch b s r) + dpT S
      by_cases z : m = 0
      · rw [if_pos z]; omega
      · rw [if_neg z]; have := rpK_dp (S := S) (R := s) (m := m - 1); omega
    · rw [if_neg y]
      show max (dpT s + 1) (dpT (rpK r (m - sz s) S)) ≤ dpT (.branch b s r) + dpT S
      have := rpK_dp (S := S) (R := r) (m := m - sz s)
      omega
theorem rpT_dp {R S : TR} {m : Int} : dpT (rpT R m S) ≤ dpT R + dpT S := by
  have := dpT_0 R
  unfold rpT
  by_cases y : m = 0
  · rw [if_pos y]; omega
  · rw [if_neg y]; exact rpK_dp
theorem rpK_dE {wA : Int → Int} (W : ∀ a, 26 ≤ a → 0 ≤ wA a) {S : TR} : ∀ {R : TR} {m : Int}, dpE wA (rpK R m S) ≤ dpE wA R + dpE wA S
  | .leaf i, _ => by have := dpE_0 W S; show lwI wA i ≤ lwI wA i + dpE wA S; omega
  | .branch b s r, m => by
    have z1 := dpE_0 W s
    have z2 := dpE_0 W S
    have e : dpE wA (.branch b s r) = max (dpE wA s + 1) (dpE wA r) := rfl
    unfold rpK
    by_cases y : m < sz s
    · rw [if_pos y]
      show max (dpE wA (if m = 0 then S else rpK s (m - 1) S) + 1) (dpE wA r) ≤ dpE wA (.branch b s r) + dpE wA S
      by_cases z : m = 0
      · rw [if_pos z]; omega
      · rw [if_neg z]; have := rpK_dE W (S := S) (R := s) (m := m - 1); omega
    · rw [if_neg y]
      show max (dpE wA s + 1) (dpE wA (rpK r (m - sz s) S)) ≤ dpE wA (.branch b s r) + dpE wA S
      have := rpK_dE W (S := S) (R := r) (m := m - sz s)
      omega
theorem rpT_dE {wA : Int → Int} (W : ∀ a, 26 ≤ a → 0 ≤ wA a) {R S : TR} {m : Int} : dpE wA (rpT R m S) ≤ dpE wA R + dpE wA S := by
  have := dpE_0 W R
  unfold rpT
  by_cases y : m = 0
  · rw [if_pos y]; omega
  · rw [if_neg y]; exact rpK_dE W
theorem rpK_ty {E : EV} {np : Int} {kp : Int → Int} {S : TR} (tS : tyT E np kp S 0) : ∀ {R : TR} {m j : Int}, 0 ≤ m → m < sz R - 1 → tyT E np kp R j → (inf S).2.2.1 = (inf (sbK R m)).2.2.1 → tyT E np kp (rpK R m S) j
  | .leaf i, m, j, m0, m1, t, k => t
  | .branch b s r, m, j, m0, m1, t, k => by
    have e : sz (.branch b s r) = sz s + sz r := rfl
    unfold rpK
    unfold sbK at k
    by_cases y : m < sz s
    · rw [if_pos y] at k ⊢
      by_cases z : m = 0
      · rw [if_pos z] at k ⊢
        exact ⟨tS, by rw [k]; exact t.2.1, t.2.2⟩
      · rw [if_neg z] at k ⊢
        exact ⟨rpK_ty tS (by omega) (by omega) t.1 k, by rw [rpK_inf]; exact t.2.1, t.2.2⟩
    · rw [if_neg y] at k ⊢
      refine ⟨t.1, ?_, rpK_ty tS (by omega) (by omega) t.2.2 k⟩
      rw [rpK_inf]; exact t.2.1
theorem rpT_ty {E : EV} {np : Int} {kp : Int → Int} {R S : TR} {m : Int} (tS : tyT E np kp S 0) (m0 : 0 ≤ m) (m1 : m < sz R) (t : tyT E np kp R 0) (k : (inf S).2.2.1 = (inf (sbT R m)).2.2.1) : tyT E np kp (rpT R m S) 0 ∧ (inf (rpT R m S)).2.2.1 = (inf R).2.2.1 := by
  unfold rpT
  unfold sbT at k
  by_cases y : m = 0
  · rw [if_pos y] at k ⊢; exact ⟨tS, k⟩
  · rw [if_neg y] at k ⊢; exact ⟨rpK_ty tS (by omega) (by omega) t k, by rw [rpK_inf]⟩
theorem rpK_nh {S : TR} (n : nhT S) : ∀ {R : TR} {m : Int}, nhT R → nhT (rpK R m S)
  | .leaf i, m, h => h
  | .branch b s r, m, h => by
    unfold rpK
    by_cases y : m < sz s
    · rw [if_pos y]
      by_cases z : m = 0
      · rw [if_pos z]; exact ⟨n, h.2⟩
      · rw [if_neg z]; exact ⟨rpK_nh n h.1, h.2⟩
    · rw [if_neg y]; exact ⟨h.1, rpK_nh n h.2⟩
theorem rpT_nh {R S : TR} {m : Int} (n : nhT S) (h : nhT R) : nhT (rpT R m S) := by
  unfold rpT
  by_cases y : m = 0
  · rw [if_pos y]; exact n
  · rw [if_neg y]; exact rpK_nh n h
theorem rpK_nv {S : TR} (n : nvT S) : ∀ {R : TR} {m : Int}, nvT R → nvT (rpK R m S)
  | .leaf i, m, h => h
  | .branch b s r, m, h => by
    unfold rpK
    by_cases y : m < sz s
    · rw [if_pos y]
      by_cases z : m = 0
      · rw [if_pos z]; exact ⟨n, h.2⟩
      · rw [if_neg z]; exact ⟨rpK_nv n h.1, h.2⟩
    · rw [if_neg y]; exact ⟨h.1, rpK_nv n h.2⟩
theorem rpT_nv {R S : TR} {m : Int} (n : nvT S) (h : nvT R) : nvT (rpT R m S) := by
  unfold rpT
  by_cases y : m = 0
  · rw [if_pos y]; exact n
  · rw [if_neg y]; exact rpK_nv n h
/-- x: the term at a place stands there -/
theorem cX_sbK {h : AH} {T : Int} : ∀ {R : TR} {d j p m : Int}, cX h T R d j p → 0 ≤ m → m < sz R - 1 → cX h T (sbK R m) (p + m) 0 (p + m + 1)
  | .leaf i, d, j, p, m, c, m0, m1 => by have e : sz (.leaf i) = 1 := rfl; omega
  | .branch b s r, d, j, p, m, c, m0, m1 => by
    obtain ⟨c1, c2, c3, c4, c5⟩ := c
    have e : sz (.branch b s r) = sz s + sz r := rfl
    unfold sbK
    by_cases y : m < sz s
    · rw [if_pos y]
      by_cases z : m = 0
      · rw [if_pos z, z, Int.add_zero]; exact c4
      · rw [if_neg z]
        have q := cX_sbK (R := s) (m := m - 1) c4 (by omega) (by omega)
        rw [show p + 1 + (m - 1) = p + m by omega] at q
        exact q
    · rw [if_neg y]
      have q := cX_sbK (R := r) (m := m - sz s) c5 (by omega) (by omega)
      rw [show p + sz s + (m - sz s) = p + m by omega] at q
      exact q
theorem cX_sbT {h : AH} {T : Int} {R : TR} {d m : Int} (c : cX h T R d 0 (d + 1)) (m0 : 0 ≤ m) (m1 : m < sz R) : cX h T (sbT R m) (d + m) 0 (d + m + 1) := by
  unfold sbT
  by_cases y : m = 0
  · rw [if_pos y, y, Int.add_zero]; exact c
  · rw [if_neg y]
    have q := cX_sbK (m := m - 1) c (by omega) (by omega)
    rw [show d + 1 + (m - 1) = d + m by omega] at q
    exact q
/-- x: a node that is not met -/
theorem cX_vn {h : AH} {T N w wv : Int} : ∀ {R : TR} {d j p : Int}, cX h T R d j p → d ≠ w → ¬ (p ≤ w ∧ w < p + (sz R - 1)) → 0 ≤ d → d < N → 0 ≤ p → p + (sz R - 1) ≤ N → vwX h T N w wv R d j
  | .leaf i, d, j, p, c, dw, _, d0, d1, _, _ => ⟨d0, d1, Or.inr ⟨dw, c.1, c.2.1⟩⟩
  | .branch b s r, d, j, p, c, dw, pw, d0, d1, p0, p1 => by
    obtain ⟨c1, c2, c3, c4, c5⟩ := c
    have z1 := sz_pos s
    have z2 := sz_pos r
    have e : sz (.branch b s r) = sz s + sz r := rfl
    rw [e] at pw p1
    refine ⟨dw, c1, c2, ?_, cX_vn c5 dw (by omega) d0 d1 (by omega) (by omega)⟩
    rw [c3]
    exact cX_vn c4 (by omega) (by omega) p0 (by omega) (by omega) (by omega)
theorem cX_vrK {h : AH} {T N wv kd : Int} : ∀ {R : TR} {d j p m : Int}, cX h T R d j p → 0 ≤ m → m < sz R - 1 → d < p → 0 ≤ d → d < N → 0 ≤ p → p + (sz R - 1) ≤ N → vwX h T N (p + m) wv (rpK R m (.leaf (1, wv, kd, 0))) d j
  | .leaf i, d, j, p, m, c, m0, m1, _, _, _, _, _ => by have e : sz (.leaf i) = 1 := rfl; omega
  | .branch b s r, d, j, p, m, c, m0, m1, dp, d0, d1, p0, p1 => by
    obtain ⟨c1, c2, c3, c4, c5⟩ := c
    have z1 := sz_pos s
    have z2 := sz_pos r
    have e : sz (.branch b s r) = sz s + sz r := rfl
    rw [e] at m1 p1
    unfold rpK
    by_cases y : m < sz s
    · rw [if_pos y]
      refine ⟨by omega, c1, c2, ?_, cX_vn c5 (by omega) (by omega) d0 d1 (by omega) (by omega)⟩
      rw [c3]
      by_cases z : m = 0
      · rw [if_pos z, z, Int.add_zero]
        exact ⟨p0, by omega, Or.inl ⟨rfl, rfl, rfl, rfl⟩⟩
      · rw [if_neg z]
        have q := cX_vrK (wv := wv) (kd := kd) (N := N) (m := m - 1) c4 (by omega) (by omega) (by omega) p0 (by omega) (by omega) (by omega)
        rw [show p + 1 + (m - 1) = p + m by omega] at q
        exact q
    · rw [if_neg y]
      refine ⟨by omega, c1, c2, ?_, ?_⟩
      · rw [c3]; exact cX_vn c4 (by omega) (by omega) p0 (by omega) (by omega) (by omega)
      · have q := cX_vrK (wv := wv) (kd := kd) (N := N) (m := m - sz s) c5 (by omega) (by omega) (by omega) d0 d1 (by omega) (by omega)
        rw [show p + sz s + (m - sz s) = p + m by omega] at q
        exact q
/-- x: a node told otherwise -/
theorem cX_vr {h : AH} {T N wv kd : Int} {R : TR} {d m : Int} (c : cX h T R d 0 (d + 1)) (m0 : 0 ≤ m) (m1 : m < sz R) (d0 : 0 ≤ d) (d1 : d + sz R ≤ N) : vwX h T N (d + m) wv (rpT R m (.leaf (1, wv, kd, 0))) d 0 := by
  have sp := sz_pos R
  unfold rpT
  by_cases y : m = 0
  · rw [if_pos y, y, Int.add_zero]
    exact ⟨d0, by omega, Or.inl ⟨rfl, rfl, rfl, rfl⟩⟩
  · rw [if_neg y]
    have q := cX_vrK (wv := wv) (kd := kd) (N := N) (m := m - 1) c (by omega) (by omega) (by omega) d0 (by omega) (by omega) (by omega)
    rw [show d + 1 + (m - 1) = d + m by omega] at q
    exact q
/-- m: the same -/
theorem cG_sbK {P : AH → Int → Int → NI → Prop} {h : AH} : ∀ {R : TR} {d j p m : Int}, cG P h R d j p → 0 ≤ m → m < sz R - 1 → cG P h (sbK R m) (p + m) 0 (p + m + 1)
  | .leaf i, d, j, p, m, c, m0, m1 => by have e : sz (.leaf i) = 1 := rfl; omega
  | .branch b s r, d, j, p, m, c, m0, m1 => by
    obtain ⟨c1, c2, c3, c4, c5⟩ := c
    have e : sz (.branch b s r) = sz s + sz r := rfl
    unfold sbK
    by_cases y : m < sz s
    · rw [if_pos y]
      by_cases z : m = 0
      · rw [if_pos z, z, Int.add_zero]; exact c4
      · rw [if_neg z]
        have q := cG_sbK (R := s) (m := m - 1) c4 (by omega) (by omega)
        rw [show p + 1 + (m - 1) = p + m by omega] at q
        exact q
    · rw [if_neg y]
      have q := cG_sbK (R := r) (m := m - sz s) c5 (by omega) (by omega)
      rw [show p + sz s + (m - sz s) = p + m by omega] at q
      exact q
theorem cG_sbT {P : AH → Int → Int → NI → Prop} {h : AH} {R : TR} {d m : Int} (c : cG P h R d 0 (d + 1)) (m0 : 0 ≤ m) (m1 : m < sz R) : cG P h (sbT R m) (d + m) 0 (d + m + 1) := by
  unfold sbT
  by_cases y : m = 0
  · rw [if_pos y, y, Int.add_zero]; exact c
  · rw [if_neg y]
    have q := cG_sbK (m := m - 1) c (by omega) (by omega)
    rw [show d + 1 + (m - 1) = d + m by omega] at q
    exact q
theorem lfM_v {h : AH} {d j w wv : Int} {i : NI} (l : lfM h d j i) (dw : d ≠ w) (n : i.1 ≠ 3) : vwM h w wv (.leaf i) d j := ⟨l.1, l.2.1, Or.inr ⟨dw, l.2.2.1, l.2.2.2.2.2.1, l.2.2.2.2.2.2.1, l.2.2.2.2.2.2.2.1, l.2.2.2.2.2.2.2.2.1, n⟩⟩
theorem cG_vn {h : AH} {w wv : Int} : ∀ {R : TR} {d j p : Int}, cG lfM h R d j p → nhT R → d ≠ w → ¬ (p ≤ w ∧ w < p + (sz R - 1)) → vwM h w wv R d j
  | .leaf i, d, j, p, c, n, dw, _ => lfM_v c dw n
  | .branch b s r, d, j, p, c, n, dw, pw => by
    obtain ⟨c1, c2, c3, c4, c5⟩ := c
    have z1 := sz_pos s
    have z2 := sz_pos r
    have e : sz (.branch b s r) = sz s + sz r := rfl
    rw [e] at pw
    refine ⟨dw, c1, c2, ?_, cG_vn c5 n.2 dw (by omega)⟩
    rw [c3]
    exact cG_vn c4 n.1 (by omega) (by omega)
theorem cG_vrK {h : AH} {wv kd : Int} : ∀ {R : TR} {d j p m : Int}, cG lfM h R d j p → nhT R → 0 ≤ m → m < sz R - 1 → d < p → 0 ≤ p → p + (sz R - 1) ≤ 8800 → vwM h (p + m) wv (rpK R m (.leaf (1, wv, kd, 0))) d j
  | .leaf i, d, j, p, m, c, n, m0, m1, _, _, _ => by have e : sz (.leaf i) = 1 := rfl; omega
  | .branch b s r, d, j, p, m, c, n, m0, m1, dp, p0, p1 => by
    obtain ⟨c1, c2, c3, c4, c5⟩ := c
    have z1 := sz_pos s
    have z2 := sz_pos r
    have e : sz (.branch b s r) = sz s + sz r := rfl
    rw [e] at m1 p1
    unfold rpK
    by_cases y : m < sz s
    · rw [if_pos y]
      refine ⟨by omega, c1, c2, ?_, cG_vn c5 n.2 (by omega) (by omega)⟩
      rw [c3]
      by_cases z : m = 0
      · rw [if_pos z, z, Int.add_zero]
        exact ⟨p0, by omega, Or.inl ⟨rfl, rfl, rfl, rfl⟩⟩
      · rw [if_neg z]
        have q := cG_vrK (wv := wv) (kd := kd) (m := m - 1) c4 n.1 (by omega) (by omega) (by omega) (by omega) (by omega)
        rw [show p + 1 + (m - 1) = p + m by omega] at q
        exact q
    · rw [if_neg y]
      refine ⟨by omega, c1, c2, ?_, ?_⟩
      · rw [c3]; exact cG_vn c4 n.1 (by omega) (by omega)
      · have q := cG_vrK (wv := wv) (kd := kd) (m := m - sz s) c5 n.2 (by omega) (by omega) (by omega) (by omega) (by omega)
        rw [show p + sz s + (m - sz s) = p + m by omega] at q
        exact q
theorem cG_vr {h : AH} {wv kd : Int} {R : TR} {d m : Int} (c : cG lfM h R d 0 (d + 1)) (n : nhT R) (m0 : 0 ≤ m) (m1 : m < sz R) (d0 : 0 ≤ d) (d1 : d + sz R ≤ 8800) : vwM h (d + m) wv (rpT R m (.leaf (1, wv, kd, 0))) d 0 := by
  have sp := sz_pos R
  unfold rpT
  by_cases y : m = 0
  · rw [if_pos y, y, Int.add_zero]
    exact ⟨d0, by omega, Or.inl ⟨rfl, rfl, rfl, rfl⟩⟩
  · rw [if_neg y]
    have q := cG_vrK (wv := wv) (kd := kd) (m := m - 1) c n (by omega) (by omega) (by omega) (by omega) (by omega)
    rw [show d + 1 + (m - 1) = d + m by omega] at q
    exact q

