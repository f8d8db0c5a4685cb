/-! terms of the table are terms -/
def okR (E : EV) (A : AD) (k : Int) (R : TR) : Prop := (tyT E A.1 A.2.1 R 0 ∧ (inf R).2.2.1 = k) ∧ tlT E.1.1 R ∧ nhT R ∧ nsT R ∧ (∀ hl, flT hl R = R) ∧ cgT A.1 E.1.1 R
theorem tm_okR {E : EV} {A : AD} {pts : Int} {T : TB} (c : acE E) (v : VA E A pts) (g : gkT E A T) (A3 : A.1 ≤ 3) : ∀ a, 0 ≤ a → a < T.1 → okR E A (T.2.1 a) (tm A T a) := by
  refine tm_ind g (P := fun a R => okR E A (T.2.1 a) R) (fun a a0 a1 k => ?_)
  have p := g a a0 a1
  rcases p.2.2.2.2 with u | ⟨j, u1, u2, u3, u4, u5, u6⟩ | ⟨j, u1, u2, u3, u4, u5, u6, u7⟩
  · have e : spT (hiT A T a) (T.2.2.2.2.1 a) (tm A T) = .leaf (0, T.2.2.2.1 a, T.2.1 a, 0) := by
      have hi : hiT A T a = (0, T.2.2.2.1 a, T.2.1 a, 0) := by unfold hiT; rw [if_pos u.2.1]
      rw [hi]
      rcases sp_cs (0, T.2.2.2.1 a, T.2.1 a, 0) (T.2.2.2.2.1 a) (tm A T) with ⟨n, e⟩ | ⟨n, e⟩ | ⟨n, e⟩ | ⟨n, e⟩
      · exact e
      · omega
      · omega
      · omega
    rw [e]
    have kk := v.1 _ u.1 u.2.1
    exact ⟨⟨⟨by rw [u.2.2.1]; exact kk.1, by rw [u.2.2.1]; exact kk.2, Or.inl ⟨rfl, rfl, u.1, u.2.1, u.2.2.1⟩⟩, rfl⟩, Or.inl ⟨rfl, u.1, by show T.2.2.2.1 a ≤ 2; omega⟩, by show (0 : Int) ≠ 3; decide, by show (0 : Int) ≠ 4; decide, fun hl => rfl, by show (0 : Int) ≠ 3; decide, by show (0 : Int) ≠ 4; decide, fun _ => ⟨u.1, u.2.1⟩, fun z => by have : (0 : Int) = 2 := z; omega, by show (0 : Int) ≤ 0; decide, by show (0 : Int) ≤ 4; decide⟩
  · have hj : T.2.2.2.1 a - A.1 = j := by omega
    have e : spT (hiT A T a) (T.2.2.2.2.1 a) (tm A T) = .leaf (1, A.2.2.2.2.2.2.1 j, T.2.1 a, 0) := by
      have hi : hiT A T a = (1, A.2.2.2.2.2.2.1 j, T.2.1 a, 0) := by unfold hiT; rw [if_neg (by omega), hj, if_pos u4]
      rw [hi]
      rcases sp_cs (1, A.2.2.2.2.2.2.1 j, T.2.1 a, 0) (T.2.2.2.2.1 a) (tm A T) with ⟨n, e⟩ | ⟨n, e⟩ | ⟨n, e⟩ | ⟨n, e⟩
      · exact e
      · omega
      · omega
      · omega
    rw [e]
    have vj : (0 ≤ A.2.2.2.2.2.1 j ∧ A.2.2.2.2.2.1 j ≤ 2) ∧ vlR (A.2.2.2.2.2.1 j) (A.2.2.2.2.2.2.1 j) := by
      rcases (v.2.2 j u1 u2).2 with w | w
      · exact w.2
      · omega
    rw [u5]
    exact ⟨⟨⟨vj.1.1, vj.1.2, Or.inr (Or.inl ⟨rfl, rfl, Or.inr vj.2⟩)⟩, rfl⟩, Or.inr (Or.inl ⟨rfl, vj.2, vj.1.1, vj.1.2⟩), by show (1 : Int) ≠ 3; decide, by show (1 : Int) ≠ 4; decide, fun hl => rfl, by show (1 : Int) ≠ 3; decide, by show (1 : Int) ≠ 4; decide, fun z => by have : (1 : Int) = 0 := z; omega, fun z => by have : (1 : Int) = 2 := z; omega, by show (0 : Int) ≤ 1; decide, by show (1 : Int) ≤ 4; decide⟩
  · have hj : T.2.2.2.1 a - A.1 = j := by omega
    have hi : hiT A T a = (2, A.2.2.2.2.1 j, T.2.1 a, 0) := by unfold hiT; rw [if_neg (by omega), hj, if_neg u4]
    have an : 0 ≤ A.2.2.2.2.1 j ∧ A.2.2.2.2.1 j < E.1.1 := by
      rcases (v.2.2 j u1 u2).2 with w | w
      · exact absurd w.1 u4
      · exact w
    have ec := c.2.2.1 _ an.1 an.2
    have ek := ec.2.2.2 (eO E (A.2.2.2.2.1 j)) (by omega) (Int.le_refl _)
    have ai : acI (2, A.2.2.2.2.1 j, T.2.1 a, 0) = A.2.2.2.2.1 j := if_neg (by show ¬ (2 : Int) = 4; decide)
    have ai2 : acI (inf (Lean.RArray.leaf (2, A.2.2.2.2.1 j, T.2.1 a, 0))) = A.2.2.2.2.1 j := ai
    have K : ∀ m, 0 ≤ m → m < nkO (T.2.2.2.2.1 a) → okR E A (eK E (A.2.2.2.2.1 j) m) (tm A T (T.2.2.2.2.1 a m)) := fun m m0 m1 => by
      have z := k m m0 m1
      rw [u7 m m0 m1] at z
      exact z
    have LI : ∀ n, n = eO E (A.2.2.2.2.1 j) → tyI E A.1 A.2.1 (2, A.2.2.2.2.1 j, T.2.1 a, 0) n := fun n z => ⟨by rw [u5]; exact ek.1, by rw [u5]; exact ek.2, Or.inr (Or.inr (Or.inr (Or.inl ⟨rfl, an.1, an.2, z, u5⟩)))⟩
    have LT : tlT E.1.1 (.leaf (2, A.2.2.2.2.1 j, T.2.1 a, 0)) := Or.inr (Or.inr (Or.inl ⟨rfl, an.1, an.2⟩))
    have LC : cgT A.1 E.1.1 (.leaf (2, A.2.2.2.2.1 j, T.2.1 a, 0)) := ⟨by show (2 : Int) ≠ 3; decide, by show (2 : Int) ≠ 4; decide, fun z => by have : (2 : Int) = 0 := z; omega, fun _ => an, by show (0 : Int) ≤ 2; decide, by show (2 : Int) ≤ 4; decide⟩
    have l3 : (2 : Int) ≠ 3 := by decide
    have l4 : (2 : Int) ≠ 4 := by decide
    rw [hi]
    rcases sp_cs (2, A.2.2.2.2.1 j, T.2.1 a, 0) (T.2.2.2.2.1 a) (tm A T) with ⟨n, e⟩ | ⟨n, e⟩ | ⟨n, e⟩ | ⟨n, e⟩ <;> rw [e]
    · omega
    · have k0 := K 0 (by omega) (by omega)
      exact ⟨⟨⟨k0.1.1, by show _ = eK E (acI _) _; (first | rw [ai] | rw [ai2]); exact k0.1.2, LI _ (by omega)⟩, rfl⟩, ⟨rfl, k0.2.1, LT⟩, ⟨k0.2.2.1, l3⟩, ⟨k0.2.2.2.1, l4⟩, fun hl => by show Lean.RArray.branch 0 (flT hl _) (.leaf _) = _; rw [k0.2.2.2.2.1 hl]; rfl, k0.2.2.2.2.2, LC⟩
    · have k0 := K 0 (by omega) (by omega)
      have k1 := K 1 (by omega) (by omega)
      exact ⟨⟨⟨k0.1.1, by show _ = eK E (acI _) _; rw [show inf (Lean.RArray.branch 0 (tm A T (T.2.2.2.2.1 a 1)) (.leaf (2, A.2.2.2.2.1 j, T.2.1 a, 0))) = (2, A.2.2.2.2.1 j, T.2.1 a, 0) from rfl, ai]; exact k0.1.2, k1.1.1, by show _ = eK E (acI _) _; (first | rw [ai] | rw [ai2]); exact k1.1.2, LI _ (by omega)⟩, rfl⟩, ⟨rfl, k0.2.1, rfl, k1.2.1, LT⟩, ⟨k0.2.2.1, k1.2.2.1, l3⟩, ⟨k0.2.2.2.1, k1.2.2.2.1, l4⟩, fun hl => by show Lean.RArray.branch 0 (flT hl _) (.branch 0 (flT hl _) (.leaf _)) = _; rw [k0.2.2.2.2.1 hl, k1.2.2.2.2.1 hl]; rfl, k0.2.2.2.2.2, k1.2.2.2.2.2, LC⟩
    · have k0 := K 0 (by omega) (by omega)
      have k1 := K 1 (by omega) (by omega)
      have k2 := K 2 (by omega) (by omega)
      exact ⟨⟨⟨k0.1.1, by show _ = eK E (acI _) _; rw [show inf (Lean.RArray.branch 0 (tm A T (T.2.2.2.2.1 a 1)) (.branch 0 (tm A T (T.2.2.2.2.1 a 2)) (.leaf (2, A.2.2.2.2.1 j, T.2.1 a, 0)))) = (2, A.2.2.2.2.1 j, T.2.1 a, 0) from rfl, ai]; exact k0.1.2, k1.1.1, by show _ = eK E (acI _) _; rw [show inf (Lean.RArray.branch 0 (tm A T (T.2.2.2.2.1 a 2)) (.leaf (2, A.2.2.2.2.1 j, T.2.1 a, 0))) = (2, A.2.2.2.2.1 j, T.2.1 a, 0) from rfl, ai]; exact k1.1.2, k2.1.1, by show _ = eK E (acI _) _; (first | rw [ai] | rw [ai2]); exact k2.1.2, LI _ (by omega)⟩, rfl⟩, ⟨rfl, k0.2.1, rfl, k1.2.1, rfl, k2.2.1, LT⟩, ⟨k0.2.2.1, k1.2.2.1, k2.2.2.1, l3⟩, ⟨k0.2.2.2.1, k1.2.2.2.1, k2.2.2.2.1, l4⟩, fun hl => by show Lean.RArray.branch 0 (flT hl _) (.branch 0 (flT hl _) (.branch 0 (flT hl _) (.leaf _))) = _; rw [k0.2.2.2.2.1 hl, k1.2.2.2.2.1 hl, k2.2.2.2.2.1 hl]; rfl, k0.2.2.2.2.2, k1.2.2.2.2.2, k2.2.2.2.2.2, LC⟩
theorem dpE_sz {wA : Int → Int} {N : Int} (w : ∀ a, 26 ≤ a → a < N → wA a ≤ 40) : ∀ {R : TR}, tlT N R → dpE wA R ≤ 40 + sz R
  | .leaf i, t => by
    show lwI wA i ≤ 40 + 1
    unfold lwI
    rcases t with t | t | t | t
    · rw [if_neg (by omega), if_neg (by omega)]; decide
    · rw [if_neg (by omega), if_neg (by omega)]; decide
    · rw [if_pos t.1]
      by_cases y : 26 ≤ i.2.1
      · rw [if_pos y]; have := w _ y t.2.2; omega
      · rw [if_neg y]; decide
    · rw [if_neg (by omega), if_neg (by omega)]; decide
  | .branch _ s r, t => by
    have a := dpE_sz w (R := s) t.2.1
    have b := dpE_sz w (R := r) t.2.2
    have c := sz_pos s
    have d := sz_pos r
    show max (dpE wA s + 1) (dpE wA r) ≤ 40 + (sz s + sz r)
    omega
theorem nh_nr : ∀ {R : TR}, nhT R → nrT R
  | .leaf _, n => fun z => absurd z n
  | .branch _ _ _, n => ⟨nh_nr n.1, nh_nr n.2⟩
theorem wA40 {h : AH} {E : EV} {Rf : Int → TR} (o : ownX h E Rf) : ∀ a, 26 ≤ a → a < E.1.1 → E.1.2.2.2.1 a ≤ 40 := by
  obtain ⟨N, c, o⟩ := o
  exact fun a a0 a1 => (o a a0 a1).2.2.2.2
/-- x: the first that meets becomes what is found -/
theorem cX_trX {h : AH} {R : TR} {v : Int} (c : cX h 324 R v 0 (v + 1)) (v0 : 0 ≤ v) (n : v + sz R ≤ 2200) : trX h 324 0 2200 R v 0 := by
  have sp := sz_pos R
  exact cX_tr c (by omega) (by omega) (by omega) (by omega)
theorem XT_tq {h : AH} {E : EV} {Rf : Int → TR} {W : Int → Int → Int → VW} {K : AK} {p : Nat} {T : TB} (ak : akX h E Rf W K) (x : XT h E W K p T) : tqX h (kA K) (LV E W (kP K) (kA K) p) := by
  have s := ak.1
  refine ⟨s.1.1, s.2.1.1, ⟨by have := s.2.1.2.1; omega, s.2.1.2.2.1, s.2.2.2.1.2.1, s.2.2.2.1.2.2.1, x.2.2.2.1⟩, fun k k0 k1 => ?_, fun a a0 a1 => ?_⟩
  · have z := s.2.2.2.1.2.2.2 k k0 k1
    exact ⟨z.1, z.2.2.1⟩
  · have e := x.2.1.2 a a0 a1
    have l := x.2.1.1
    have c := x.1.2.1.2.2.2.2.2.2.2 a a0 (by omega)
    rw [← e.1, ← e.2.2.1, ← e.2.2.2.1]
    exact ⟨c.1, c.2.2.1, c.2.2.2.1⟩
theorem LV_gk {E : EV} {W : Int → Int → Int → VW} {K : AK} {p : Nat} (v : VA E (kA K) (kP K)) (g : GT E W (kP K) (kA K) p (LV E W (kP K) (kA K) p)) (p12 : p ≤ 12) (n : (LV E W (kP K) (kA K) p).1 ≤ 120) : gkT E (kA K) (LV E W (kP K) (kA K) p) := gk_GT v g (by omega) n
theorem ak_GT {h : AH} {E : EV} {Rf : Int → TR} {W : Int → Int → Int → VW} {K : AK} {p : Nat} (ak : akX h E Rf W K) (l : lvK E W (kP K) (kA K) p) : GT E W (kP K) (kA K) p (LV E W (kP K) (kA K) p) := by
  have s := ak.1
  have A1 := s.2.1.2.1
  exact GT_LV (E := E) (W := W) (pts := kP K) (A := kA K) (ppA_V ak.2.2.2.2.2.2.1) (by omega) s.2.2.2.1.2.1 (eoA_V s.1.2.1.2.1 ak.2.2.2.2.2.2.1) p (fun m lt => l m (by omega))
/-- what a found term of the levels is told as -/
def fdK (h : AH) (E : EV) (W : Int → Int → Int → VW) (K : AK) (R : TR) : Prop := ∃ hl, fdX h E.1.2.1 R (kP K) (inf R).2.2.1 (kA K).1 (kA K).2.1 (fun p => (evT W (fun _ _ _ => 0) (pvA (kA K).1 (kA K).2.1 K.1.2.2.1 K.1.2.2.2 p) hl R).1)
def fBF (h h' : AH) : Prop := ∀ a s, ¬ (a = 200 ∧ (s = 9 ∨ s = 10 ∨ s = 14 ∨ s = 15 ∨ s = 22 ∨ s = 23 ∨ s = 26 ∨ s = 27 ∨ s = 29)) → ¬ (a = 269 ∧ 0 ≤ s) → ¬ (a = 323 ∧ 0 ≤ s) → ¬ (324 ≤ a ∧ a ≤ 339 ∧ 0 ≤ s) → h' a s = h a s
theorem fB_F {h h' : AH} (f : fB h h') : fBF h h' := fun a s y1 y2 y3 y4 => f a s (by omega) y2 y3 (by omega)
theorem fBF_A {h h' : AH} (f : fBF h h') : agX h h' := fun a s y => by
  unfold nA at y
  exact f a s (by omega) (by omega) (by omega) (by omega)
theorem vX1_becomeFirst (a1 : Int) {h : AH} {E : EV} {Rf : Int → TR} {W : Int → Int → Int → VW} {K : AK} {p : Nat} {T : TB} (ak : akX h E Rf W K) (cA : ∀ a, 0 ≤ a → a < E.1.1 → E.1.2.1 a < 282429536481) (xt : XT h E W K p T) (a : 0 ≤ a1 ∧ a1 < (LV E W (kP K) (kA K) p).1) (lv : lvK E W (kP K) (kA K) p ∧ p ≤ 12) : OK (gX1_becomeFirst a1 h) (fun h' => (fdK h' E W K (tm (kA K) (LV E W (kP K) (kA K) p) a1)) ∧ (fBF h h' ∧ akX h' E Rf W K)) := by
  have GK := LV_gk ak.2.2.2.2.2.2.1 (ak_GT ak lv.1) lv.2 xt.2.2.2.1
  have OK1 := tm_okR ak.1.1.2.1.2.1 ak.2.2.2.2.2.2.1 GK ak.1.2.1.2.2.1 a1 a.1 a.2
  have SZ := tm_sz GK a1 a.1 a.2
  have W12 := (GK a1 a.1 a.2).1.2
  have DS := dpT_sz (tm (kA K) (LV E W (kP K) (kA K) p) a1)
  have DE := dpE_sz (wA40 ak.1.1.2.1.2.2.2.2.1) OK1.2.1
  have LN := ak.2.2.2.2.2.2.2.2.2.1
  have C4 : capT h 324 2200 := ⟨(LN 325 (by decide) (by decide)).2.trans (by decide), (LN 326 (by decide) (by decide)).2.trans (by decide), (LN 327 (by decide) (by decide)).2.trans (by decide), (LN 328 (by decide) (by decide)).2.trans (by decide), (LN 329 (by decide) (by decide)).2.trans (by decide), by decide, by decide, by decide⟩
  unfold gX1_becomeFirst
  refine OK_jl ?_
  have F1 : ∀ a s, ¬ (a = 324 ∧ s = 0) → jst h 324 0 0 a s = h a s := fun a s y => jst_o y
  have K1 : jst h 324 0 0 324 0 = 0 := jst_eq
  generalize e1 : jst h 324 0 0 = g1 at *
  refine OK_jb2 (vX5_term (E := E) (A := kA K) (T := LV E W (kP K) (kA K) p) _ (by exact GK) (by exact tqX_fr (fun a s y => F1 a s (by omega)) (XT_tq ak xt)) (by exact capT_fr C4 (fun a x0 x1 => F1 _ _ (by omega))) (by exact a) (by omega)) (fun v3 h4 r1 => ?_)
  try dsimp only [Sum.elim_inl, Sum.elim_inr, jt2, jt3, jt4, jt5, jt6, jt7, jt8] at r1
  have po1 := r1
  clear r1
  try simp (disch := omega) only [jst_eq, jst_ne, jst_ni, jI_i, jcmp_lt, jcmp_gt, w32_id, jcpy_out, Sum.elim_inl, Sum.elim_inr, jt2, jt3, jt4, jt5, jt6, jt7, jt8] at po1
  obtain ⟨q1, q2, q3, q4⟩ := po1
  rw [K1] at q1 q2 q4
  have F4 : ∀ a s, ¬ (324 ≤ a ∧ a ≤ 329 ∧ 0 ≤ s) → h4 a s = h a s := fun a s y => by { rw [q4 a s (by omega) (by omega) (by omega)]; exact F1 a s (by omega) }
  have FB4 : fBF h h4 := fun a s y1 y2 y3 y4 => F4 a s (by omega)
  have A4 := akX_n ak (fBF_A FB4) (by unfold b10; rw [F4 _ _ (by omega)]; exact ak.1.1.2.2.2.2)
  refine OK_jb (vX1_become (E := E) (Rf := Rf) (W := W) (K := K) (R := tm (kA K) (LV E W (kP K) (kA K) p) a1) _ (by exact A4) (by exact cA) (by exact cX_trX q3 (by omega) (by omega)) (by exact nh_nr OK1.2.2.1) (by (rw [OK1.2.2.2.2.1]; exact OK1.1.1)) (by (rw [OK1.2.2.2.2.1]; exact ⟨OK1.2.1, OK1.2.2.1⟩)) (by (rw [OK1.2.2.2.2.1]; omega))) (fun h6 r2 => ?_)
  try dsimp only [Sum.elim_inl, Sum.elim_inr, jt2, jt3, jt4, jt5, jt6, jt7, jt8] at r2
  obtain ⟨fd2, fs2, kk2⟩ := r2
  try simp (disch := omega) only [jst_eq, jst_ne, jst_ni, jI_i, jcmp_lt, jcmp_gt, w32_id, jcpy_out, Sum.elim_inl, Sum.elim_inr, jt2, jt3, jt4, jt5, jt6, jt7, jt8] at fd2
  try simp (disch := omega) only [jst_eq, jst_ne, jst_ni, jI_i, jcmp_lt, jcmp_gt, w32_id, jcpy_out, Sum.elim_inl, Sum.elim_inr, jt2, jt3, jt4, jt5, jt6, jt7, jt8] at fs2
  try simp (disch := omega) only [jst_eq, jst_ne, jst_ni, jI_i, jcmp_lt, jcmp_gt, w32_id, jcpy_out, Sum.elim_inl, Sum.elim_inr, jt2, jt3, jt4, jt5, jt6, jt7, jt8] at kk2
  rw [OK1.2.2.2.2.1] at fd2
  refine OK_some ?_
  try dsimp only [Sum.elim_inl, Sum.elim_inr, jt2, jt3, jt4, jt5, jt6, jt7, jt8]
  try dsimp only [Sum.elim_inl, Sum.elim_inr, jt2, jt3, jt4, jt5, jt6, jt7, jt8]
  refine ⟨?_, ?_⟩
  · exact fd2 -- o13 e1.1
  · exact ⟨fun a s y1 y2 y3 y4 => by rw [fs2 a s (by omega) y2 y3 (by omega)]; exact FB4 a s y1 y2 y3 y4, kk2⟩ -- o14 e1.2

