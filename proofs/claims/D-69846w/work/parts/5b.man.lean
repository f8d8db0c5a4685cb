/-! m: what terms answer -/
def p3 (a b c : Int) (n : Int) : Int := if n = 0 then a else if n = 1 then b else c
def nsT : TR → Prop
  | .leaf i => i.1 ≠ 4
  | .branch _ s r => nsT s ∧ nsT r
theorem nsT_nd : ∀ {R : TR}, nsT R → (inf R).1 ≠ 4
  | .leaf _, n => n
  | .branch _ _ r, n => nsT_nd (R := r) n.2
theorem nsT_kd : ∀ {R : TR} (k : Nat), nsT R → nsT (kdA R k)
  | .leaf _, _, n => n
  | .branch _ _ _, 0, n => n.1
  | .branch _ _ r, k + 1, n => nsT_kd (R := r) k n.2
/-- a term at a node; node w told otherwise; no question marks -/
def vwM (h : AH) (w wv : Int) : TR → Int → Int → Prop
  | .leaf i, d, j => 0 ≤ d ∧ d < 8800 ∧ ((d = w ∧ j = 0 ∧ i.1 = 1 ∧ i.2.1 = wv) ∨ (d ≠ w ∧ h 465 d = j ∧ (i.1 = 0 → h 460 d = 1 ∧ h 462 d = i.2.1) ∧ (i.1 = 1 → h 460 d = 0 ∧ h 462 d = i.2.1) ∧ (i.1 = 2 → h 460 d = 2 ∧ h 463 d = i.2.1) ∧ (i.1 = 4 → h 460 d = 2 ∧ h 463 d = -1) ∧ i.1 ≠ 3))
  | .branch _ s r, d, j => d ≠ w ∧ 0 ≤ j ∧ j < 3 ∧ vwM h w wv s (h 464 (3 * d + j)) 0 ∧ vwM h w wv r d (j + 1)
theorem vwM_fr {h h' : AH} {w wv : Int} (f : ∀ a s, 460 ≤ a → a ≤ 465 → h' a s = h a s) : ∀ {R : TR} {d j : Int}, vwM h w wv R d j → vwM h' w wv R d j
  | .leaf i, d, j, v => by
    obtain ⟨a, b, c⟩ := v
    refine ⟨a, b, c.imp id (fun y => ?_)⟩
    rw [f 465 d (by decide) (by decide), f 460 d (by decide) (by decide), f 462 d (by decide) (by decide), f 463 d (by decide) (by decide)]
    exact y
  | .branch b s r, d, j, v => by
    obtain ⟨v1, v2, v3, v4, v5⟩ := v
    refine ⟨v1, v2, v3, ?_, vwM_fr f v5⟩
    rw [f 464 _ (by decide) (by decide)]
    exact vwM_fr f v4
theorem vwM_nd {h : AH} {w wv : Int} : ∀ {R : TR} {d j : Int}, vwM h w wv R d j → 0 ≤ d ∧ d < 8800 ∧ ((d = w ∧ j = 0 ∧ (inf R).1 = 1 ∧ (inf R).2.1 = wv ∧ nk R = 0) ∨ (d ≠ w ∧ h 465 d = j + nk R ∧ ((inf R).1 = 0 → h 460 d = 1 ∧ h 462 d = (inf R).2.1) ∧ ((inf R).1 = 1 → h 460 d = 0 ∧ h 462 d = (inf R).2.1) ∧ ((inf R).1 = 2 → h 460 d = 2 ∧ h 463 d = (inf R).2.1) ∧ ((inf R).1 = 4 → h 460 d = 2 ∧ h 463 d = -1) ∧ (inf R).1 ≠ 3))
  | .leaf i, d, j, v => ⟨v.1, v.2.1, v.2.2.imp (fun y => ⟨y.1, y.2.1, y.2.2.1, y.2.2.2, rfl⟩) (fun y => ⟨y.1, by rw [y.2.1]; exact (Int.add_zero j).symm, y.2.2⟩)⟩
  | .branch b s r, d, j, v => by
    have q := vwM_nd (R := r) v.2.2.2.2
    have z := q.2.2.resolve_left (fun y => v.1 y.1)
    exact ⟨q.1, q.2.1, Or.inr ⟨z.1, by rw [z.2.1]; show j + 1 + nk r = j + (nk r + 1); omega, z.2.2⟩⟩
theorem vwM_kd {h : AH} {w wv : Int} : ∀ {R : TR} {d j : Int} (k : Nat), vwM h w wv R d j → (k : Int) < nk R → j + k < 3 ∧ vwM h w wv (kdA R k) (h 464 (3 * d + (j + k))) 0
  | .leaf i, d, j, k, _, l => by have e : nk (.leaf i) = 0 := rfl; omega
  | .branch b s r, d, j, 0, v, _ => by
    rw [show j + ((0 : Nat) : Int) = j from Int.add_zero j]
    exact ⟨v.2.2.1, v.2.2.2.1⟩
  | .branch b s r, d, j, k + 1, v, l => by
    have e : nk (.branch b s r) = nk r + 1 := rfl
    have q := vwM_kd (R := r) k v.2.2.2.2 (by omega)
    rw [show j + ((k + 1 : Nat) : Int) = j + 1 + (k : Int) by omega]
    exact q
def sgM (h : AH) (E : EV) (f : Int → Int → Int → Int) (a : Int) : Prop := isX16 (h 454 38) ∧ (∀ k, 0 ≤ k → k < eO E (-2) → h (h 454 38 + 1) k = kch (eK E (-2) k) ∧ eK E (-2) k ≤ 1) ∧ h a (-2) = 101 ∧ a ≠ 454 ∧ ∀ x y z, vlR (eK E (-2) 0) x → (2 ≤ eO E (-2) → vlR (eK E (-2) 1) y) → (3 ≤ eO E (-2) → vlR (eK E (-2) 2) z) → ptE E x y z < h a (-1) ∧ h a (ptE E x y z) = f x y z
def enuM (h : AH) (E : EV) (Rf : Int → TR) (W : Int → Int → Int → VW) (f : Int → Int → Int → Int) (w : Int) : Prop := actM h E ∧ acE E ∧ wOK E Rf W ∧ fTy E f ∧ (∀ a, 26 ≤ a → a < E.1.1 → (∀ z, vwM h w z (Rf a) (h 459 a) 0) ∧ tyT E (eO E a) (eK E a) (Rf a) 0 ∧ dpE E.1.2.2.2.1 (Rf a) ≤ E.1.2.2.2.1 a ∧ 0 ≤ E.1.2.2.2.1 a ∧ E.1.2.2.2.1 a ≤ 40 ∧ nsT (Rf a)) ∧ ∀ a, 26 ≤ a → 0 ≤ E.1.2.2.2.1 a
def ag20 (h h' : AH) : Prop := ∀ a s, ¬ (a = 454 ∧ s = 20) → h' a s = h a s
theorem enuM_fr {h h' : AH} {E : EV} {Rf : Int → TR} {W : Int → Int → Int → VW} {f : Int → Int → Int → Int} {w : Int} (e : enuM h E Rf W f w) (g : ag20 h h') : enuM h' E Rf W f w := by
  obtain ⟨e1, e2, e3, e4, e5, e6⟩ := e
  exact ⟨actM_fr e1 (g _ _ (by omega)) (fun a s a0 a1 => g _ _ (by omega)), e2, e3, e4, fun a a0 a1 => by rw [g _ _ (by omega)]; exact ⟨fun z => vwM_fr (fun a s a0 a1 => g _ _ (by omega)) ((e5 a a0 a1).1 z), (e5 a a0 a1).2⟩, e6⟩
theorem sgM_fr {h h' : AH} {E : EV} {f : Int → Int → Int → Int} {a : Int} (e : sgM h E f a) (g : ag20 h h') : sgM h' E f a := by
  obtain ⟨e1, e2, e3, e4, e5⟩ := e
  have x := e1
  unfold isX16 at x
  unfold sgM
  rw [g 454 38 (by omega), g a _ (by omega), g a _ (by omega)]
  exact ⟨e1, fun k k0 k1 => by rw [g _ _ (by omega)]; exact e2 k k0 k1, e3, e4, fun x y z c1 c2 c3 => by rw [g a _ (by omega)]; exact e5 x y z c1 c2 c3⟩
def preV (h : AH) (E : EV) (Rf : Int → TR) (W : Int → Int → Int → VW) (f : Int → Int → Int → Int) (w wv np : Int) (kp : Int → Int) (a b c g : Int) (R : TR) (d : Int) : Prop := enuM h E Rf W f w ∧ vwM h w wv R d 0 ∧ tyT E np kp R 0 ∧ h 454 21 = w ∧ (w = -1 ∨ h 454 22 = wv) ∧ (∀ n, 0 ≤ n → n < np → vlR (kp n) (p3 a b c n)) ∧ 0 ≤ np ∧ np ≤ 3 ∧ (nsT R ∨ sgM h E f g) ∧ -9223372036854775808 ≤ h 454 20 ∧ h 454 20 < 9223372036854775808
def posV (h h' : AH) (wk : Int) : Prop := h' 454 20 = w64 (h 454 20 + wk) ∧ ag20 h h'
theorem w64_add (x y : Int) : w64 (w64 x + y) = w64 (x + y) := by unfold w64; omega
theorem posV_0 {h : AH} (b : -9223372036854775808 ≤ h 454 20 ∧ h 454 20 < 9223372036854775808) : posV h h 0 := ⟨by rw [w64_id] <;> omega, fun _ _ _ => rfl⟩
theorem posV_tr {h h1 h2 : AH} {a b c : Int} (x : posV h h1 a) (y : posV h1 h2 b) (e : c = a + b) : posV h h2 c := ⟨by rw [y.1, x.1, w64_add, e]; congr 1; omega, fun s t z => by rw [y.2 s t z]; exact x.2 s t z⟩
theorem posV_b {h h' : AH} {wk : Int} (p : posV h h' wk) : -9223372036854775808 ≤ h' 454 20 ∧ h' 454 20 < 9223372036854775808 := by rw [p.1]; exact w64_r _
theorem preV_fr {h h' : AH} {E : EV} {Rf : Int → TR} {W : Int → Int → Int → VW} {f : Int → Int → Int → Int} {w wv np a b c g d wk : Int} {kp : Int → Int} {R : TR} (q : preV h E Rf W f w wv np kp a b c g R d) (p : posV h h' wk) : preV h' E Rf W f w wv np kp a b c g R d := by
  obtain ⟨q1, q2, q3, q4, q5, q6, q7, q8, q9, q10⟩ := q
  have G := p.2
  exact ⟨enuM_fr q1 G, vwM_fr (fun a s a0 a1 => G _ _ (by omega)) q2, q3, by rw [G _ _ (by omega)]; exact q4, by rw [G _ _ (by omega)]; exact q5, q6, q7, q8, q9.imp id (fun z => sgM_fr z G), posV_b p⟩
theorem preV_kd {h : AH} {E : EV} {Rf : Int → TR} {W : Int → Int → Int → VW} {f : Int → Int → Int → Int} {w wv np a b c g d : Int} {kp : Int → Int} {R : TR} (q : preV h E Rf W f w wv np kp a b c g R d) (k : Nat) (lk : (k : Int) < nk R) : preV h E Rf W f w wv np kp a b c g (kdA R k) (h 464 (3 * d + k)) := by
  obtain ⟨q1, q2, q3, q4, q5, q6, q7, q8, q9, q10⟩ := q
  have kd := vwM_kd k q2 lk
  rw [Int.zero_add] at kd
  exact ⟨q1, kd.2, (tyT_kd k q3 lk).1, q4, q5, q6, q7, q8, q9.imp (nsT_kd k) id, q10⟩
def CWA (F : Int → Int → Int → Int → Int → AH → Option (Int × AH)) (k : Int) : Prop := ∀ (d a b c g : Int) (h : AH) (E : EV) (Rf : Int → TR) (W : Int → Int → Int → VW) (f : Int → Int → Int → Int) (w wv np : Int) (kp hl : Int → Int) (R : TR), preV h E Rf W f w wv np kp a b c g R d → dpE E.1.2.2.2.1 R + 1 ≤ k → (∀ c, 0 ≤ c → c ≤ 2 → 0 ≤ hl c ∧ hl c ≤ 15) → OK (F d a b c g h) (fun r => jt2 r fun v h' => v = (evT W f (p3 a b c) hl R).1 ∧ posV h h' (evT W f (p3 a b c) hl R).2)
theorem vX14_chooses (a0 : Int) : OK (gX14_chooses a0) (fun v => (v = 1 ∧ (a0 = 15 ∨ a0 = 16)) ∨ (v = 0 ∧ a0 ≠ 15 ∧ a0 ≠ 16)) := by
  unfold gX14_chooses
  refine OK_if (fun c1 => ?_) (fun c1 => ?_)
  · skip
    try simp (disch := omega) only [jst_eq, jst_ne, jst_ni, jI_i, jcmp_lt, jcmp_gt, w32_id, jcpy_out, Sum.elim_inl, Sum.elim_inr, jt2, jt3, jt4, jt5, jt6, jt7, jt8] at c1
    refine OK_some ?_
    try dsimp only [Sum.elim_inl, Sum.elim_inr, jt2, jt3, jt4, jt5, jt6, jt7, jt8]
    (first | assumption | omega | ((try dsimp only [jt2, jt3, jt4]); first | omega | (simp (disch := omega) only [jst_eq, jst_ne, jst_ni, jst_o, jI_i, jcpy_out, w32_id, jdiv_nn, jshr_k, jand_255] <;> first | done | omega | assumption)) | (intros; simp (disch := omega) only [jst_eq, jst_ne, jst_ni, jst_o, jI_i, jcpy_out, w32_id, jdiv_nn, *] <;> first | done | omega) | (intros; simp (disch := omega) only [jst_eq, jst_ne, jst_ni, jst_o, jI_i, jcpy_out, w32_id, jdiv_nn] at * <;> first | done | omega | assumption) | (intros; first | rfl | (exfalso; omega) | ((repeat' apply And.intro) <;> first | assumption | rfl | omega | trivial))) -- o1 e1
  · skip
    try simp (disch := omega) only [jst_eq, jst_ne, jst_ni, jI_i, jcmp_lt, jcmp_gt, w32_id, jcpy_out, Sum.elim_inl, Sum.elim_inr, jt2, jt3, jt4, jt5, jt6, jt7, jt8] at c1
    refine OK_if (fun c2 => ?_) (fun c2 => ?_)
    · skip
      try simp (disch := omega) only [jst_eq, jst_ne, jst_ni, jI_i, jcmp_lt, jcmp_gt, w32_id, jcpy_out, Sum.elim_inl, Sum.elim_inr, jt2, jt3, jt4, jt5, jt6, jt7, jt8] at c2
      refine OK_some ?_
      try dsimp only [Sum.elim_inl, Sum.elim_inr, jt2, jt3, jt4, jt5, jt6, jt7, jt8]
      (first | assumption | omega | ((try dsimp only [jt2, jt3, jt4]); first | omega | (simp (disch := omega) only [jst_eq, jst_ne, jst_ni, jst_o, jI_i, jcpy_out, w32_id, jdiv_nn, jshr_k, jand_255] <;> first | done | omega | assumption)) | (intros; simp (disch := omega) only [jst_eq, jst_ne, jst_ni, jst_o, jI_i, jcpy_out, w32_id, jdiv_nn, *] <;> first | done | omega) | (intros; simp (disch := omega) only [jst_eq, jst_ne, jst_ni, jst_o, jI_i, jcpy_out, w32_id, jdiv_nn] at * <;> first | done | omega | assumption) | (intros; first | rfl | (exfalso; omega) | ((repeat' apply And.intro) <;> first | assumption | rfl | omega | trivial))) -- o2 e2
    · skip
      try simp (disch := omega) only [jst_eq, jst_ne, jst_ni, jI_i, jcmp_lt, jcmp_gt, w32_id, jcpy_out, Sum.elim_inl, Sum.elim_inr, jt2, jt3, jt4, jt5, jt6, jt7, jt8] at c2
      refine OK_some ?_
      try dsimp only [Sum.elim_inl, Sum.elim_inr, jt2, jt3, jt4, jt5, jt6, jt7, jt8]
      (first | assumption | omega | ((try dsimp only [jt2, jt3, jt4]); first | omega | (simp (disch := omega) only [jst_eq, jst_ne, jst_ni, jst_o, jI_i, jcpy_out, w32_id, jdiv_nn, jshr_k, jand_255] <;> first | done | omega | assumption)) | (intros; simp (disch := omega) only [jst_eq, jst_ne, jst_ni, jst_o, jI_i, jcpy_out, w32_id, jdiv_nn, *] <;> first | done | omega) | (intros; simp (disch := omega) only [jst_eq, jst_ne, jst_ni, jst_o, jI_i, jcpy_out, w32_id, jdiv_nn] at * <;> first | done | omega | assumption) | (intros; first | rfl | (exfalso; omega) | ((repeat' apply And.intro) <;> first | assumption | rfl | omega | trivial))) -- o3 e3
theorem vX14_base (a0 : Int) {k : Int} (e : a0 = kch k) : OK (gX14_base a0) (fun v => v = bsK k) := by
  unfold gX14_base
  refine OK_if (fun c1 => ?_) (fun c1 => ?_)
  · skip
    try simp (disch := omega) only [jst_eq, jst_ne, jst_ni, jI_i, jcmp_lt, jcmp_gt, w32_id, jcpy_out, Sum.elim_inl, Sum.elim_inr, jt2, jt3, jt4, jt5, jt6, jt7, jt8] at c1
    refine OK_some ?_
    try dsimp only [Sum.elim_inl, Sum.elim_inr, jt2, jt3, jt4, jt5, jt6, jt7, jt8]
    (unfold kch at e; unfold bsK; by_cases y : k = 0; { rw [if_pos y] }; { rw [if_neg y] at e; exfalso; by_cases y1 : k = 1; { rw [if_pos y1] at e; omega }; { rw [if_neg y1] at e; by_cases y2 : k = 2; { rw [if_pos y2] at e; omega }; { rw [if_neg y2] at e; omega } } }) -- o1 e1
  · skip
    try simp (disch := omega) only [jst_eq, jst_ne, jst_ni, jI_i, jcmp_lt, jcmp_gt, w32_id, jcpy_out, Sum.elim_inl, Sum.elim_inr, jt2, jt3, jt4, jt5, jt6, jt7, jt8] at c1
    refine OK_some ?_
    try dsimp only [Sum.elim_inl, Sum.elim_inr, jt2, jt3, jt4, jt5, jt6, jt7, jt8]
    (unfold kch at e; unfold bsK; by_cases y : k = 0; { rw [if_pos y] at e; omega }; { rw [if_neg y] }) -- o2 e2
/-- what an act gives for answers, errors too -/
def gvA (E : EV) (W : Int → Int → Int → VW) (a x y z : Int) : VW := if a = 15 ∨ a = 16 then (if x = -1 then (-1, 0) else if x = 1 then (y, 0) else (z, 0)) else if x = -1 ∨ (2 ≤ eO E a ∧ y = -1) ∨ (3 ≤ eO E a ∧ z = -1) then (-1, 0) else W a x y
def GVP (E : EV) (a x y z : Int) : Prop := 0 ≤ a ∧ a < E.1.1 ∧ (a ≠ 15 → a ≠ 16 → okV (eK E a 0) x ∧ (eO E a = 2 → okV (eK E a 1) y) ∧ (eO E a = 1 → y = 0))
theorem vX14_given_j66 {F : Int → Int → Int → Int → Int → AH → Option (Int × AH)} (a1 : Int) (a2 : Int) (a3 : Int) (a4 : Int) {h : AH} {E : EV} {Rf : Int → TR} {W : Int → Int → Int → VW} {f : Int → Int → Int → Int} {w k : Int} (hF : CWA F k) (en : enuM h E Rf W f w) (w1 : h 454 21 = w) (a : 0 ≤ a1 ∧ a1 < E.1.1 ∧ a1 ≠ 15 ∧ a1 ≠ 16) (kk : 26 ≤ a1 → E.1.2.2.2.1 a1 + 1 ≤ k) (t : vlR (eK E a1 0) a2 ∧ (eO E a1 = 2 → vlR (eK E a1 1) a3) ∧ (eO E a1 = 1 → a3 = 0)) (b : -9223372036854775808 ≤ h 454 20 ∧ h 454 20 < 9223372036854775808) : OK (gX14_given_j66 F a1 a2 a3 a4 h) (fun r => jt2 r fun v h' => (v = (W a1 a2 a3).1) ∧ (posV h h' (W a1 a2 a3).2)) := by
  have hA := en.2.1.2.1
  have A := en.2.1.2.2.1 a1 a.1 a.2.1
  unfold gX14_given_j66
  refine OK_if (fun c1 => ?_) (fun c1 => ?_)
  · skip
    try simp (disch := omega) only [jst_eq, jst_ne, jst_ni, jI_i, jcmp_lt, jcmp_gt, w32_id, jcpy_out, Sum.elim_inl, Sum.elim_inr, jt2, jt3, jt4, jt5, jt6, jt7, jt8] at c1
    obtain ⟨m1, m2, m3, m4, m5, m6⟩ := en.2.2.2.2.1 a1 c1 a.2.1
    have A3 := A.2.2.1 c1
    refine OK_jg (by (first | assumption | omega | ((try dsimp only [jt2, jt3, jt4]); first | omega | (simp (disch := omega) only [jst_eq, jst_ne, jst_ni, jst_o, jI_i, jcpy_out, w32_id, jdiv_nn, jshr_k, jand_255] <;> first | done | omega | assumption)) | (intros; simp (disch := omega) only [jst_eq, jst_ne, jst_ni, jst_o, jI_i, jcpy_out, w32_id, jdiv_nn, *] <;> first | done | omega) | (intros; simp (disch := omega) only [jst_eq, jst_ne, jst_ni, jst_o, jI_i, jcpy_out, w32_id, jdiv_nn] at * <;> first | done | omega | assumption) | (intros; first | rfl | (exfalso; omega) | ((repeat' apply And.intro) <;> first | assumption | rfl | omega | trivial)))) ?_ -- o1
    refine OK_jb2 (hF _ _ _ _ _ _ E Rf W f w (h 454 22) (eO E a1) (eK E a1) (fun _ => 0) (Rf a1) (by exact ⟨en, m1 _, m2, w1, Or.inr rfl, fun n n0 n1 => by (rcases (show n = 0 ∨ n = 1 by omega) with rfl | rfl; { exact t.1 }; { exact t.2.1 (by omega) }), by omega, by omega, Or.inl m6, b⟩) (by (have := kk c1; omega)) (by exact fun _ _ _ => ⟨by decide, by decide⟩)) (fun v14 h15 r1 => ?_)
    try dsimp only [Sum.elim_inl, Sum.elim_inr, jt2, jt3, jt4, jt5, jt6, jt7, jt8] at r1
    obtain ⟨ev1, pe1⟩ := r1
    try simp (disch := omega) only [jst_eq, jst_ne, jst_ni, jI_i, jcmp_lt, jcmp_gt, w32_id, jcpy_out, Sum.elim_inl, Sum.elim_inr, jt2, jt3, jt4, jt5, jt6, jt7, jt8] at ev1
    try simp (disch := omega) only [jst_eq, jst_ne, jst_ni, jI_i, jcmp_lt, jcmp_gt, w32_id, jcpy_out, Sum.elim_inl, Sum.elim_inr, jt2, jt3, jt4, jt5, jt6, jt7, jt8] at pe1
    refine OK_some ?_
    try dsimp only [Sum.elim_inl, Sum.elim_inr, jt2, jt3, jt4, jt5, jt6, jt7, jt8]
    try dsimp only [Sum.elim_inl, Sum.elim_inr, jt2, jt3, jt4, jt5, jt6, jt7, jt8]
    refine ⟨?_, ?_⟩
    · (rw [en.2.2.1.2.1 a1 c1 a.2.1 a2 a3 f (fun _ => 0) (p3 a2 a3 a4) rfl rfl]; exact ev1) -- o5 e1.1
    · (rw [en.2.2.1.2.1 a1 c1 a.2.1 a2 a3 f (fun _ => 0) (p3 a2 a3 a4) rfl rfl]; exact pe1) -- o6 e1.2
  · skip
    try simp (disch := omega) only [jst_eq, jst_ne, jst_ni, jI_i, jcmp_lt, jcmp_gt, w32_id, jcpy_out, Sum.elim_inl, Sum.elim_inr, jt2, jt3, jt4, jt5, jt6, jt7, jt8] at c1
    have B := en.2.1.2.2.2.1 a1 a.1 (by omega)
    refine OK_jb (vX14_plain _ _ _ (by exact argP_ty ⟨a.1, by omega, a.2.2.1, a.2.2.2⟩ (by rw [← B.2 0 (by omega) (by have := B.1; omega)]; exact t.1) (fun y => by rw [← B.2 1 (by omega) (by omega)]; exact t.2.1 (by have := B.1; omega)) (fun y => t.2.2 (by have := B.1; omega))) (by omega)) (fun v17 r2 => ?_)
    try dsimp only [Sum.elim_inl, Sum.elim_inr, jt2, jt3, jt4, jt5, jt6, jt7, jt8] at r2
    have v2 := r2
    clear r2
    try simp (disch := omega) only [jst_eq, jst_ne, jst_ni, jI_i, jcmp_lt, jcmp_gt, w32_id, jcpy_out, Sum.elim_inl, Sum.elim_inr, jt2, jt3, jt4, jt5, jt6, jt7, jt8] at v2
    refine OK_some ?_
    try dsimp only [Sum.elim_inl, Sum.elim_inr, jt2, jt3, jt4, jt5, jt6, jt7, jt8]
    try dsimp only [Sum.elim_inl, Sum.elim_inr, jt2, jt3, jt4, jt5, jt6, jt7, jt8]
    refine ⟨?_, ?_⟩
    · (rw [en.2.2.1.1 a1 a2 a3 a.1 (by omega) a.2.2.1 a.2.2.2]; assumption) -- o9 e2.1
    · (rw [en.2.2.1.1 a1 a2 a3 a.1 (by omega) a.2.2.1 a.2.2.2]; exact posV_0 b) -- o10 e2.2
theorem vX14_given_j52 {F : Int → Int → Int → Int → Int → AH → Option (Int × AH)} (a1 : Int) (a2 : Int) (a3 : Int) (a4 : Int) (a5 : Int) {h : AH} {E : EV} {Rf : Int → TR} {W : Int → Int → Int → VW} {f : Int → Int → Int → Int} {w k : Int} (hF : CWA F k) (en : enuM h E Rf W f w) (w1 : h 454 21 = w) (a : 0 ≤ a1 ∧ a1 < E.1.1 ∧ a1 ≠ 15 ∧ a1 ≠ 16) (kk : 26 ≤ a1 → E.1.2.2.2.1 a1 + 1 ≤ k) (t : vlR (eK E a1 0) a2 ∧ (eO E a1 = 2 → vlR (eK E a1 1) a3) ∧ (eO E a1 = 1 → a3 = 0)) (n2 : a5 = eO E a1 ∧ a5 ≤ 2) (b : -9223372036854775808 ≤ h 454 20 ∧ h 454 20 < 9223372036854775808) : OK (gX14_given_j52 F a1 a2 a3 a4 a5 h) (fun r => jt2 r fun v h' => (v = (W a1 a2 a3).1) ∧ (posV h h' (W a1 a2 a3).2)) := by
  unfold gX14_given_j52
  refine OK_if (fun c1 => ?_) (fun c1 => ?_)
  · skip
    try simp (disch := omega) only [jst_eq, jst_ne, jst_ni, jI_i, jcmp_lt, jcmp_gt, w32_id, jcpy_out, Sum.elim_inl, Sum.elim_inr, jt2, jt3, jt4, jt5, jt6, jt7, jt8] at c1
    refine OK_mono (vX14_given_j66 (E := E) (Rf := Rf) (W := W) (f := f) (w := w) (k := k) _ _ _ _ (by (first | assumption | omega | ((try dsimp only [jt2, jt3, jt4]); first | omega | (simp (disch := omega) only [jst_eq, jst_ne, jst_ni, jst_o, jI_i, jcpy_out, w32_id, jdiv_nn, jshr_k, jand_255] <;> first | done | omega | assumption)) | (intros; simp (disch := omega) only [jst_eq, jst_ne, jst_ni, jst_o, jI_i, jcpy_out, w32_id, jdiv_nn, *] <;> first | done | omega) | (intros; simp (disch := omega) only [jst_eq, jst_ne, jst_ni, jst_o, jI_i, jcpy_out, w32_id, jdiv_nn] at * <;> first | done | omega | assumption) | (intros; first | rfl | (exfalso; omega) | ((repeat' apply And.intro) <;> first | assumption | rfl | omega | trivial)))) (by (first | assumption | omega | ((try dsimp only [jt2, jt3, jt4]); first | omega | (simp (disch := omega) only [jst_eq, jst_ne, jst_ni, jst_o, jI_i, jcpy_out, w32_id, jdiv_nn, jshr_k, jand_255] <;> first | done | omega | assumption)) | (intros; simp (disch := omega) only [jst_eq, jst_ne, jst_ni, jst_o, jI_i, jcpy_out, w32_id, jdiv_nn, *] <;> first | done | omega) | (intros; simp (disch := omega) only [jst_eq, jst_ne, jst_ni, jst_o, jI_i, jcpy_out, w32_id, jdiv_nn] at * <;> first | done | omega | assumption) | (intros; first | rfl | (exfalso; omega) | ((repeat' apply And.intro) <;> first | assumption | rfl | omega | trivial)))) (by (first | assumption | omega | ((try dsimp only [jt2, jt3, jt4]); first | omega | (simp (disch := omega) only [jst_eq, jst_ne, jst_ni, jst_o, jI_i, jcpy_out, w32_id, jdiv_nn, jshr_k, jand_255] <;> first | done | omega | assumption)) | (intros; simp (disch := omega) only [jst_eq, jst_ne, jst_ni, jst_o, jI_i, jcpy_out, w32_id, jdiv_nn, *] <;> first | done | omega) | (intros; simp (disch := omega) only [jst_eq, jst_ne, jst_ni, jst_o, jI_i, jcpy_out, w32_id, jdiv_nn] at * <;> first | done | omega | assumption) | (intros; first | rfl | (exfalso; omega) | ((repeat' apply And.intro) <;> first | assumption | rfl | omega | trivial)))) (by (first | assumption | omega | ((try dsimp only [jt2, jt3, jt4]); first | omega | (simp (disch := omega) only [jst_eq, jst_ne, jst_ni, jst_o, jI_i, jcpy_out, w32_id, jdiv_nn, jshr_k, jand_255] <;> first | done | omega | assumption)) | (intros; simp (disch := omega) only [jst_eq, jst_ne, jst_ni, jst_o, jI_i, jcpy_out, w32_id, jdiv_nn, *] <;> first | done | omega) | (intros; simp (disch := omega) only [jst_eq, jst_ne, jst_ni, jst_o, jI_i, jcpy_out, w32_id, jdiv_nn] at * <;> first | done | omega | assumption) | (intros; first | rfl | (exfalso; omega) | ((repeat' apply And.intro) <;> first | assumption | rfl | omega | trivial)))) (by (first | assumption | omega | ((try dsimp only [jt2, jt3, jt4]); first | omega | (simp (disch := omega) only [jst_eq, jst_ne, jst_ni, jst_o, jI_i, jcpy_out, w32_id, jdiv_nn, jshr_k, jand_255] <;> first | done | omega | assumption)) | (intros; simp (disch := omega) only [jst_eq, jst_ne, jst_ni, jst_o, jI_i, jcpy_out, w32_id, jdiv_nn, *] <;> first | done | omega) | (intros; simp (disch := omega) only [jst_eq, jst_ne, jst_ni, jst_o, jI_i, jcpy_out, w32_id, jdiv_nn] at * <;> first | done | omega | assumption) | (intros; first | rfl | (exfalso; omega) | ((repeat' apply And.intro) <;> first | assumption | rfl | omega | trivial)))) (by (first | assumption | omega | ((try dsimp only [jt2, jt3, jt4]); first | omega | (simp (disch := omega) only [jst_eq, jst_ne, jst_ni, jst_o, jI_i, jcpy_out, w32_id, jdiv_nn, jshr_k, jand_255] <;> first | done | omega | assumption)) | (intros; simp (disch := omega) only [jst_eq, jst_ne, jst_ni, jst_o, jI_i, jcpy_out, w32_id, jdiv_nn, *] <;> first | done | omega) | (intros; simp (disch := omega) only [jst_eq, jst_ne, jst_ni, jst_o, jI_i, jcpy_out, w32_id, jdiv_nn] at * <;> first | done | omega | assumption) | (intros; first | rfl | (exfalso; omega) | ((repeat' apply And.intro) <;> first | assumption | rfl | omega | trivial)))) (by (first | assumption | omega | ((try dsimp only [jt2, jt3, jt4]); first | omega | (simp (disch := omega) only [jst_eq, jst_ne, jst_ni, jst_o, jI_i, jcpy_out, w32_id, jdiv_nn, jshr_k, jand_255] <;> first | done | omega | assumption)) | (intros; simp (disch := omega) only [jst_eq, jst_ne, jst_ni, jst_o, jI_i, jcpy_out, w32_id, jdiv_nn, *] <;> first | done | omega) | (intros; simp (disch := omega) only [jst_eq, jst_ne, jst_ni, jst_o, jI_i, jcpy_out, w32_id, jdiv_nn] at * <;> first | done | omega | assumption) | (intros; first | rfl | (exfalso; omega) | ((repeat' apply And.intro) <;> first | assumption | rfl | omega | trivial))))) (fun r r1 => ?_)
    obtain ⟨y1, y2⟩ := r
    try dsimp only [Sum.elim_inl, Sum.elim_inr, jt2, jt3, jt4, jt5, jt6, jt7, jt8] at r1
    obtain ⟨ev1, pe1⟩ := r1
    try simp (disch := omega) only [jst_eq, jst_ne, jst_ni, jI_i, jcmp_lt, jcmp_gt, w32_id, jcpy_out, Sum.elim_inl, Sum.elim_inr, jt2, jt3, jt4, jt5, jt6, jt7, jt8] at ev1
    try simp (disch := omega) only [jst_eq, jst_ne, jst_ni, jI_i, jcmp_lt, jcmp_gt, w32_id, jcpy_out, Sum.elim_inl, Sum.elim_inr, jt2, jt3, jt4, jt5, jt6, jt7, jt8] at pe1
    try dsimp only [Sum.elim_inl, Sum.elim_inr, jt2, jt3, jt4, jt5, jt6, jt7, jt8]
    try dsimp only [Sum.elim_inl, Sum.elim_inr, jt2, jt3, jt4, jt5, jt6, jt7, jt8]
    refine ⟨?_, ?_⟩
    · (first | assumption | omega | ((try dsimp only [jt2, jt3, jt4]); first | omega | (simp (disch := omega) only [jst_eq, jst_ne, jst_ni, jst_o, jI_i, jcpy_out, w32_id, jdiv_nn, jshr_k, jand_255] <;> first | done | omega | assumption)) | (intros; simp (disch := omega) only [jst_eq, jst_ne, jst_ni, jst_o, jI_i, jcpy_out, w32_id, jdiv_nn, *] <;> first | done | omega) | (intros; simp (disch := omega) only [jst_eq, jst_ne, jst_ni, jst_o, jI_i, jcpy_out, w32_id, jdiv_nn] at * <;> first | done | omega | assumption) | (intros; first | rfl | (exfalso; omega) | ((repeat' apply And.intro) <;> first | assumption | rfl | omega | trivial))) -- o8 e1.1
    · (first | assumption | omega | ((try dsimp only [jt2, jt3, jt4]); first | omega | (simp (disch := omega) only [jst_eq, jst_ne, jst_ni, jst_o, jI_i, jcpy_out, w32_id, jdiv_nn, jshr_k, jand_255] <;> first | done | omega | assumption)) | (intros; simp (disch := omega) only [jst_eq, jst_ne, jst_ni, jst_o, jI_i, jcpy_out, w32_id, jdiv_nn, *] <;> first | done | omega) | (intros; simp (disch := omega) only [jst_eq, jst_ne, jst_ni, jst_o, jI_i, jcpy_out, w32_id, jdiv_nn] at * <;> first | done | omega | assumption) | (intros; first | rfl | (exfalso; omega) | ((repeat' apply And.intro) <;> first | assumption | rfl | omega | trivial))) -- o9 e1.2
  · skip
    try simp (disch := omega) only [jst_eq, jst_ne, jst_ni, jI_i, jcmp_lt, jcmp_gt, w32_id, jcpy_out, Sum.elim_inl, Sum.elim_inr, jt2, jt3, jt4, jt5, jt6, jt7, jt8] at c1
    exfalso
    omega
theorem vX14_given_ {F : Int → Int → Int → Int → Int → AH → Option (Int × AH)} (a1 : Int) (a2 : Int) (a3 : Int) (a4 : Int) {h : AH} {E : EV} {Rf : Int → TR} {W : Int → Int → Int → VW} {f : Int → Int → Int → Int} {w k : Int} (hF : CWA F k) (en : enuM h E Rf W f w) (w1 : h 454 21 = w) (g : GVP E a1 a2 a3 a4) (kk : 26 ≤ a1 → E.1.2.2.2.1 a1 + 1 ≤ k) (b : -9223372036854775808 ≤ h 454 20 ∧ h 454 20 < 9223372036854775808) : OK (gX14_given_ F a1 a2 a3 a4 h) (fun r => jt2 r fun v h' => (v = (gvA E W a1 a2 a3 a4).1) ∧ (posV h h' (gvA E W a1 a2 a3 a4).2)) := by
  obtain ⟨ga, gb, gc⟩ := g
  have hA := en.2.1.2.1
  have A := en.2.1.2.2.1 a1 ga gb
  unfold gX14_given_
  refine OK_jb (vX14_chooses _) (fun v2 r1 => ?_)
  try dsimp only [Sum.elim_inl, Sum.elim_inr, jt2, jt3, jt4, jt5, jt6, jt7, jt8] at r1
  have cv1 := r1
  clear r1
  try simp (disch := omega) only [jst_eq, jst_ne, jst_ni, jI_i, jcmp_lt, jcmp_gt, w32_id, jcpy_out, Sum.elim_inl, Sum.elim_inr, jt2, jt3, jt4, jt5, jt6, jt7, jt8] at cv1
  refine OK_if (fun c1 => ?_) (fun c1 => ?_)
  · skip
    try simp (disch := omega) only [jst_eq, jst_ne, jst_ni, jI_i, jcmp_lt, jcmp_gt, w32_id, jcpy_out, Sum.elim_inl, Sum.elim_inr, jt2, jt3, jt4, jt5, jt6, jt7, jt8] at c1
    have n15 : a1 ≠ 15 ∧ a1 ≠ 16 := by omega
    obtain ⟨g1, g2, g3⟩ := gc n15.1 n15.2
    have AM := (en.1.2.2.2 a1 ga gb).2.1
    have eo : eO E a1 = E.1.2.2.1 a1 := by { unfold eO; rw [if_neg (by omega), if_neg (by omega)] }
    have o2 : eO E a1 ≤ 2 := by { by_cases y : 26 ≤ a1; { exact A.2.2.1 y }; { have B := en.2.1.2.2.2.1 a1 ga (by omega); rw [B.1]; unfold oB; by_cases y1 : a1 = 12 ∨ a1 = 18 ∨ a1 = 21 ∨ a1 = 22 ∨ a1 = 24 ∨ a1 = 25; { rw [if_pos y1]; decide }; { rw [if_neg y1, if_neg (by omega)]; decide } } }
    have gg : gvA E W a1 a2 a3 a4 = if a2 = -1 ∨ (2 ≤ eO E a1 ∧ a3 = -1) then (-1, 0) else W a1 a2 a3 := by { unfold gvA; rw [if_neg (by omega)]; by_cases y : a2 = -1 ∨ (2 ≤ eO E a1 ∧ a3 = -1); { rw [if_pos y, if_pos (by omega)] }; { rw [if_neg y, if_neg (by omega)] } }
    refine OK_jg (by (first | assumption | omega | ((try dsimp only [jt2, jt3, jt4]); first | omega | (simp (disch := omega) only [jst_eq, jst_ne, jst_ni, jst_o, jI_i, jcpy_out, w32_id, jdiv_nn, jshr_k, jand_255] <;> first | done | omega | assumption)) | (intros; simp (disch := omega) only [jst_eq, jst_ne, jst_ni, jst_o, jI_i, jcpy_out, w32_id, jdiv_nn, *] <;> first | done | omega) | (intros; simp (disch := omega) only [jst_eq, jst_ne, jst_ni, jst_o, jI_i, jcpy_out, w32_id, jdiv_nn] at * <;> first | done | omega | assumption) | (intros; first | rfl | (exfalso; omega) | ((repeat' apply And.intro) <;> first | assumption | rfl | omega | trivial)))) ?_ -- o1
    refine OK_jlx (fun x4 ex4 => ?_)
    try simp (disch := omega) only [jst_eq, jst_ne, jst_ni, jI_i, jcmp_lt, jcmp_gt, w32_id, jcpy_out, Sum.elim_inl, Sum.elim_inr, jt2, jt3, jt4, jt5, jt6, jt7, jt8] at ex4
    refine OK_if (fun c2 => ?_) (fun c2 => ?_)
    · skip
      try simp (disch := omega) only [jst_eq, jst_ne, jst_ni, jI_i, jcmp_lt, jcmp_gt, w32_id, jcpy_out, Sum.elim_inl, Sum.elim_inr, jt2, jt3, jt4, jt5, jt6, jt7, jt8] at c2
      refine OK_some ?_
      try dsimp only [Sum.elim_inl, Sum.elim_inr, jt2, jt3, jt4, jt5, jt6, jt7, jt8]
      try dsimp only [Sum.elim_inl, Sum.elim_inr, jt2, jt3, jt4, jt5, jt6, jt7, jt8]
      refine ⟨?_, ?_⟩
      · (rw [gg, if_pos (by omega)]) -- o2 e1.1
      · (rw [gg, if_pos (by omega)]; exact posV_0 b) -- o3 e1.2
    · skip
      try simp (disch := omega) only [jst_eq, jst_ne, jst_ni, jI_i, jcmp_lt, jcmp_gt, w32_id, jcpy_out, Sum.elim_inl, Sum.elim_inr, jt2, jt3, jt4, jt5, jt6, jt7, jt8] at c2
      refine OK_if (fun c3 => ?_) (fun c3 => ?_)
      · skip
        try simp (disch := omega) only [jst_eq, jst_ne, jst_ni, jI_i, jcmp_lt, jcmp_gt, w32_id, jcpy_out, Sum.elim_inl, Sum.elim_inr, jt2, jt3, jt4, jt5, jt6, jt7, jt8] at c3
        refine OK_mono (vX14_given_j52 (E := E) (Rf := Rf) (W := W) (f := f) (w := w) (k := k) _ _ _ _ _ (by (first | assumption | omega | ((try dsimp only [jt2, jt3, jt4]); first | omega | (simp (disch := omega) only [jst_eq, jst_ne, jst_ni, jst_o, jI_i, jcpy_out, w32_id, jdiv_nn, jshr_k, jand_255] <;> first | done | omega | assumption)) | (intros; simp (disch := omega) only [jst_eq, jst_ne, jst_ni, jst_o, jI_i, jcpy_out, w32_id, jdiv_nn, *] <;> first | done | omega) | (intros; simp (disch := omega) only [jst_eq, jst_ne, jst_ni, jst_o, jI_i, jcpy_out, w32_id, jdiv_nn] at * <;> first | done | omega | assumption) | (intros; first | rfl | (exfalso; omega) | ((repeat' apply And.intro) <;> first | assumption | rfl | omega | trivial)))) (by (first | assumption | omega | ((try dsimp only [jt2, jt3, jt4]); first | omega | (simp (disch := omega) only [jst_eq, jst_ne, jst_ni, jst_o, jI_i, jcpy_out, w32_id, jdiv_nn, jshr_k, jand_255] <;> first | done | omega | assumption)) | (intros; simp (disch := omega) only [jst_eq, jst_ne, jst_ni, jst_o, jI_i, jcpy_out, w32_id, jdiv_nn, *] <;> first | done | omega) | (intros; simp (disch := omega) only [jst_eq, jst_ne, jst_ni, jst_o, jI_i, jcpy_out, w32_id, jdiv_nn] at * <;> first | done | omega | assumption) | (intros; first | rfl | (exfalso; omega) | ((repeat' apply And.intro) <;> first | assumption | rfl | omega | trivial)))) (by (first | assumption | omega | ((try dsimp only [jt2, jt3, jt4]); first | omega | (simp (disch := omega) only [jst_eq, jst_ne, jst_ni, jst_o, jI_i, jcpy_out, w32_id, jdiv_nn, jshr_k, jand_255] <;> first | done | omega | assumption)) | (intros; simp (disch := omega) only [jst_eq, jst_ne, jst_ni, jst_o, jI_i, jcpy_out, w32_id, jdiv_nn, *] <;> first | done | omega) | (intros; simp (disch := omega) only [jst_eq, jst_ne, jst_ni, jst_o, jI_i, jcpy_out, w32_id, jdiv_nn] at * <;> first | done | omega | assumption) | (intros; first | rfl | (exfalso; omega) | ((repeat' apply And.intro) <;> first | assumption | rfl | omega | trivial)))) (by exact ⟨ga, gb, n15⟩) (by (first | assumption | omega | ((try dsimp only [jt2, jt3, jt4]); first | omega | (simp (disch := omega) only [jst_eq, jst_ne, jst_ni, jst_o, jI_i, jcpy_out, w32_id, jdiv_nn, jshr_k, jand_255] <;> first | done | omega | assumption)) | (intros; simp (disch := omega) only [jst_eq, jst_ne, jst_ni, jst_o, jI_i, jcpy_out, w32_id, jdiv_nn, *] <;> first | done | omega) | (intros; simp (disch := omega) only [jst_eq, jst_ne, jst_ni, jst_o, jI_i, jcpy_out, w32_id, jdiv_nn] at * <;> first | done | omega | assumption) | (intros; first | rfl | (exfalso; omega) | ((repeat' apply And.intro) <;> first | assumption | rfl | omega | trivial)))) (by exact ⟨g1.resolve_left (by assumption), fun y => by omega, g3⟩) (by omega) (by (first | assumption | omega | ((try dsimp only [jt2, jt3, jt4]); first | omega | (simp (disch := omega) only [jst_eq, jst_ne, jst_ni, jst_o, jI_i, jcpy_out, w32_id, jdiv_nn, jshr_k, jand_255] <;> first | done | omega | assumption)) | (intros; simp (disch := omega) only [jst_eq, jst_ne, jst_ni, jst_o, jI_i, jcpy_out, w32_id, jdiv_nn, *] <;> first | done | omega) | (intros; simp (disch := omega) only [jst_eq, jst_ne, jst_ni, jst_o, jI_i, jcpy_out, w32_id, jdiv_nn] at * <;> first | done | omega | assumption) | (intros; first | rfl | (exfalso; omega) | ((repeat' apply And.intro) <;> first | assumption | rfl | omega | trivial))))) (fun r r2 => ?_)
        obtain ⟨y1, y2⟩ := r
        try dsimp only [Sum.elim_inl, Sum.elim_inr, jt2, jt3, jt4, jt5, jt6, jt7, jt8] at r2
        obtain ⟨ev2, pe2⟩ := r2
        try simp (disch := omega) only [jst_eq, jst_ne, jst_ni, jI_i, jcmp_lt, jcmp_gt, w32_id, jcpy_out, Sum.elim_inl, Sum.elim_inr, jt2, jt3, jt4, jt5, jt6, jt7, jt8] at ev2
        try simp (disch := omega) only [jst_eq, jst_ne, jst_ni, jI_i, jcmp_lt, jcmp_gt, w32_id, jcpy_out, Sum.elim_inl, Sum.elim_inr, jt2, jt3, jt4, jt5, jt6, jt7, jt8] at pe2
        try dsimp only [Sum.elim_inl, Sum.elim_inr, jt2, jt3, jt4, jt5, jt6, jt7, jt8]
        try dsimp only [Sum.elim_inl, Sum.elim_inr, jt2, jt3, jt4, jt5, jt6, jt7, jt8]
        refine ⟨?_, ?_⟩
        · (rw [gg, if_neg (by omega)]; assumption) -- o12 e2.1
        · (rw [gg, if_neg (by omega)]; assumption) -- o13 e2.2
      · skip
        try simp (disch := omega) only [jst_eq, jst_ne, jst_ni, jI_i, jcmp_lt, jcmp_gt, w32_id, jcpy_out, Sum.elim_inl, Sum.elim_inr, jt2, jt3, jt4, jt5, jt6, jt7, jt8] at c3
        refine OK_if (fun c4 => ?_) (fun c4 => ?_)
        · skip
          try simp (disch := omega) only [jst_eq, jst_ne, jst_ni, jI_i, jcmp_lt, jcmp_gt, w32_id, jcpy_out, Sum.elim_inl, Sum.elim_inr, jt2, jt3, jt4, jt5, jt6, jt7, jt8] at c4
          refine OK_some ?_
          try dsimp only [Sum.elim_inl, Sum.elim_inr, jt2, jt3, jt4, jt5, jt6, jt7, jt8]
          try dsimp only [Sum.elim_inl, Sum.elim_inr, jt2, jt3, jt4, jt5, jt6, jt7, jt8]
          refine ⟨?_, ?_⟩
          · (rw [gg, if_pos (by omega)]) -- o14 e3.1
          · (rw [gg, if_pos (by omega)]; exact posV_0 b) -- o15 e3.2
        · skip
          try simp (disch := omega) only [jst_eq, jst_ne, jst_ni, jI_i, jcmp_lt, jcmp_gt, w32_id, jcpy_out, Sum.elim_inl, Sum.elim_inr, jt2, jt3, jt4, jt5, jt6, jt7, jt8] at c4
          refine OK_mono (vX14_given_j52 (E := E) (Rf := Rf) (W := W) (f := f) (w := w) (k := k) _ _ _ _ _ (by (first | assumption | omega | ((try dsimp only [jt2, jt3, jt4]); first | omega | (simp (disch := omega) only [jst_eq, jst_ne, jst_ni, jst_o, jI_i, jcpy_out, w32_id, jdiv_nn, jshr_k, jand_255] <;> first | done | omega | assumption)) | (intros; simp (disch := omega) only [jst_eq, jst_ne, jst_ni, jst_o, jI_i, jcpy_out, w32_id, jdiv_nn, *] <;> first | done | omega) | (intros; simp (disch := omega) only [jst_eq, jst_ne, jst_ni, jst_o, jI_i, jcpy_out, w32_id, jdiv_nn] at * <;> first | done | omega | assumption) | (intros; first | rfl | (exfalso; omega) | ((repeat' apply And.intro) <;> first | assumption | rfl | omega | trivial)))) (by (first | assumption | omega | ((try dsimp only [jt2, jt3, jt4]); first | omega | (simp (disch := omega) only [jst_eq, jst_ne, jst_ni, jst_o, jI_i, jcpy_out, w32_id, jdiv_nn, jshr_k, jand_255] <;> first | done | omega | assumption)) | (intros; simp (disch := omega) only [jst_eq, jst_ne, jst_ni, jst_o, jI_i, jcpy_out, w32_id, jdiv_nn, *] <;> first | done | omega) | (intros; simp (disch := omega) only [jst_eq, jst_ne, jst_ni, jst_o, jI_i, jcpy_out, w32_id, jdiv_nn] at * <;> first | done | omega | assumption) | (intros; first | rfl | (exfalso; omega) | ((repeat' apply And.intro) <;> first | assumption | rfl | omega | trivial)))) (by (first | assumption | omega | ((try dsimp only [jt2, jt3, jt4]); first | omega | (simp (disch := omega) only [jst_eq, jst_ne, jst_ni, jst_o, jI_i, jcpy_out, w32_id, jdiv_nn, jshr_k, jand_255] <;> first | done | omega | assumption)) | (intros; simp (disch := omega) only [jst_eq, jst_ne, jst_ni, jst_o, jI_i, jcpy_out, w32_id, jdiv_nn, *] <;> first | done | omega) | (intros; simp (disch := omega) only [jst_eq, jst_ne, jst_ni, jst_o, jI_i, jcpy_out, w32_id, jdiv_nn] at * <;> first | done | omega | assumption) | (intros; first | rfl | (exfalso; omega) | ((repeat' apply And.intro) <;> first | assumption | rfl | omega | trivial)))) (by exact ⟨ga, gb, n15⟩) (by (first | assumption | omega | ((try dsimp only [jt2, jt3, jt4]); first | omega | (simp (disch := omega) only [jst_eq, jst_ne, jst_ni, jst_o, jI_i, jcpy_out, w32_id, jdiv_nn, jshr_k, jand_255] <;> first | done | omega | assumption)) | (intros; simp (disch := omega) only [jst_eq, jst_ne, jst_ni, jst_o, jI_i, jcpy_out, w32_id, jdiv_nn, *] <;> first | done | omega) | (intros; simp (disch := omega) only [jst_eq, jst_ne, jst_ni, jst_o, jI_i, jcpy_out, w32_id, jdiv_nn] at * <;> first | done | omega | assumption) | (intros; first | rfl | (exfalso; omega) | ((repeat' apply And.intro) <;> first | assumption | rfl | omega | trivial)))) (by exact ⟨g1.resolve_left (by assumption), fun y => (g2 y).resolve_left (by assumption), fun y => by omega⟩) (by omega) (by (first | assumption | omega | ((try dsimp only [jt2, jt3, jt4]); first | omega | (simp (disch := omega) only [jst_eq, jst_ne, jst_ni, jst_o, jI_i, jcpy_out, w32_id, jdiv_nn, jshr_k, jand_255] <;> first | done | omega | assumption)) | (intros; simp (disch := omega) only [jst_eq, jst_ne, jst_ni, jst_o, jI_i, jcpy_out, w32_id, jdiv_nn, *] <;> first | done | omega) | (intros; simp (disch := omega) only [jst_eq, jst_ne, jst_ni, jst_o, jI_i, jcpy_out, w32_id, jdiv_nn] at * <;> first | done | omega | assumption) | (intros; first | rfl | (exfalso; omega) | ((repeat' apply And.intro) <;> first | assumption | rfl | omega | trivial))))) (fun r r3 => ?_)
          obtain ⟨y3, y4⟩ := r
          try dsimp only [Sum.elim_inl, Sum.elim_inr, jt2, jt3, jt4, jt5, jt6, jt7, jt8] at r3
          obtain ⟨ev3, pe3⟩ := r3
          try simp (disch := omega) only [jst_eq, jst_ne, jst_ni, jI_i, jcmp_lt, jcmp_gt, w32_id, jcpy_out, Sum.elim_inl, Sum.elim_inr, jt2, jt3, jt4, jt5, jt6, jt7, jt8] at ev3
          try simp (disch := omega) only [jst_eq, jst_ne, jst_ni, jI_i, jcmp_lt, jcmp_gt, w32_id, jcpy_out, Sum.elim_inl, Sum.elim_inr, jt2, jt3, jt4, jt5, jt6, jt7, jt8] at pe3
          try dsimp only [Sum.elim_inl, Sum.elim_inr, jt2, jt3, jt4, jt5, jt6, jt7, jt8]
          try dsimp only [Sum.elim_inl, Sum.elim_inr, jt2, jt3, jt4, jt5, jt6, jt7, jt8]
          refine ⟨?_, ?_⟩
          · (rw [gg, if_neg (by omega)]; assumption) -- o24 e4.1
          · (rw [gg, if_neg (by omega)]; assumption) -- o25 e4.2
  · skip
    try simp (disch := omega) only [jst_eq, jst_ne, jst_ni, jI_i, jcmp_lt, jcmp_gt, w32_id, jcpy_out, Sum.elim_inl, Sum.elim_inr, jt2, jt3, jt4, jt5, jt6, jt7, jt8] at c1
    refine OK_if (fun c5 => ?_) (fun c5 => ?_)
    · skip
      try simp (disch := omega) only [jst_eq, jst_ne, jst_ni, jI_i, jcmp_lt, jcmp_gt, w32_id, jcpy_out, Sum.elim_inl, Sum.elim_inr, jt2, jt3, jt4, jt5, jt6, jt7, jt8] at c5
      refine OK_some ?_
      try dsimp only [Sum.elim_inl, Sum.elim_inr, jt2, jt3, jt4, jt5, jt6, jt7, jt8]
      try dsimp only [Sum.elim_inl, Sum.elim_inr, jt2, jt3, jt4, jt5, jt6, jt7, jt8]
      refine ⟨?_, ?_⟩
      · (unfold gvA; rw [if_pos (by omega), if_pos (by assumption)]) -- o26 e5.1
      · (unfold gvA; rw [if_pos (by omega), if_pos (by assumption)]; exact posV_0 b) -- o27 e5.2
    · skip
      try simp (disch := omega) only [jst_eq, jst_ne, jst_ni, jI_i, jcmp_lt, jcmp_gt, w32_id, jcpy_out, Sum.elim_inl, Sum.elim_inr, jt2, jt3, jt4, jt5, jt6, jt7, jt8] at c5
      refine OK_if (fun c6 => ?_) (fun c6 => ?_)
      · skip
        try simp (disch := omega) only [jst_eq, jst_ne, jst_ni, jI_i, jcmp_lt, jcmp_gt, w32_id, jcpy_out, Sum.elim_inl, Sum.elim_inr, jt2, jt3, jt4, jt5, jt6, jt7, jt8] at c6
        refine OK_some ?_
        try dsimp only [Sum.elim_inl, Sum.elim_inr, jt2, jt3, jt4, jt5, jt6, jt7, jt8]
        try dsimp only [Sum.elim_inl, Sum.elim_inr, jt2, jt3, jt4, jt5, jt6, jt7, jt8]
        refine ⟨?_, ?_⟩
        · (unfold gvA; rw [if_pos (by omega), if_neg (by assumption), if_pos (by assumption)]) -- o28 e6.1
        · (unfold gvA; rw [if_pos (by omega), if_neg (by assumption), if_pos (by assumption)]; exact posV_0 b) -- o29 e6.2
      · skip
        try simp (disch := omega) only [jst_eq, jst_ne, jst_ni, jI_i, jcmp_lt, jcmp_gt, w32_id, jcpy_out, Sum.elim_inl, Sum.elim_inr, jt2, jt3, jt4, jt5, jt6, jt7, jt8] at c6
        refine OK_some ?_
        try dsimp only [Sum.elim_inl, Sum.elim_inr, jt2, jt3, jt4, jt5, jt6, jt7, jt8]
        try dsimp only [Sum.elim_inl, Sum.elim_inr, jt2, jt3, jt4, jt5, jt6, jt7, jt8]
        refine ⟨?_, ?_⟩
        · (unfold gvA; rw [if_pos (by omega), if_neg (by assumption), if_neg (by assumption)]) -- o30 e7.1
        · (unfold gvA; rw [if_pos (by omega), if_neg (by assumption), if_neg (by assumption)]; exact posV_0 b) -- o31 e7.2

