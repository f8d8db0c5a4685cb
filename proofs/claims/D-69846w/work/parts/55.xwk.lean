/-! x: terms worked out -/
def capX (h : AH) (T N : Int) : Prop := isX3 T ∧ capT h T N
/-- a term at a node; node w told otherwise -/
def vwX (h : AH) (T N w wv : Int) : TR → Int → Int → Prop
  | .leaf i, d, j => 0 ≤ d ∧ d < N ∧ ((d = w ∧ j = 0 ∧ i.1 = 1 ∧ i.2.1 = wv) ∨ (d ≠ w ∧ h (T + 1) d = i.1 ∧ h (T + 2) d = i.2.1))
  | .branch _ s r, d, j => d ≠ w ∧ 0 ≤ j ∧ j < 3 ∧ vwX h T N w wv s (h (T + 5) (3 * d + j)) 0 ∧ vwX h T N w wv r d (j + 1)
theorem isX3_r {T : Int} (h : isX3 T) : 258 ≤ T ∧ T ≤ 396 ∧ T ≠ 264 ∧ T ≠ 265 ∧ T ≠ 266 ∧ T ≠ 267 ∧ T ≠ 268 := by unfold isX3 at h; omega
theorem isX3_p {T : Int} (h : isX3 T) : ¬ (T + 1 = 269) ∧ ¬ (T + 2 = 269) ∧ ¬ (T + 5 = 269) := by unfold isX3 at h; omega
theorem vwX_fr {h h' : AH} {T N w wv : Int} (f : ∀ a s, (a = T + 1 ∨ a = T + 2 ∨ a = T + 5) → h' a s = h a s) : ∀ {R : TR} {d j : Int}, vwX h T N w wv R d j → vwX h' T N w wv R d j
  | .leaf i, d, j, v => by
    obtain ⟨a, b, c⟩ := v
    refine ⟨a, b, c.imp id (fun y => ⟨y.1, ?_, ?_⟩)⟩
    · rw [f _ _ (by omega)]; exact y.2.1
    · rw [f _ _ (by omega)]; exact y.2.2
  | .branch b s r, d, j, v => by
    obtain ⟨v1, v2, v3, v4, v5⟩ := v
    refine ⟨v1, v2, v3, ?_, vwX_fr f v5⟩
    rw [f _ _ (by omega)]
    exact vwX_fr f v4
theorem vwX_nd {h : AH} {T N w wv : Int} : ∀ {R : TR} {d j : Int}, vwX h T N w wv R d j → 0 ≤ d ∧ d < N ∧ ((d = w ∧ j = 0 ∧ (inf R).1 = 1 ∧ (inf R).2.1 = wv ∧ nk R = 0) ∨ (d ≠ w ∧ h (T + 1) d = (inf R).1 ∧ h (T + 2) d = (inf R).2.1))
  | .leaf i, d, j, v => ⟨v.1, v.2.1, v.2.2.imp (fun y => ⟨y.1, y.2.1, y.2.2.1, y.2.2.2, rfl⟩) id⟩
  | .branch b s r, d, j, v => by
    have q := vwX_nd (R := r) v.2.2.2.2
    exact ⟨q.1, q.2.1, Or.inr (q.2.2.resolve_left (fun y => v.1 y.1))⟩
theorem vwX_kd {h : AH} {T N w wv : Int} : ∀ {R : TR} {d j : Int} (k : Nat), vwX h T N w wv R d j → (k : Int) < nk R → j + k < 3 ∧ vwX h T N w wv (kdA R k) (h (T + 5) (3 * d + (j + k))) 0
  | .leaf i, d, j, k, _, l => by have e : nk (.leaf i) = 0 := rfl; omega
  | .branch b s r, d, j, 0, v, _ => by
    rw [show j + ((0 : Nat) : Int) = j from Int.add_zero j]
    exact ⟨v.2.2.1, v.2.2.2.1⟩
  | .branch b s r, d, j, k + 1, v, l => by
    have e : nk (.branch b s r) = nk r + 1 := rfl
    have q := vwX_kd (R := r) k v.2.2.2.2 (by omega)
    rw [show j + ((k + 1 : Nat) : Int) = j + 1 + (k : Int) by omega]
    exact q
/-- the point of a row of values -/
def bsK (k : Int) : Int := if k = 0 then 16 else 2
def ptE (E : EV) (x y z : Int) : Int := if eO E (-2) ≤ 1 then x else if eO E (-2) ≤ 2 then x * bsK (eK E (-2) 1) + y else (x * bsK (eK E (-2) 1) + y) * bsK (eK E (-2) 2) + z
def sgX (h : AH) (E : EV) (f : Int → Int → Int → Int) : Prop := E.2.2.1 = 1 → isX4 (h 200 16) ∧ h (h 200 16) 1 = eO E (-2) ∧ (∀ k, 0 ≤ k → k < eO E (-2) → h (h 200 16 + 1) k = eK E (-2) k ∧ eK E (-2) k ≤ 1) ∧ h (h 200 14) (-2) = 101 ∧ h 200 14 ≠ 200 ∧ h 200 14 ≠ 269 ∧ 0 ≤ h 200 15 ∧ h 200 15 ≤ 100000 ∧ ∀ x y z, vlR (eK E (-2) 0) x → (2 ≤ eO E (-2) → vlR (eK E (-2) 1) y) → (3 ≤ eO E (-2) → vlR (eK E (-2) 2) z) → h 200 15 + ptE E x y z < h (h 200 14) (-1) ∧ h (h 200 14) (h 200 15 + ptE E x y z) = f x y z
def ownX (h : AH) (E : EV) (Rf : Int → TR) : Prop := ∃ N, capX h 258 N ∧ ∀ a, 26 ≤ a → a < E.1.1 → vwX h 258 N (-1) 0 (Rf a) (h 264 (a - 26)) 0 ∧ tyT E (eO E a) (eK E a) (Rf a) 0 ∧ dpE E.1.2.2.2.1 (Rf a) ≤ E.1.2.2.2.1 a ∧ 0 ≤ E.1.2.2.2.1 a ∧ E.1.2.2.2.1 a ≤ 40
def enuX (h : AH) (E : EV) (Rf : Int → TR) (W : Int → Int → Int → VW) (f : Int → Int → Int → Int) : Prop := actX h E.1.1 E.1.2.1 E.1.2.2.1 E.1.2.2.2.1 E.1.2.2.2.2 ∧ acE E ∧ wOK E Rf W ∧ fTy E f ∧ ownX h E Rf ∧ sgX h E f ∧ (h 269 (-2) = 101 ∧ h 269 (-1) = 1000) ∧ ∀ a, 26 ≤ a → 0 ≤ E.1.2.2.2.1 a
theorem capX_fr {h h' : AH} {T N : Int} (c : capX h T N) (f : ∀ a, T + 1 ≤ a → a ≤ T + 5 → h' a (-1) = h a (-1)) : capX h' T N := ⟨c.1, capT_fr c.2 (fun a a0 a1 => f a a0 a1)⟩
theorem enuX_fr {h h' : AH} {E : EV} {Rf : Int → TR} {W : Int → Int → Int → VW} {f : Int → Int → Int → Int} (e : enuX h E Rf W f) (g : ∀ a s, ¬ (a = 200 ∧ (s = 9 ∨ s = 10 ∨ s = 11)) → ¬ (a = 269 ∧ 0 ≤ s) → h' a s = h a s) : enuX h' E Rf W f := by
  obtain ⟨e1, e2, e3, e4, e5, e6, e8, e7⟩ := e
  refine ⟨actX_fr e1 (fun a s q => g a s (by unfold actC at q; omega) (by unfold actC at q; omega)), e2, e3, e4, ?_, fun z => ?_, ⟨by rw [g _ _ (by omega) (by omega)]; exact e8.1, by rw [g _ _ (by omega) (by omega)]; exact e8.2⟩, e7⟩
  · obtain ⟨N, c, o⟩ := e5
    refine ⟨N, capX_fr c (fun a a0 a1 => g _ _ (by omega) (by omega)), fun a a0 a1 => ?_⟩
    obtain ⟨o1, o2⟩ := o a a0 a1
    rw [g 264 _ (by omega) (by omega)]
    exact ⟨vwX_fr (fun a s q => g _ _ (by omega) (by omega)) o1, o2⟩
  · obtain ⟨s1, s2, s3, s4, s5, s6, s7, s8, s9⟩ := e6 z
    have x4 : h 200 16 = 271 ∨ h 200 16 = 289 := s1
    rw [g 200 16 (by omega) (by omega), g 200 14 (by omega) (by omega), g 200 15 (by omega) (by omega)]
    refine ⟨s1, by rw [g _ _ (by omega) (by omega)]; exact s2, fun k k0 k1 => by rw [g _ _ (by omega) (by omega)]; exact s3 k k0 k1, by rw [g _ _ (by omega) (by omega)]; exact s4, s5, s6, s7, s8, fun x y z a b c => ?_⟩
    rw [g _ _ (by omega) (by omega), g _ _ (by omega) (by omega)]
    exact s9 x y z a b c
def preG (h : AH) (E : EV) (Rf : Int → TR) (W : Int → Int → Int → VW) (f : Int → Int → Int → Int) (T N w wv b np : Int) (kp p hl : Int → Int) (R : TR) (d hi : Int) : Prop := enuX h E Rf W f ∧ capX h T N ∧ vwX h T N w wv R d 0 ∧ tyT E np kp R 0 ∧ h 200 11 = w ∧ (w = -1 ∨ (b = 0 ∧ h 200 12 = wv)) ∧ 0 ≤ b ∧ b + np ≤ hi ∧ hi + 3 * dpE E.1.2.2.2.1 R ≤ 1000 ∧ 0 ≤ np ∧ (∀ c, 0 ≤ c → c < np → h 269 (b + c) = p c ∧ vlR (kp c) (p c)) ∧ (∀ c, 0 ≤ c → c ≤ 2 → h 270 c = hl c ∧ 0 ≤ hl c ∧ hl c ≤ 15) ∧ -2147483648 ≤ h 200 10 ∧ h 200 10 < 2147483648
def preE (h : AH) (E : EV) (Rf : Int → TR) (W : Int → Int → Int → VW) (f : Int → Int → Int → Int) (T N w wv b np : Int) (kp p hl : Int → Int) (R : TR) (d : Int) : Prop := preG h E Rf W f T N w wv b np kp p hl R d (h 200 9)
def posE (h h' : AH) (wk : Int) : Prop := h' 200 10 = w32 (h 200 10 + wk) ∧ ∀ a s, ¬ (a = 200 ∧ s = 10) → ¬ (a = 269 ∧ h 200 9 ≤ s) → h' a s = h a s
/-- what the functional argument does with act nodes of a depth -/
def CWX (F : Int → Int → Int → AH → Option (Int × AH)) (k : Int) : Prop := ∀ (T d b : Int) (h : AH) (E : EV) (Rf : Int → TR) (W : Int → Int → Int → VW) (f : Int → Int → Int → Int) (N w wv np : Int) (kp p hl : Int → Int) (R : TR), preE h E Rf W f T N w wv b np kp p hl R d → dpE E.1.2.2.2.1 R ≤ k → ((inf R).1 = 2 ∨ (inf R).1 = 4) → OK (F T d b h) (fun r => jt2 r fun v h' => v = (evT W f p hl R).1 ∧ posE h h' (evT W f p hl R).2)
theorem posE_0 (h : AH) (b : -2147483648 ≤ h 200 10 ∧ h 200 10 < 2147483648) : posE h h 0 := ⟨by rw [w32_id] <;> omega, fun _ _ _ _ => rfl⟩
theorem evT_0 {W : Int → Int → Int → VW} {f : Int → Int → Int → Int} {p hl : Int → Int} {R : TR} (h : (inf R).1 = 0) : evT W f p hl R = (p (inf R).2.1, 0) := if_pos h
theorem evT_1 {W : Int → Int → Int → VW} {f : Int → Int → Int → Int} {p hl : Int → Int} {R : TR} (h : (inf R).1 = 1) : evT W f p hl R = ((inf R).2.1, 0) := by unfold evT evN; rw [if_neg (by omega), if_pos h]
theorem evT_3 {W : Int → Int → Int → VW} {f : Int → Int → Int → Int} {p hl : Int → Int} {R : TR} (h : (inf R).1 = 3) : evT W f p hl R = (hl (inf R).2.1, 0) := by unfold evT evN; rw [if_neg (by omega), if_neg (by omega), if_pos h]
theorem posE_z {h : AH} {W : Int → Int → Int → VW} {f : Int → Int → Int → Int} {p hl : Int → Int} {R : TR} {v : Int} (b : -2147483648 ≤ h 200 10 ∧ h 200 10 < 2147483648) (e : evT W f p hl R = (v, 0)) : posE h h (evT W f p hl R).2 := by rw [e]; exact posE_0 h b
theorem vX1_work_j85 {F : Int → Int → Int → AH → Option (Int × AH)} (a1 : Int) (a2 : Int) (a3 : Int) {h : AH} {E : EV} {Rf : Int → TR} {W : Int → Int → Int → VW} {f : Int → Int → Int → Int} {N w wv np k : Int} {kp p hl : Int → Int} {R : TR} (hF : CWX F k) (q : preE h E Rf W f a1 N w wv a3 np kp p hl R a2) (dk : dpE E.1.2.2.2.1 R ≤ k) (s : (inf R).1 = 2 ∨ (inf R).1 = 4) : OK (gX1_work_j85 F a1 a2 a3 h) (fun r => jt2 r fun v h' => (v = (evT W f p hl R).1) ∧ (posE h h' (evT W f p hl R).2)) := by
  unfold gX1_work_j85
  refine OK_jb2 (hF _ _ _ _ E Rf W f N w wv np kp p hl R (by (first | assumption | omega | ((try dsimp only [jt2, jt3, jt4]); first | omega | (simp (disch := omega) only [jst_eq, jst_ne, jst_ni, jst_o, jI_i, jcpy_out, w32_id, jdiv_nn, jshr_k, jand_255] <;> first | done | omega | assumption)) | (intros; simp (disch := omega) only [jst_eq, jst_ne, jst_ni, jst_o, jI_i, jcpy_out, w32_id, jdiv_nn, *] <;> first | done | omega) | (intros; simp (disch := omega) only [jst_eq, jst_ne, jst_ni, jst_o, jI_i, jcpy_out, w32_id, jdiv_nn] at * <;> first | done | omega | assumption) | (intros; first | rfl | (exfalso; omega) | ((repeat' apply And.intro) <;> first | assumption | rfl | omega | trivial)))) (by (first | assumption | omega | ((try dsimp only [jt2, jt3, jt4]); first | omega | (simp (disch := omega) only [jst_eq, jst_ne, jst_ni, jst_o, jI_i, jcpy_out, w32_id, jdiv_nn, jshr_k, jand_255] <;> first | done | omega | assumption)) | (intros; simp (disch := omega) only [jst_eq, jst_ne, jst_ni, jst_o, jI_i, jcpy_out, w32_id, jdiv_nn, *] <;> first | done | omega) | (intros; simp (disch := omega) only [jst_eq, jst_ne, jst_ni, jst_o, jI_i, jcpy_out, w32_id, jdiv_nn] at * <;> first | done | omega | assumption) | (intros; first | rfl | (exfalso; omega) | ((repeat' apply And.intro) <;> first | assumption | rfl | omega | trivial)))) (by (first | assumption | omega | ((try dsimp only [jt2, jt3, jt4]); first | omega | (simp (disch := omega) only [jst_eq, jst_ne, jst_ni, jst_o, jI_i, jcpy_out, w32_id, jdiv_nn, jshr_k, jand_255] <;> first | done | omega | assumption)) | (intros; simp (disch := omega) only [jst_eq, jst_ne, jst_ni, jst_o, jI_i, jcpy_out, w32_id, jdiv_nn, *] <;> first | done | omega) | (intros; simp (disch := omega) only [jst_eq, jst_ne, jst_ni, jst_o, jI_i, jcpy_out, w32_id, jdiv_nn] at * <;> first | done | omega | assumption) | (intros; first | rfl | (exfalso; omega) | ((repeat' apply And.intro) <;> first | assumption | rfl | omega | trivial))))) (fun v9 h10 r1 => ?_)
  try dsimp only [Sum.elim_inl, Sum.elim_inr, jt2, jt3, jt4, jt5, jt6, jt7, jt8] at r1
  obtain ⟨ev1, pe1⟩ := r1
  try simp (disch := omega) only [jst_eq, jst_ne, jst_ni, jI_i, jcmp_lt, jcmp_gt, w32_id, jcpy_out, Sum.elim_inl, Sum.elim_inr, jt2, jt3, jt4, jt5, jt6, jt7, jt8] at ev1
  try simp (disch := omega) only [jst_eq, jst_ne, jst_ni, jI_i, jcmp_lt, jcmp_gt, w32_id, jcpy_out, Sum.elim_inl, Sum.elim_inr, jt2, jt3, jt4, jt5, jt6, jt7, jt8] at pe1
  refine OK_some ?_
  try dsimp only [Sum.elim_inl, Sum.elim_inr, jt2, jt3, jt4, jt5, jt6, jt7, jt8]
  try dsimp only [Sum.elim_inl, Sum.elim_inr, jt2, jt3, jt4, jt5, jt6, jt7, jt8]
  refine ⟨?_, ?_⟩
  · (first | assumption | omega | ((try dsimp only [jt2, jt3, jt4]); first | omega | (simp (disch := omega) only [jst_eq, jst_ne, jst_ni, jst_o, jI_i, jcpy_out, w32_id, jdiv_nn, jshr_k, jand_255] <;> first | done | omega | assumption)) | (intros; simp (disch := omega) only [jst_eq, jst_ne, jst_ni, jst_o, jI_i, jcpy_out, w32_id, jdiv_nn, *] <;> first | done | omega) | (intros; simp (disch := omega) only [jst_eq, jst_ne, jst_ni, jst_o, jI_i, jcpy_out, w32_id, jdiv_nn] at * <;> first | done | omega | assumption) | (intros; first | rfl | (exfalso; omega) | ((repeat' apply And.intro) <;> first | assumption | rfl | omega | trivial))) -- o4 e1.1
  · (first | assumption | omega | ((try dsimp only [jt2, jt3, jt4]); first | omega | (simp (disch := omega) only [jst_eq, jst_ne, jst_ni, jst_o, jI_i, jcpy_out, w32_id, jdiv_nn, jshr_k, jand_255] <;> first | done | omega | assumption)) | (intros; simp (disch := omega) only [jst_eq, jst_ne, jst_ni, jst_o, jI_i, jcpy_out, w32_id, jdiv_nn, *] <;> first | done | omega) | (intros; simp (disch := omega) only [jst_eq, jst_ne, jst_ni, jst_o, jI_i, jcpy_out, w32_id, jdiv_nn] at * <;> first | done | omega | assumption) | (intros; first | rfl | (exfalso; omega) | ((repeat' apply And.intro) <;> first | assumption | rfl | omega | trivial))) -- o5 e1.2
theorem vX1_work_j17 {F : Int → Int → Int → AH → Option (Int × AH)} (a1 : Int) (a2 : Int) (a3 : Int) {h : AH} {E : EV} {Rf : Int → TR} {W : Int → Int → Int → VW} {f : Int → Int → Int → Int} {N w wv np k : Int} {kp p hl : Int → Int} {R : TR} (hF : CWX F k) (q : preE h E Rf W f a1 N w wv a3 np kp p hl R a2) (dk : dpE E.1.2.2.2.1 R ≤ k) (nw : a2 ≠ w) : OK (gX1_work_j17 F a1 a2 a3 h) (fun r => jt2 r fun v h' => (v = (evT W f p hl R).1) ∧ (posE h h' (evT W f p hl R).2)) := by
  have nd := vwX_nd q.2.2.1
  have cp := q.2.1
  have i3 : isX3 a1 := cp.1
  have cN := cp.2
  have cN1 : h (a1 + 1) (-1) = N := cN.1
  have cN2 : h (a1 + 2) (-1) = N := cN.2.1
  have n2 := nd.2.2.resolve_left (fun y => nw y.1)
  have n1 := n2.2.1
  have n3 := n2.2.2
  have n4 := nd.1
  have n5 := nd.2.1
  have ty := tyT_nd q.2.2.2.1
  have b10 := q.2.2.2.2.2.2.2.2.2.2.2.2
  have hp := q.2.2.2.2.2.2.2.2.2.2.1
  have hh := q.2.2.2.2.2.2.2.2.2.2.2.1
  have hb := q.2.2.2.2.2.2.1
  have hb2 := q.2.2.2.2.2.2.2.1
  have hb3 := q.2.2.2.2.2.2.2.2.1
  have d0 := dpE_0 q.1.2.2.2.2.2.2.2 R
  have s14 : 0 ≤ (inf R).1 ∧ (inf R).1 ≤ 4 := by { rcases ty.2.2 with y | y | y | y | y <;> omega }
  unfold gX1_work_j17
  refine OK_jg (by (first | assumption | omega | ((try dsimp only [jt2, jt3, jt4]); first | omega | (simp (disch := omega) only [jst_eq, jst_ne, jst_ni, jst_o, jI_i, jcpy_out, w32_id, jdiv_nn, jshr_k, jand_255] <;> first | done | omega | assumption)) | (intros; simp (disch := omega) only [jst_eq, jst_ne, jst_ni, jst_o, jI_i, jcpy_out, w32_id, jdiv_nn, *] <;> first | done | omega) | (intros; simp (disch := omega) only [jst_eq, jst_ne, jst_ni, jst_o, jI_i, jcpy_out, w32_id, jdiv_nn] at * <;> first | done | omega | assumption) | (intros; first | rfl | (exfalso; omega) | ((repeat' apply And.intro) <;> first | assumption | rfl | omega | trivial)))) ?_ -- o1
  refine OK_jg (by (first | assumption | omega | ((try dsimp only [jt2, jt3, jt4]); first | omega | (simp (disch := omega) only [jst_eq, jst_ne, jst_ni, jst_o, jI_i, jcpy_out, w32_id, jdiv_nn, jshr_k, jand_255] <;> first | done | omega | assumption)) | (intros; simp (disch := omega) only [jst_eq, jst_ne, jst_ni, jst_o, jI_i, jcpy_out, w32_id, jdiv_nn, *] <;> first | done | omega) | (intros; simp (disch := omega) only [jst_eq, jst_ne, jst_ni, jst_o, jI_i, jcpy_out, w32_id, jdiv_nn] at * <;> first | done | omega | assumption) | (intros; first | rfl | (exfalso; omega) | ((repeat' apply And.intro) <;> first | assumption | rfl | omega | trivial)))) ?_ -- o2
  refine OK_if (fun c1 => ?_) (fun c1 => ?_)
  · skip
    try simp (disch := omega) only [jst_eq, jst_ne, jst_ni, jI_i, jcmp_lt, jcmp_gt, w32_id, jcpy_out, Sum.elim_inl, Sum.elim_inr, jt2, jt3, jt4, jt5, jt6, jt7, jt8] at c1
    refine OK_mono (vX1_work_j85 (E := E) (Rf := Rf) (W := W) (f := f) (N := N) (w := w) (wv := wv) (np := np) (k := k) (kp := kp) (p := p) (hl := hl) (R := R) _ _ _ (by (first | assumption | omega | ((try dsimp only [jt2, jt3, jt4]); first | omega | (simp (disch := omega) only [jst_eq, jst_ne, jst_ni, jst_o, jI_i, jcpy_out, w32_id, jdiv_nn, jshr_k, jand_255] <;> first | done | omega | assumption)) | (intros; simp (disch := omega) only [jst_eq, jst_ne, jst_ni, jst_o, jI_i, jcpy_out, w32_id, jdiv_nn, *] <;> first | done | omega) | (intros; simp (disch := omega) only [jst_eq, jst_ne, jst_ni, jst_o, jI_i, jcpy_out, w32_id, jdiv_nn] at * <;> first | done | omega | assumption) | (intros; first | rfl | (exfalso; omega) | ((repeat' apply And.intro) <;> first | assumption | rfl | omega | trivial)))) (by (first | assumption | omega | ((try dsimp only [jt2, jt3, jt4]); first | omega | (simp (disch := omega) only [jst_eq, jst_ne, jst_ni, jst_o, jI_i, jcpy_out, w32_id, jdiv_nn, jshr_k, jand_255] <;> first | done | omega | assumption)) | (intros; simp (disch := omega) only [jst_eq, jst_ne, jst_ni, jst_o, jI_i, jcpy_out, w32_id, jdiv_nn, *] <;> first | done | omega) | (intros; simp (disch := omega) only [jst_eq, jst_ne, jst_ni, jst_o, jI_i, jcpy_out, w32_id, jdiv_nn] at * <;> first | done | omega | assumption) | (intros; first | rfl | (exfalso; omega) | ((repeat' apply And.intro) <;> first | assumption | rfl | omega | trivial)))) (by (first | assumption | omega | ((try dsimp only [jt2, jt3, jt4]); first | omega | (simp (disch := omega) only [jst_eq, jst_ne, jst_ni, jst_o, jI_i, jcpy_out, w32_id, jdiv_nn, jshr_k, jand_255] <;> first | done | omega | assumption)) | (intros; simp (disch := omega) only [jst_eq, jst_ne, jst_ni, jst_o, jI_i, jcpy_out, w32_id, jdiv_nn, *] <;> first | done | omega) | (intros; simp (disch := omega) only [jst_eq, jst_ne, jst_ni, jst_o, jI_i, jcpy_out, w32_id, jdiv_nn] at * <;> first | done | omega | assumption) | (intros; first | rfl | (exfalso; omega) | ((repeat' apply And.intro) <;> first | assumption | rfl | omega | trivial)))) (by omega)) (fun r r1 => ?_)
    obtain ⟨y1, y2⟩ := r
    try dsimp only [Sum.elim_inl, Sum.elim_inr, jt2, jt3, jt4, jt5, jt6, jt7, jt8] at r1
    obtain ⟨ev1, pe1⟩ := r1
    try simp (disch := omega) only [jst_eq, jst_ne, jst_ni, jI_i, jcmp_lt, jcmp_gt, w32_id, jcpy_out, Sum.elim_inl, Sum.elim_inr, jt2, jt3, jt4, jt5, jt6, jt7, jt8] at ev1
    try simp (disch := omega) only [jst_eq, jst_ne, jst_ni, jI_i, jcmp_lt, jcmp_gt, w32_id, jcpy_out, Sum.elim_inl, Sum.elim_inr, jt2, jt3, jt4, jt5, jt6, jt7, jt8] at pe1
    try dsimp only [Sum.elim_inl, Sum.elim_inr, jt2, jt3, jt4, jt5, jt6, jt7, jt8]
    try dsimp only [Sum.elim_inl, Sum.elim_inr, jt2, jt3, jt4, jt5, jt6, jt7, jt8]
    refine ⟨?_, ?_⟩
    · (first | assumption | omega | ((try dsimp only [jt2, jt3, jt4]); first | omega | (simp (disch := omega) only [jst_eq, jst_ne, jst_ni, jst_o, jI_i, jcpy_out, w32_id, jdiv_nn, jshr_k, jand_255] <;> first | done | omega | assumption)) | (intros; simp (disch := omega) only [jst_eq, jst_ne, jst_ni, jst_o, jI_i, jcpy_out, w32_id, jdiv_nn, *] <;> first | done | omega) | (intros; simp (disch := omega) only [jst_eq, jst_ne, jst_ni, jst_o, jI_i, jcpy_out, w32_id, jdiv_nn] at * <;> first | done | omega | assumption) | (intros; first | rfl | (exfalso; omega) | ((repeat' apply And.intro) <;> first | assumption | rfl | omega | trivial))) -- o7 e1.1
    · (first | assumption | omega | ((try dsimp only [jt2, jt3, jt4]); first | omega | (simp (disch := omega) only [jst_eq, jst_ne, jst_ni, jst_o, jI_i, jcpy_out, w32_id, jdiv_nn, jshr_k, jand_255] <;> first | done | omega | assumption)) | (intros; simp (disch := omega) only [jst_eq, jst_ne, jst_ni, jst_o, jI_i, jcpy_out, w32_id, jdiv_nn, *] <;> first | done | omega) | (intros; simp (disch := omega) only [jst_eq, jst_ne, jst_ni, jst_o, jI_i, jcpy_out, w32_id, jdiv_nn] at * <;> first | done | omega | assumption) | (intros; first | rfl | (exfalso; omega) | ((repeat' apply And.intro) <;> first | assumption | rfl | omega | trivial))) -- o8 e1.2
  · skip
    try simp (disch := omega) only [jst_eq, jst_ne, jst_ni, jI_i, jcmp_lt, jcmp_gt, w32_id, jcpy_out, Sum.elim_inl, Sum.elim_inr, jt2, jt3, jt4, jt5, jt6, jt7, jt8] at c1
    refine OK_if (fun c2 => ?_) (fun c2 => ?_)
    · skip
      try simp (disch := omega) only [jst_eq, jst_ne, jst_ni, jI_i, jcmp_lt, jcmp_gt, w32_id, jcpy_out, Sum.elim_inl, Sum.elim_inr, jt2, jt3, jt4, jt5, jt6, jt7, jt8] at c2
      have t0 : 0 ≤ (inf R).2.1 ∧ (inf R).2.1 < np := by { rcases ty.2.2 with y | y | y | y | y <;> omega }
      have pc := hp _ t0.1 t0.2
      have i0 : (inf R).1 = 0 := by omega
      refine OK_jg (by (first | assumption | omega | ((try dsimp only [jt2, jt3, jt4]); first | omega | (simp (disch := omega) only [jst_eq, jst_ne, jst_ni, jst_o, jI_i, jcpy_out, w32_id, jdiv_nn, jshr_k, jand_255] <;> first | done | omega | assumption)) | (intros; simp (disch := omega) only [jst_eq, jst_ne, jst_ni, jst_o, jI_i, jcpy_out, w32_id, jdiv_nn, *] <;> first | done | omega) | (intros; simp (disch := omega) only [jst_eq, jst_ne, jst_ni, jst_o, jI_i, jcpy_out, w32_id, jdiv_nn] at * <;> first | done | omega | assumption) | (intros; first | rfl | (exfalso; omega) | ((repeat' apply And.intro) <;> first | assumption | rfl | omega | trivial)))) ?_ -- o9
      refine OK_jg (by (first | assumption | omega | ((try dsimp only [jt2, jt3, jt4]); first | omega | (simp (disch := omega) only [jst_eq, jst_ne, jst_ni, jst_o, jI_i, jcpy_out, w32_id, jdiv_nn, jshr_k, jand_255] <;> first | done | omega | assumption)) | (intros; simp (disch := omega) only [jst_eq, jst_ne, jst_ni, jst_o, jI_i, jcpy_out, w32_id, jdiv_nn, *] <;> first | done | omega) | (intros; simp (disch := omega) only [jst_eq, jst_ne, jst_ni, jst_o, jI_i, jcpy_out, w32_id, jdiv_nn] at * <;> first | done | omega | assumption) | (intros; first | rfl | (exfalso; omega) | ((repeat' apply And.intro) <;> first | assumption | rfl | omega | trivial)))) ?_ -- o10
      refine OK_some ?_
      try dsimp only [Sum.elim_inl, Sum.elim_inr, jt2, jt3, jt4, jt5, jt6, jt7, jt8]
      try dsimp only [Sum.elim_inl, Sum.elim_inr, jt2, jt3, jt4, jt5, jt6, jt7, jt8]
      refine ⟨?_, ?_⟩
      · (rw [evT_0 i0, n3, w32_id (by omega) (by omega)]; exact pc.1) -- o11 e2.1
      · exact posE_z b10 (evT_0 i0) -- o12 e2.2
    · skip
      try simp (disch := omega) only [jst_eq, jst_ne, jst_ni, jI_i, jcmp_lt, jcmp_gt, w32_id, jcpy_out, Sum.elim_inl, Sum.elim_inr, jt2, jt3, jt4, jt5, jt6, jt7, jt8] at c2
      refine OK_if (fun c3 => ?_) (fun c3 => ?_)
      · skip
        try simp (disch := omega) only [jst_eq, jst_ne, jst_ni, jI_i, jcmp_lt, jcmp_gt, w32_id, jcpy_out, Sum.elim_inl, Sum.elim_inr, jt2, jt3, jt4, jt5, jt6, jt7, jt8] at c3
        have i1 : (inf R).1 = 1 := by omega
        refine OK_jg (by (first | assumption | omega | ((try dsimp only [jt2, jt3, jt4]); first | omega | (simp (disch := omega) only [jst_eq, jst_ne, jst_ni, jst_o, jI_i, jcpy_out, w32_id, jdiv_nn, jshr_k, jand_255] <;> first | done | omega | assumption)) | (intros; simp (disch := omega) only [jst_eq, jst_ne, jst_ni, jst_o, jI_i, jcpy_out, w32_id, jdiv_nn, *] <;> first | done | omega) | (intros; simp (disch := omega) only [jst_eq, jst_ne, jst_ni, jst_o, jI_i, jcpy_out, w32_id, jdiv_nn] at * <;> first | done | omega | assumption) | (intros; first | rfl | (exfalso; omega) | ((repeat' apply And.intro) <;> first | assumption | rfl | omega | trivial)))) ?_ -- o13
        refine OK_some ?_
        try dsimp only [Sum.elim_inl, Sum.elim_inr, jt2, jt3, jt4, jt5, jt6, jt7, jt8]
        try dsimp only [Sum.elim_inl, Sum.elim_inr, jt2, jt3, jt4, jt5, jt6, jt7, jt8]
        refine ⟨?_, ?_⟩
        · (rw [evT_1 i1]; exact n3) -- o14 e3.1
        · exact posE_z b10 (evT_1 i1) -- o15 e3.2
      · skip
        try simp (disch := omega) only [jst_eq, jst_ne, jst_ni, jI_i, jcmp_lt, jcmp_gt, w32_id, jcpy_out, Sum.elim_inl, Sum.elim_inr, jt2, jt3, jt4, jt5, jt6, jt7, jt8] at c3
        refine OK_if (fun c4 => ?_) (fun c4 => ?_)
        · skip
          try simp (disch := omega) only [jst_eq, jst_ne, jst_ni, jI_i, jcmp_lt, jcmp_gt, w32_id, jcpy_out, Sum.elim_inl, Sum.elim_inr, jt2, jt3, jt4, jt5, jt6, jt7, jt8] at c4
          refine OK_mono (vX1_work_j85 (E := E) (Rf := Rf) (W := W) (f := f) (N := N) (w := w) (wv := wv) (np := np) (k := k) (kp := kp) (p := p) (hl := hl) (R := R) _ _ _ (by (first | assumption | omega | ((try dsimp only [jt2, jt3, jt4]); first | omega | (simp (disch := omega) only [jst_eq, jst_ne, jst_ni, jst_o, jI_i, jcpy_out, w32_id, jdiv_nn, jshr_k, jand_255] <;> first | done | omega | assumption)) | (intros; simp (disch := omega) only [jst_eq, jst_ne, jst_ni, jst_o, jI_i, jcpy_out, w32_id, jdiv_nn, *] <;> first | done | omega) | (intros; simp (disch := omega) only [jst_eq, jst_ne, jst_ni, jst_o, jI_i, jcpy_out, w32_id, jdiv_nn] at * <;> first | done | omega | assumption) | (intros; first | rfl | (exfalso; omega) | ((repeat' apply And.intro) <;> first | assumption | rfl | omega | trivial)))) (by (first | assumption | omega | ((try dsimp only [jt2, jt3, jt4]); first | omega | (simp (disch := omega) only [jst_eq, jst_ne, jst_ni, jst_o, jI_i, jcpy_out, w32_id, jdiv_nn, jshr_k, jand_255] <;> first | done | omega | assumption)) | (intros; simp (disch := omega) only [jst_eq, jst_ne, jst_ni, jst_o, jI_i, jcpy_out, w32_id, jdiv_nn, *] <;> first | done | omega) | (intros; simp (disch := omega) only [jst_eq, jst_ne, jst_ni, jst_o, jI_i, jcpy_out, w32_id, jdiv_nn] at * <;> first | done | omega | assumption) | (intros; first | rfl | (exfalso; omega) | ((repeat' apply And.intro) <;> first | assumption | rfl | omega | trivial)))) (by (first | assumption | omega | ((try dsimp only [jt2, jt3, jt4]); first | omega | (simp (disch := omega) only [jst_eq, jst_ne, jst_ni, jst_o, jI_i, jcpy_out, w32_id, jdiv_nn, jshr_k, jand_255] <;> first | done | omega | assumption)) | (intros; simp (disch := omega) only [jst_eq, jst_ne, jst_ni, jst_o, jI_i, jcpy_out, w32_id, jdiv_nn, *] <;> first | done | omega) | (intros; simp (disch := omega) only [jst_eq, jst_ne, jst_ni, jst_o, jI_i, jcpy_out, w32_id, jdiv_nn] at * <;> first | done | omega | assumption) | (intros; first | rfl | (exfalso; omega) | ((repeat' apply And.intro) <;> first | assumption | rfl | omega | trivial)))) (by omega)) (fun r r2 => ?_)
          obtain ⟨y3, y4⟩ := r
          try dsimp only [Sum.elim_inl, Sum.elim_inr, jt2, jt3, jt4, jt5, jt6, jt7, jt8] at r2
          obtain ⟨ev2, pe2⟩ := r2
          try simp (disch := omega) only [jst_eq, jst_ne, jst_ni, jI_i, jcmp_lt, jcmp_gt, w32_id, jcpy_out, Sum.elim_inl, Sum.elim_inr, jt2, jt3, jt4, jt5, jt6, jt7, jt8] at ev2
          try simp (disch := omega) only [jst_eq, jst_ne, jst_ni, jI_i, jcmp_lt, jcmp_gt, w32_id, jcpy_out, Sum.elim_inl, Sum.elim_inr, jt2, jt3, jt4, jt5, jt6, jt7, jt8] at pe2
          try dsimp only [Sum.elim_inl, Sum.elim_inr, jt2, jt3, jt4, jt5, jt6, jt7, jt8]
          try dsimp only [Sum.elim_inl, Sum.elim_inr, jt2, jt3, jt4, jt5, jt6, jt7, jt8]
          refine ⟨?_, ?_⟩
          · (first | assumption | omega | ((try dsimp only [jt2, jt3, jt4]); first | omega | (simp (disch := omega) only [jst_eq, jst_ne, jst_ni, jst_o, jI_i, jcpy_out, w32_id, jdiv_nn, jshr_k, jand_255] <;> first | done | omega | assumption)) | (intros; simp (disch := omega) only [jst_eq, jst_ne, jst_ni, jst_o, jI_i, jcpy_out, w32_id, jdiv_nn, *] <;> first | done | omega) | (intros; simp (disch := omega) only [jst_eq, jst_ne, jst_ni, jst_o, jI_i, jcpy_out, w32_id, jdiv_nn] at * <;> first | done | omega | assumption) | (intros; first | rfl | (exfalso; omega) | ((repeat' apply And.intro) <;> first | assumption | rfl | omega | trivial))) -- o20 e4.1
          · (first | assumption | omega | ((try dsimp only [jt2, jt3, jt4]); first | omega | (simp (disch := omega) only [jst_eq, jst_ne, jst_ni, jst_o, jI_i, jcpy_out, w32_id, jdiv_nn, jshr_k, jand_255] <;> first | done | omega | assumption)) | (intros; simp (disch := omega) only [jst_eq, jst_ne, jst_ni, jst_o, jI_i, jcpy_out, w32_id, jdiv_nn, *] <;> first | done | omega) | (intros; simp (disch := omega) only [jst_eq, jst_ne, jst_ni, jst_o, jI_i, jcpy_out, w32_id, jdiv_nn] at * <;> first | done | omega | assumption) | (intros; first | rfl | (exfalso; omega) | ((repeat' apply And.intro) <;> first | assumption | rfl | omega | trivial))) -- o21 e4.2
        · skip
          try simp (disch := omega) only [jst_eq, jst_ne, jst_ni, jI_i, jcmp_lt, jcmp_gt, w32_id, jcpy_out, Sum.elim_inl, Sum.elim_inr, jt2, jt3, jt4, jt5, jt6, jt7, jt8] at c4
          have i3' : (inf R).1 = 3 := by omega
          have t3 : 0 ≤ (inf R).2.1 ∧ (inf R).2.1 ≤ 2 := by { rcases ty.2.2 with y | y | y | y | y <;> omega }
          have hc := hh _ t3.1 t3.2
          refine OK_jg (by (first | assumption | omega | ((try dsimp only [jt2, jt3, jt4]); first | omega | (simp (disch := omega) only [jst_eq, jst_ne, jst_ni, jst_o, jI_i, jcpy_out, w32_id, jdiv_nn, jshr_k, jand_255] <;> first | done | omega | assumption)) | (intros; simp (disch := omega) only [jst_eq, jst_ne, jst_ni, jst_o, jI_i, jcpy_out, w32_id, jdiv_nn, *] <;> first | done | omega) | (intros; simp (disch := omega) only [jst_eq, jst_ne, jst_ni, jst_o, jI_i, jcpy_out, w32_id, jdiv_nn] at * <;> first | done | omega | assumption) | (intros; first | rfl | (exfalso; omega) | ((repeat' apply And.intro) <;> first | assumption | rfl | omega | trivial)))) ?_ -- o22
          refine OK_jg (by (first | assumption | omega | ((try dsimp only [jt2, jt3, jt4]); first | omega | (simp (disch := omega) only [jst_eq, jst_ne, jst_ni, jst_o, jI_i, jcpy_out, w32_id, jdiv_nn, jshr_k, jand_255] <;> first | done | omega | assumption)) | (intros; simp (disch := omega) only [jst_eq, jst_ne, jst_ni, jst_o, jI_i, jcpy_out, w32_id, jdiv_nn, *] <;> first | done | omega) | (intros; simp (disch := omega) only [jst_eq, jst_ne, jst_ni, jst_o, jI_i, jcpy_out, w32_id, jdiv_nn] at * <;> first | done | omega | assumption) | (intros; first | rfl | (exfalso; omega) | ((repeat' apply And.intro) <;> first | assumption | rfl | omega | trivial)))) ?_ -- o23
          refine OK_some ?_
          try dsimp only [Sum.elim_inl, Sum.elim_inr, jt2, jt3, jt4, jt5, jt6, jt7, jt8]
          try dsimp only [Sum.elim_inl, Sum.elim_inr, jt2, jt3, jt4, jt5, jt6, jt7, jt8]
          refine ⟨?_, ?_⟩
          · (rw [evT_3 i3', n3]; exact hc.1) -- o24 e5.1
          · exact posE_z b10 (evT_3 i3') -- o25 e5.2
theorem vX1_work_ {F : Int → Int → Int → AH → Option (Int × AH)} (a1 : Int) (a2 : Int) (a3 : Int) {h : AH} {E : EV} {Rf : Int → TR} {W : Int → Int → Int → VW} {f : Int → Int → Int → Int} {N w wv np k : Int} {kp p hl : Int → Int} {R : TR} (hF : CWX F k) (q : preE h E Rf W f a1 N w wv a3 np kp p hl R a2) (dk : dpE E.1.2.2.2.1 R ≤ k) : OK (gX1_work_ F a1 a2 a3 h) (fun r => jt2 r fun v h' => (v = (evT W f p hl R).1) ∧ (posE h h' (evT W f p hl R).2)) := by
  have nd := vwX_nd q.2.2.1
  have w11 := q.2.2.2.2.1
  have w12 := q.2.2.2.2.2.1
  have b10 := q.2.2.2.2.2.2.2.2.2.2.2.2
  have nd0 := nd.1
  unfold gX1_work_
  refine OK_if (fun c1 => ?_) (fun c1 => ?_)
  · skip
    try simp (disch := omega) only [jst_eq, jst_ne, jst_ni, jI_i, jcmp_lt, jcmp_gt, w32_id, jcpy_out, Sum.elim_inl, Sum.elim_inr, jt2, jt3, jt4, jt5, jt6, jt7, jt8] at c1
    refine OK_if (fun c2 => ?_) (fun c2 => ?_)
    · skip
      try simp (disch := omega) only [jst_eq, jst_ne, jst_ni, jI_i, jcmp_lt, jcmp_gt, w32_id, jcpy_out, Sum.elim_inl, Sum.elim_inr, jt2, jt3, jt4, jt5, jt6, jt7, jt8] at c2
      have n1 : (inf R).1 = 1 ∧ (inf R).2.1 = wv := by { rcases nd.2.2 with y | y; { exact ⟨y.2.2.1, y.2.2.2.1⟩ }; { exact absurd (c1.trans w11) y.1 } }
      refine OK_some ?_
      try dsimp only [Sum.elim_inl, Sum.elim_inr, jt2, jt3, jt4, jt5, jt6, jt7, jt8]
      try dsimp only [Sum.elim_inl, Sum.elim_inr, jt2, jt3, jt4, jt5, jt6, jt7, jt8]
      refine ⟨?_, ?_⟩
      · (rw [evT_1 n1.1, n1.2]; omega) -- o1 e1.1
      · exact posE_z b10 (evT_1 n1.1) -- o2 e1.2
    · skip
      try simp (disch := omega) only [jst_eq, jst_ne, jst_ni, jI_i, jcmp_lt, jcmp_gt, w32_id, jcpy_out, Sum.elim_inl, Sum.elim_inr, jt2, jt3, jt4, jt5, jt6, jt7, jt8] at c2
      have n0 : False := by omega
      refine OK_mono (vX1_work_j17 (E := E) (Rf := Rf) (W := W) (f := f) (N := N) (w := w) (wv := wv) (np := np) (k := k) (kp := kp) (p := p) (hl := hl) (R := R) _ _ _ (by (first | assumption | omega | ((try dsimp only [jt2, jt3, jt4]); first | omega | (simp (disch := omega) only [jst_eq, jst_ne, jst_ni, jst_o, jI_i, jcpy_out, w32_id, jdiv_nn, jshr_k, jand_255] <;> first | done | omega | assumption)) | (intros; simp (disch := omega) only [jst_eq, jst_ne, jst_ni, jst_o, jI_i, jcpy_out, w32_id, jdiv_nn, *] <;> first | done | omega) | (intros; simp (disch := omega) only [jst_eq, jst_ne, jst_ni, jst_o, jI_i, jcpy_out, w32_id, jdiv_nn] at * <;> first | done | omega | assumption) | (intros; first | rfl | (exfalso; omega) | ((repeat' apply And.intro) <;> first | assumption | rfl | omega | trivial)))) (by (first | assumption | omega | ((try dsimp only [jt2, jt3, jt4]); first | omega | (simp (disch := omega) only [jst_eq, jst_ne, jst_ni, jst_o, jI_i, jcpy_out, w32_id, jdiv_nn, jshr_k, jand_255] <;> first | done | omega | assumption)) | (intros; simp (disch := omega) only [jst_eq, jst_ne, jst_ni, jst_o, jI_i, jcpy_out, w32_id, jdiv_nn, *] <;> first | done | omega) | (intros; simp (disch := omega) only [jst_eq, jst_ne, jst_ni, jst_o, jI_i, jcpy_out, w32_id, jdiv_nn] at * <;> first | done | omega | assumption) | (intros; first | rfl | (exfalso; omega) | ((repeat' apply And.intro) <;> first | assumption | rfl | omega | trivial)))) (by (first | assumption | omega | ((try dsimp only [jt2, jt3, jt4]); first | omega | (simp (disch := omega) only [jst_eq, jst_ne, jst_ni, jst_o, jI_i, jcpy_out, w32_id, jdiv_nn, jshr_k, jand_255] <;> first | done | omega | assumption)) | (intros; simp (disch := omega) only [jst_eq, jst_ne, jst_ni, jst_o, jI_i, jcpy_out, w32_id, jdiv_nn, *] <;> first | done | omega) | (intros; simp (disch := omega) only [jst_eq, jst_ne, jst_ni, jst_o, jI_i, jcpy_out, w32_id, jdiv_nn] at * <;> first | done | omega | assumption) | (intros; first | rfl | (exfalso; omega) | ((repeat' apply And.intro) <;> first | assumption | rfl | omega | trivial)))) (by exact n0.elim)) (fun r r1 => ?_)
      obtain ⟨y1, y2⟩ := r
      try dsimp only [Sum.elim_inl, Sum.elim_inr, jt2, jt3, jt4, jt5, jt6, jt7, jt8] at r1
      obtain ⟨ev1, pe1⟩ := r1
      try simp (disch := omega) only [jst_eq, jst_ne, jst_ni, jI_i, jcmp_lt, jcmp_gt, w32_id, jcpy_out, Sum.elim_inl, Sum.elim_inr, jt2, jt3, jt4, jt5, jt6, jt7, jt8] at ev1
      try simp (disch := omega) only [jst_eq, jst_ne, jst_ni, jI_i, jcmp_lt, jcmp_gt, w32_id, jcpy_out, Sum.elim_inl, Sum.elim_inr, jt2, jt3, jt4, jt5, jt6, jt7, jt8] at pe1
      try dsimp only [Sum.elim_inl, Sum.elim_inr, jt2, jt3, jt4, jt5, jt6, jt7, jt8]
      try dsimp only [Sum.elim_inl, Sum.elim_inr, jt2, jt3, jt4, jt5, jt6, jt7, jt8]
      refine ⟨?_, ?_⟩
      · (first | assumption | omega | ((try dsimp only [jt2, jt3, jt4]); first | omega | (simp (disch := omega) only [jst_eq, jst_ne, jst_ni, jst_o, jI_i, jcpy_out, w32_id, jdiv_nn, jshr_k, jand_255] <;> first | done | omega | assumption)) | (intros; simp (disch := omega) only [jst_eq, jst_ne, jst_ni, jst_o, jI_i, jcpy_out, w32_id, jdiv_nn, *] <;> first | done | omega) | (intros; simp (disch := omega) only [jst_eq, jst_ne, jst_ni, jst_o, jI_i, jcpy_out, w32_id, jdiv_nn] at * <;> first | done | omega | assumption) | (intros; first | rfl | (exfalso; omega) | ((repeat' apply And.intro) <;> first | assumption | rfl | omega | trivial))) -- o7 e2.1
      · (first | assumption | omega | ((try dsimp only [jt2, jt3, jt4]); first | omega | (simp (disch := omega) only [jst_eq, jst_ne, jst_ni, jst_o, jI_i, jcpy_out, w32_id, jdiv_nn, jshr_k, jand_255] <;> first | done | omega | assumption)) | (intros; simp (disch := omega) only [jst_eq, jst_ne, jst_ni, jst_o, jI_i, jcpy_out, w32_id, jdiv_nn, *] <;> first | done | omega) | (intros; simp (disch := omega) only [jst_eq, jst_ne, jst_ni, jst_o, jI_i, jcpy_out, w32_id, jdiv_nn] at * <;> first | done | omega | assumption) | (intros; first | rfl | (exfalso; omega) | ((repeat' apply And.intro) <;> first | assumption | rfl | omega | trivial))) -- o8 e2.2
  · skip
    try simp (disch := omega) only [jst_eq, jst_ne, jst_ni, jI_i, jcmp_lt, jcmp_gt, w32_id, jcpy_out, Sum.elim_inl, Sum.elim_inr, jt2, jt3, jt4, jt5, jt6, jt7, jt8] at c1
    refine OK_mono (vX1_work_j17 (E := E) (Rf := Rf) (W := W) (f := f) (N := N) (w := w) (wv := wv) (np := np) (k := k) (kp := kp) (p := p) (hl := hl) (R := R) _ _ _ (by (first | assumption | omega | ((try dsimp only [jt2, jt3, jt4]); first | omega | (simp (disch := omega) only [jst_eq, jst_ne, jst_ni, jst_o, jI_i, jcpy_out, w32_id, jdiv_nn, jshr_k, jand_255] <;> first | done | omega | assumption)) | (intros; simp (disch := omega) only [jst_eq, jst_ne, jst_ni, jst_o, jI_i, jcpy_out, w32_id, jdiv_nn, *] <;> first | done | omega) | (intros; simp (disch := omega) only [jst_eq, jst_ne, jst_ni, jst_o, jI_i, jcpy_out, w32_id, jdiv_nn] at * <;> first | done | omega | assumption) | (intros; first | rfl | (exfalso; omega) | ((repeat' apply And.intro) <;> first | assumption | rfl | omega | trivial)))) (by (first | assumption | omega | ((try dsimp only [jt2, jt3, jt4]); first | omega | (simp (disch := omega) only [jst_eq, jst_ne, jst_ni, jst_o, jI_i, jcpy_out, w32_id, jdiv_nn, jshr_k, jand_255] <;> first | done | omega | assumption)) | (intros; simp (disch := omega) only [jst_eq, jst_ne, jst_ni, jst_o, jI_i, jcpy_out, w32_id, jdiv_nn, *] <;> first | done | omega) | (intros; simp (disch := omega) only [jst_eq, jst_ne, jst_ni, jst_o, jI_i, jcpy_out, w32_id, jdiv_nn] at * <;> first | done | omega | assumption) | (intros; first | rfl | (exfalso; omega) | ((repeat' apply And.intro) <;> first | assumption | rfl | omega | trivial)))) (by (first | assumption | omega | ((try dsimp only [jt2, jt3, jt4]); first | omega | (simp (disch := omega) only [jst_eq, jst_ne, jst_ni, jst_o, jI_i, jcpy_out, w32_id, jdiv_nn, jshr_k, jand_255] <;> first | done | omega | assumption)) | (intros; simp (disch := omega) only [jst_eq, jst_ne, jst_ni, jst_o, jI_i, jcpy_out, w32_id, jdiv_nn, *] <;> first | done | omega) | (intros; simp (disch := omega) only [jst_eq, jst_ne, jst_ni, jst_o, jI_i, jcpy_out, w32_id, jdiv_nn] at * <;> first | done | omega | assumption) | (intros; first | rfl | (exfalso; omega) | ((repeat' apply And.intro) <;> first | assumption | rfl | omega | trivial)))) (by omega)) (fun r r2 => ?_)
    obtain ⟨y3, y4⟩ := r
    try dsimp only [Sum.elim_inl, Sum.elim_inr, jt2, jt3, jt4, jt5, jt6, jt7, jt8] at r2
    obtain ⟨ev2, pe2⟩ := r2
    try simp (disch := omega) only [jst_eq, jst_ne, jst_ni, jI_i, jcmp_lt, jcmp_gt, w32_id, jcpy_out, Sum.elim_inl, Sum.elim_inr, jt2, jt3, jt4, jt5, jt6, jt7, jt8] at ev2
    try simp (disch := omega) only [jst_eq, jst_ne, jst_ni, jI_i, jcmp_lt, jcmp_gt, w32_id, jcpy_out, Sum.elim_inl, Sum.elim_inr, jt2, jt3, jt4, jt5, jt6, jt7, jt8] at pe2
    try dsimp only [Sum.elim_inl, Sum.elim_inr, jt2, jt3, jt4, jt5, jt6, jt7, jt8]
    try dsimp only [Sum.elim_inl, Sum.elim_inr, jt2, jt3, jt4, jt5, jt6, jt7, jt8]
    refine ⟨?_, ?_⟩
    · (first | assumption | omega | ((try dsimp only [jt2, jt3, jt4]); first | omega | (simp (disch := omega) only [jst_eq, jst_ne, jst_ni, jst_o, jI_i, jcpy_out, w32_id, jdiv_nn, jshr_k, jand_255] <;> first | done | omega | assumption)) | (intros; simp (disch := omega) only [jst_eq, jst_ne, jst_ni, jst_o, jI_i, jcpy_out, w32_id, jdiv_nn, *] <;> first | done | omega) | (intros; simp (disch := omega) only [jst_eq, jst_ne, jst_ni, jst_o, jI_i, jcpy_out, w32_id, jdiv_nn] at * <;> first | done | omega | assumption) | (intros; first | rfl | (exfalso; omega) | ((repeat' apply And.intro) <;> first | assumption | rfl | omega | trivial))) -- o13 e3.1
    · (first | assumption | omega | ((try dsimp only [jt2, jt3, jt4]); first | omega | (simp (disch := omega) only [jst_eq, jst_ne, jst_ni, jst_o, jI_i, jcpy_out, w32_id, jdiv_nn, jshr_k, jand_255] <;> first | done | omega | assumption)) | (intros; simp (disch := omega) only [jst_eq, jst_ne, jst_ni, jst_o, jI_i, jcpy_out, w32_id, jdiv_nn, *] <;> first | done | omega) | (intros; simp (disch := omega) only [jst_eq, jst_ne, jst_ni, jst_o, jI_i, jcpy_out, w32_id, jdiv_nn] at * <;> first | done | omega | assumption) | (intros; first | rfl | (exfalso; omega) | ((repeat' apply And.intro) <;> first | assumption | rfl | omega | trivial))) -- o14 e3.2

