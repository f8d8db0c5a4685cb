/-! x: a term's act, whole -/
theorem preG_fr {h h' : AH} {E : EV} {Rf : Int → TR} {W : Int → Int → Int → VW} {f : Int → Int → Int → Int} {T N w wv b np d hi : Int} {kp p hl : Int → Int} {R : TR} (q : preG h E Rf W f T N w wv b np kp p hl R d hi) (fr : ∀ a s, ¬ (a = 200 ∧ (s = 9 ∨ s = 10)) → ¬ (a = 269 ∧ hi ≤ s) → h' a s = h a s) (b10 : -2147483648 ≤ h' 200 10 ∧ h' 200 10 < 2147483648) : preG h' E Rf W f T N w wv b np kp p hl R d hi := by
  obtain ⟨q1, q2, q3, q4, q5, q6, q7, q8, q9, q10, q11, q12, q13⟩ := q
  have t3 := isX3_p q2.1
  have t4 := isX3_r q2.1
  refine ⟨enuX_fr q1 (fun a s y1 y2 => fr a s (by omega) (by omega)), capX_fr q2 (fun a a0 a1 => fr _ _ (by omega) (by omega)), vwX_fr (fun a s y => fr _ _ (by omega) (by omega)) q3, q4, by rw [fr _ _ (by omega) (by omega)]; exact q5, by rw [fr _ _ (by omega) (by omega)]; exact q6, q7, q8, q9, q10, fun c c0 c1 => ?_, fun c c0 c1 => ?_, b10⟩
  · rw [fr _ _ (by omega) (by omega)]; exact q11 c c0 c1
  · rw [fr _ _ (by omega) (by omega)]; exact q12 c c0 c1
theorem sw_3 {W : Int → Int → Int → VW} {f : Int → Int → Int → Int} {p hl : Int → Int} {R : TR} (h : nk R ≤ 3) : sw (evK W f p hl R) (nk R).toNat = (gv (evK W f p hl R) 0).2 + (gv (evK W f p hl R) 1).2 + (gv (evK W f p hl R) 2).2 := by
  have n0 := nk_0 R
  have z : ∀ k : Nat, nk R ≤ (k : Int) → (gv (evK W f p hl R) k).2 = 0 := fun k l => by rw [gv_no R k l]
  have s0 : sw (evK W f p hl R) 0 = 0 := rfl
  have s1 : sw (evK W f p hl R) 1 = sw (evK W f p hl R) 0 + (gv (evK W f p hl R) 0).2 := rfl
  have s2 : sw (evK W f p hl R) 2 = sw (evK W f p hl R) 1 + (gv (evK W f p hl R) 1).2 := rfl
  have s3 : sw (evK W f p hl R) 3 = sw (evK W f p hl R) 2 + (gv (evK W f p hl R) 2).2 := rfl
  have z0 := z 0
  have z1 := z 1
  have z2 := z 2
  rcases (show nk R = 0 ∨ nk R = 1 ∨ nk R = 2 ∨ nk R = 3 by omega) with e | e | e | e
  · have y0 := z0 (by omega); have y1 := z1 (by omega); have y2 := z2 (by omega); rw [e]; show sw (evK W f p hl R) 0 = _; omega
  · have y1 := z1 (by omega); have y2 := z2 (by omega); rw [e]; show sw (evK W f p hl R) 1 = _; omega
  · have y2 := z2 (by omega); rw [e]; show sw (evK W f p hl R) 2 = _; omega
  · rw [e]; show sw (evK W f p hl R) 3 = _; omega
theorem evT_S {W : Int → Int → Int → VW} {f : Int → Int → Int → Int} {p hl : Int → Int} {R : TR} (h : ((inf R).1 = 2 ∧ (inf R).2.1 ≠ 15 ∧ (inf R).2.1 ≠ 16) ∨ (inf R).1 = 4) : evT W f p hl R = evS W f (inf R) (gv (evK W f p hl R) 0) (gv (evK W f p hl R) 1) (gv (evK W f p hl R) 2) := by
  unfold evT evN
  rw [if_neg (by omega), if_neg (by omega), if_neg (by omega), if_neg (by omega)]
theorem evT_bad {W : Int → Int → Int → VW} {f : Int → Int → Int → Int} {p hl : Int → Int} {R : TR} (h : ((inf R).1 = 2 ∧ (inf R).2.1 ≠ 15 ∧ (inf R).2.1 ≠ 16) ∨ (inf R).1 = 4) (n : nk R ≤ 3) (b : ∃ m : Nat, (m : Int) < nk R ∧ (gv (evK W f p hl R) m).1 = -1) : evT W f p hl R = (-1, sw (evK W f p hl R) (nk R).toNat + 1) := by
  rw [evT_S h, sw_3 n]
  unfold evS
  rw [if_pos]
  obtain ⟨m, m1, m2⟩ := b
  rcases (show m = 0 ∨ m = 1 ∨ m = 2 by omega) with rfl | rfl | rfl
  · exact Or.inl m2
  · exact Or.inr (Or.inl m2)
  · exact Or.inr (Or.inr m2)
theorem gv_ne {W : Int → Int → Int → VW} {f : Int → Int → Int → Int} {p hl : Int → Int} {R : TR} (g : ∀ m : Nat, (m : Int) < nk R → (gv (evK W f p hl R) m).1 ≠ -1) (m : Nat) : (gv (evK W f p hl R) m).1 ≠ -1 := by
  rcases gv3 (W := W) (f := f) (p := p) (hl := hl) R m with q | q
  · exact g m q
  · rw [q]; show (0 : Int) ≠ -1; decide
theorem evT_act {W : Int → Int → Int → VW} {f : Int → Int → Int → Int} {p hl : Int → Int} {R : TR} (h : (inf R).1 = 2 ∧ (inf R).2.1 ≠ 15 ∧ (inf R).2.1 ≠ 16) (n : nk R ≤ 3) (g : ∀ m : Nat, (m : Int) < nk R → (gv (evK W f p hl R) m).1 ≠ -1) : evT W f p hl R = ((W (inf R).2.1 (gv (evK W f p hl R) 0).1 (gv (evK W f p hl R) 1).1).1, sw (evK W f p hl R) (nk R).toNat + 1 + (W (inf R).2.1 (gv (evK W f p hl R) 0).1 (gv (evK W f p hl R) 1).1).2) := by
  rw [evT_S (Or.inl h), sw_3 n]
  have h0 := gv_ne g 0
  have h1 := gv_ne g 1
  have h2 := gv_ne g 2
  unfold evS
  rw [if_neg (by omega), if_neg (by omega)]
theorem evT_f {W : Int → Int → Int → VW} {f : Int → Int → Int → Int} {p hl : Int → Int} {R : TR} (h : (inf R).1 = 4) (n : nk R ≤ 3) (g : ∀ m : Nat, (m : Int) < nk R → (gv (evK W f p hl R) m).1 ≠ -1) : evT W f p hl R = (f (gv (evK W f p hl R) 0).1 (gv (evK W f p hl R) 1).1 (gv (evK W f p hl R) 2).1, sw (evK W f p hl R) (nk R).toNat + 1) := by
  rw [evT_S (Or.inr h), sw_3 n]
  have h0 := gv_ne g 0
  have h1 := gv_ne g 1
  have h2 := gv_ne g 2
  unfold evS
  rw [if_neg (by omega), if_pos h]
theorem posE_asm {h hk h' : AH} {a6 s wk tot : Int} (k9 : h 200 9 = a6) (hk10 : hk 200 10 = w32 (h 200 10 + s)) (hkf : ∀ a x, ¬ (a = 200 ∧ (x = 9 ∨ x = 10)) → ¬ (a = 269 ∧ a6 ≤ x) → hk a x = h a x) (hk9 : a6 ≤ hk 200 9) (po : posO hk h' a6 wk) (e : tot = s + wk) : posE h h' tot := by
  obtain ⟨p1, p2, p3⟩ := po
  refine ⟨by rw [p2, hk10, w32_add, e]; congr 1; omega, fun a x y1 y2 => ?_⟩
  by_cases y : a = 200 ∧ x = 9
  · rw [y.1, y.2, p1, k9]
  · rw [p3 a x (by omega) (by omega), hkf a x (by omega) (by omega)]
theorem ptf_E {E : EV} {v : Int → Int} (n : 1 ≤ eO E (-2) ∧ eO E (-2) ≤ 3) : ptf (eK E (-2)) v (eO E (-2)).toNat = ptE E (v 0) (v 1) (v 2) := by
  unfold ptE
  rcases (show eO E (-2) = 1 ∨ eO E (-2) = 2 ∨ eO E (-2) = 3 by omega) with e | e | e
  · rw [e, if_pos (by decide)]; show 0 * _ + v 0 = v 0; rw [Int.zero_mul, Int.zero_add]
  · rw [e, if_neg (by decide), if_pos (by decide)]; show (0 * _ + v 0) * _ + v 1 = _; rw [Int.zero_mul, Int.zero_add]; rfl
  · rw [e, if_neg (by decide), if_neg (by decide)]; show ((0 * _ + v 0) * _ + v 1) * _ + v 2 = _; rw [Int.zero_mul, Int.zero_add]; rfl
theorem vl_bs {k v : Int} (h : vlR k v) (k0 : 0 ≤ k) (k1 : k ≤ 1) : 0 ≤ v ∧ v < bsK k := by
  unfold vlR at h
  unfold bsK
  by_cases q : k = 0
  · rw [if_pos q]; have := h.2.1 q; omega
  · rw [if_neg q]; have := h.2.2.1 (by omega); omega
theorem vX1_workAct_j128 {F : Int → Int → Int → AH → Option (Int × AH)} (a1 : Int) (a2 : Int) (a3 : Int) (a4 : Int) (a5 : Int) (a6 : Int) (t0 : Int) {h : AH} {E : EV} {Rf : Int → TR} {W : Int → Int → Int → VW} {f : Int → Int → Int → Int} {N w wv np k : Int} {kp p hl : Int → Int} {R : TR} (hF : CWX F k) (q : preE h E Rf W f a1 N w wv a3 np kp p hl R a2) (dk : dpE E.1.2.2.2.1 R ≤ k + 1) (i : a4 = (inf R).2.1 ∧ (((inf R).1 = 2 ∧ a5 = 0 ∧ a4 ≠ 15 ∧ a4 ≠ 16) ∨ ((inf R).1 = 4 ∧ a5 = 1))) (n : t0 = nk R ∧ a6 = h 200 9) : OK (gX1_workAct_j128 F a1 a2 a3 a4 a5 a6 t0 h) (fun r => jt2 r fun v h' => (v = (evT W f p hl R).1) ∧ (posE h h' (evT W f p hl R).2)) := by
  have hb := q.2.2.2.2.2.2.1
  have hb2 := q.2.2.2.2.2.2.2.1
  have hb3 := q.2.2.2.2.2.2.2.2.1
  have np0 := q.2.2.2.2.2.2.2.2.2.1
  have b10 := q.2.2.2.2.2.2.2.2.2.2.2.2
  have ac := q.1.2.1
  have ty := tyT_nd q.2.2.2.1
  have d0 := dpE_0 q.1.2.2.2.2.2.2.2 R
  have dn := dpE_nd (wA := E.1.2.2.2.1) R
  have L1 : 1 ≤ lwI E.1.2.2.2.1 (inf R) := by { unfold lwI; rcases i.2 with y | y; { rw [if_pos y.1]; by_cases z : 26 ≤ (inf R).2.1; { rw [if_pos z]; have := q.1.2.2.2.2.2.2.2 _ z; omega }; { rw [if_neg z]; omega } }; { rw [if_neg (by omega), if_pos y.1]; omega } }
  have nO : nk R = eO E (acI (inf R)) ∧ 1 ≤ nk R ∧ nk R ≤ 3 := by { have z := ty.2.2; rw [Int.zero_add] at z; unfold acI; rcases i.2 with y | y; { rw [if_neg (by omega)]; have z4 : 0 ≤ (inf R).2.1 ∧ (inf R).2.1 < E.1.1 ∧ nk R = eO E (inf R).2.1 := (by rcases z with z | z | z | z | z <;> omega); have := ac.2.2.1 _ z4.1 z4.2.1; omega }; { rw [if_pos y.1]; have z4 : E.2.2.1 = 1 ∧ nk R = eO E (-2) := (by rcases z with z | z | z | z | z <;> omega); have := ac.2.2.2.2 z4.1; omega } }
  have KT := evK_ty (W := W) (f := f) (p := p) (hl := hl) ac (wOK_ty q.1.2.2.1) q.1.2.2.2.1 (fun c c0 c1 => (q.2.2.2.2.2.2.2.2.2.2.1 c c0 c1).2) (fun c c0 c1 => (q.2.2.2.2.2.2.2.2.2.2.2.1 c c0 c1).2) R 0 q.2.2.2.1
  unfold gX1_workAct_j128
  refine OK_jl ?_
  have i9 : w32 (h 200 9 + t0) = h 200 9 + t0 := w32_id (by omega) (by omega)
  rw [i9]
  have F23 : ∀ a s, ¬ (a = 200 ∧ s = 9) → jst h 200 9 (h 200 9 + t0) a s = h a s := fun a s y => jst_o y
  have C23 : jst h 200 9 (h 200 9 + t0) 200 9 = h 200 9 + t0 := jst_eq
  generalize e23 : jst h 200 9 (h 200 9 + t0) = hh at *
  have G23 : preG hh E Rf W f a1 N w wv a3 np kp p hl R a2 a6 := by { rw [n.2]; exact preG_fr q (fun a s y1 y2 => F23 a s (by omega)) (by rw [F23 _ _ (by omega)]; exact b10) }
  refine OK_jb (vX1_workAct_l147 (E := E) (Rf := Rf) (W := W) (f := f) (N := N) (w := w) (wv := wv) (np := np) (k := k) (kp := kp) (p := p) (hl := hl) (R := R) _ _ _ _ _ _ _ _ _ (by (first | assumption | omega | ((try dsimp only [jt2, jt3, jt4]); first | omega | (simp (disch := omega) only [jst_eq, jst_ne, jst_ni, jst_o, jI_i, jcpy_out, w32_id, jdiv_nn, jshr_k, jand_255] <;> first | done | omega | assumption)) | (intros; simp (disch := omega) only [jst_eq, jst_ne, jst_ni, jst_o, jI_i, jcpy_out, w32_id, jdiv_nn, *] <;> first | done | omega) | (intros; simp (disch := omega) only [jst_eq, jst_ne, jst_ni, jst_o, jI_i, jcpy_out, w32_id, jdiv_nn] at * <;> first | done | omega | assumption) | (intros; first | rfl | (exfalso; omega) | ((repeat' apply And.intro) <;> first | assumption | rfl | omega | trivial)))) (by exact G23) (by (first | assumption | omega | ((try dsimp only [jt2, jt3, jt4]); first | omega | (simp (disch := omega) only [jst_eq, jst_ne, jst_ni, jst_o, jI_i, jcpy_out, w32_id, jdiv_nn, jshr_k, jand_255] <;> first | done | omega | assumption)) | (intros; simp (disch := omega) only [jst_eq, jst_ne, jst_ni, jst_o, jI_i, jcpy_out, w32_id, jdiv_nn, *] <;> first | done | omega) | (intros; simp (disch := omega) only [jst_eq, jst_ne, jst_ni, jst_o, jI_i, jcpy_out, w32_id, jdiv_nn] at * <;> first | done | omega | assumption) | (intros; first | rfl | (exfalso; omega) | ((repeat' apply And.intro) <;> first | assumption | rfl | omega | trivial)))) (by exact ⟨n.1, by omega⟩) (by (first | assumption | omega | ((try dsimp only [jt2, jt3, jt4]); first | omega | (simp (disch := omega) only [jst_eq, jst_ne, jst_ni, jst_o, jI_i, jcpy_out, w32_id, jdiv_nn, jshr_k, jand_255] <;> first | done | omega | assumption)) | (intros; simp (disch := omega) only [jst_eq, jst_ne, jst_ni, jst_o, jI_i, jcpy_out, w32_id, jdiv_nn, *] <;> first | done | omega) | (intros; simp (disch := omega) only [jst_eq, jst_ne, jst_ni, jst_o, jI_i, jcpy_out, w32_id, jdiv_nn] at * <;> first | done | omega | assumption) | (intros; first | rfl | (exfalso; omega) | ((repeat' apply And.intro) <;> first | assumption | rfl | omega | trivial)))) (by (first | assumption | omega | ((try dsimp only [jt2, jt3, jt4]); first | omega | (simp (disch := omega) only [jst_eq, jst_ne, jst_ni, jst_o, jI_i, jcpy_out, w32_id, jdiv_nn, jshr_k, jand_255] <;> first | done | omega | assumption)) | (intros; simp (disch := omega) only [jst_eq, jst_ne, jst_ni, jst_o, jI_i, jcpy_out, w32_id, jdiv_nn, *] <;> first | done | omega) | (intros; simp (disch := omega) only [jst_eq, jst_ne, jst_ni, jst_o, jI_i, jcpy_out, w32_id, jdiv_nn] at * <;> first | done | omega | assumption) | (intros; first | rfl | (exfalso; omega) | ((repeat' apply And.intro) <;> first | assumption | rfl | omega | trivial))))) (fun o24 r1 => ?_)
  obtain ⟨y26, h27⟩ := o24
  refine OK_jt2 ?_
  try dsimp only [Sum.elim_inl, Sum.elim_inr, jt2, jt3, jt4, jt5, jt6, jt7, jt8] at r1
  obtain ⟨cs1, gs1, ws1, fs1⟩ := r1
  try simp (disch := omega) only [jst_eq, jst_ne, jst_ni, jI_i, jcmp_lt, jcmp_gt, w32_id, jcpy_out, Sum.elim_inl, Sum.elim_inr, jt2, jt3, jt4, jt5, jt6, jt7, jt8] at cs1
  try simp (disch := omega) only [jst_eq, jst_ne, jst_ni, jI_i, jcmp_lt, jcmp_gt, w32_id, jcpy_out, Sum.elim_inl, Sum.elim_inr, jt2, jt3, jt4, jt5, jt6, jt7, jt8] at gs1
  try simp (disch := omega) only [jst_eq, jst_ne, jst_ni, jI_i, jcmp_lt, jcmp_gt, w32_id, jcpy_out, Sum.elim_inl, Sum.elim_inr, jt2, jt3, jt4, jt5, jt6, jt7, jt8] at ws1
  try simp (disch := omega) only [jst_eq, jst_ne, jst_ni, jI_i, jcmp_lt, jcmp_gt, w32_id, jcpy_out, Sum.elim_inl, Sum.elim_inr, jt2, jt3, jt4, jt5, jt6, jt7, jt8] at fs1
  refine OK_jl ?_
  have F28 : ∀ a s, ¬ (a = 200 ∧ (s = 9 ∨ s = 10)) → ¬ (a = 269 ∧ a6 ≤ s) → jst h27 200 10 (w32 (h27 200 10 + 1)) a s = h a s := fun a s y1 y2 => by { rw [jst_o (by omega), fs1 a s (by omega) y2, F23 a s (by omega)] }
  have N28 : jst h27 200 10 (w32 (h27 200 10 + 1)) 200 9 = a6 + t0 := by { rw [jst_o (by omega), fs1 _ _ (by omega) (by omega), C23, n.2] }
  have W28 : jst h27 200 10 (w32 (h27 200 10 + 1)) 200 10 = w32 (h 200 10 + (sw (evK W f p hl R) (nk R).toNat + 1)) := by { rw [jst_eq, ws1, w32_add, F23 _ _ (by omega), n.1]; congr 1; omega }
  have P28 : ∀ m : Nat, (m : Int) < t0 → jst h27 200 10 (w32 (h27 200 10 + 1)) 269 (a6 + m) = (gv (evK W f p hl R) m).1 := fun m m1 => by { rw [jst_o (by omega)]; exact cs1 m m1 }
  generalize e28 : jst h27 200 10 (w32 (h27 200 10 + 1)) = hk at *
  have wr := w32_r (h 200 10 + (sw (evK W f p hl R) (nk R).toNat + 1))
  have E28 : enuX hk E Rf W f := enuX_fr q.1 (fun a s y1 y2 => F28 a s (by omega) (by omega))
  have O28 : OWC hk := ⟨fun c c0 c1 => by { rw [F28 _ _ (by omega) (by omega)]; have z := q.2.2.2.2.2.2.2.2.2.2.2.1 c c0 c1; rw [z.1]; exact z.2 }, by omega, by omega⟩
  have sT : ((inf R).1 = 2 ∧ (inf R).2.1 ≠ 15 ∧ (inf R).2.1 ≠ 16) ∨ (inf R).1 = 4 := by { rcases i.2 with y | y; { exact Or.inl ⟨y.1, by omega, by omega⟩ }; { exact Or.inr y.1 } }
  refine OK_if (fun c1 => ?_) (fun c1 => ?_)
  · skip
    try simp (disch := omega) only [jst_eq, jst_ne, jst_ni, jI_i, jcmp_lt, jcmp_gt, w32_id, jcpy_out, Sum.elim_inl, Sum.elim_inr, jt2, jt3, jt4, jt5, jt6, jt7, jt8] at c1
    have bad := (gs1.resolve_left (fun y => by omega)).2
    rw [n.1] at bad
    refine OK_mono (vX1_workAct_j254 (E := E) (Rf := Rf) (W := W) (f := f) (k := k) (xv := (gv (evK W f p hl R) 0).1) (yv := (gv (evK W f p hl R) 1).1) _ _ _ _ _ (by (first | assumption | omega | ((try dsimp only [jt2, jt3, jt4]); first | omega | (simp (disch := omega) only [jst_eq, jst_ne, jst_ni, jst_o, jI_i, jcpy_out, w32_id, jdiv_nn, jshr_k, jand_255] <;> first | done | omega | assumption)) | (intros; simp (disch := omega) only [jst_eq, jst_ne, jst_ni, jst_o, jI_i, jcpy_out, w32_id, jdiv_nn, *] <;> first | done | omega) | (intros; simp (disch := omega) only [jst_eq, jst_ne, jst_ni, jst_o, jI_i, jcpy_out, w32_id, jdiv_nn] at * <;> first | done | omega | assumption) | (intros; first | rfl | (exfalso; omega) | ((repeat' apply And.intro) <;> first | assumption | rfl | omega | trivial)))) (by (first | assumption | omega | ((try dsimp only [jt2, jt3, jt4]); first | omega | (simp (disch := omega) only [jst_eq, jst_ne, jst_ni, jst_o, jI_i, jcpy_out, w32_id, jdiv_nn, jshr_k, jand_255] <;> first | done | omega | assumption)) | (intros; simp (disch := omega) only [jst_eq, jst_ne, jst_ni, jst_o, jI_i, jcpy_out, w32_id, jdiv_nn, *] <;> first | done | omega) | (intros; simp (disch := omega) only [jst_eq, jst_ne, jst_ni, jst_o, jI_i, jcpy_out, w32_id, jdiv_nn] at * <;> first | done | omega | assumption) | (intros; first | rfl | (exfalso; omega) | ((repeat' apply And.intro) <;> first | assumption | rfl | omega | trivial)))) (by (first | assumption | omega | ((try dsimp only [jt2, jt3, jt4]); first | omega | (simp (disch := omega) only [jst_eq, jst_ne, jst_ni, jst_o, jI_i, jcpy_out, w32_id, jdiv_nn, jshr_k, jand_255] <;> first | done | omega | assumption)) | (intros; simp (disch := omega) only [jst_eq, jst_ne, jst_ni, jst_o, jI_i, jcpy_out, w32_id, jdiv_nn, *] <;> first | done | omega) | (intros; simp (disch := omega) only [jst_eq, jst_ne, jst_ni, jst_o, jI_i, jcpy_out, w32_id, jdiv_nn] at * <;> first | done | omega | assumption) | (intros; first | rfl | (exfalso; omega) | ((repeat' apply And.intro) <;> first | assumption | rfl | omega | trivial)))) (by exact fun y => absurd c1 y) (by (first | assumption | omega | ((try dsimp only [jt2, jt3, jt4]); first | omega | (simp (disch := omega) only [jst_eq, jst_ne, jst_ni, jst_o, jI_i, jcpy_out, w32_id, jdiv_nn, jshr_k, jand_255] <;> first | done | omega | assumption)) | (intros; simp (disch := omega) only [jst_eq, jst_ne, jst_ni, jst_o, jI_i, jcpy_out, w32_id, jdiv_nn, *] <;> first | done | omega) | (intros; simp (disch := omega) only [jst_eq, jst_ne, jst_ni, jst_o, jI_i, jcpy_out, w32_id, jdiv_nn] at * <;> first | done | omega | assumption) | (intros; first | rfl | (exfalso; omega) | ((repeat' apply And.intro) <;> first | assumption | rfl | omega | trivial))))) (fun r r2 => ?_)
    obtain ⟨y1, y2⟩ := r
    try dsimp only [Sum.elim_inl, Sum.elim_inr, jt2, jt3, jt4, jt5, jt6, jt7, jt8] at r2
    have rr2 := r2
    clear r2
    try simp (disch := omega) only [jst_eq, jst_ne, jst_ni, jI_i, jcmp_lt, jcmp_gt, w32_id, jcpy_out, Sum.elim_inl, Sum.elim_inr, jt2, jt3, jt4, jt5, jt6, jt7, jt8] at rr2
    try dsimp only [Sum.elim_inl, Sum.elim_inr, jt2, jt3, jt4, jt5, jt6, jt7, jt8]
    try dsimp only [Sum.elim_inl, Sum.elim_inr, jt2, jt3, jt4, jt5, jt6, jt7, jt8]
    refine ⟨?_, ?_⟩
    · (rw [if_pos c1] at rr2; rw [evT_bad sT nO.2.2 bad]; exact rr2.1) -- o12 e1.1
    · (rw [if_pos c1, if_pos c1] at rr2; rw [evT_bad sT nO.2.2 bad]; exact posE_asm n.2.symm W28 F28 (by omega) rr2.2 (by show _ = _ + (0 : Int); omega)) -- o13 e1.2
  · skip
    try simp (disch := omega) only [jst_eq, jst_ne, jst_ni, jI_i, jcmp_lt, jcmp_gt, w32_id, jcpy_out, Sum.elim_inl, Sum.elim_inr, jt2, jt3, jt4, jt5, jt6, jt7, jt8] at c1
    have good := (gs1.resolve_right (fun y => c1 y.1)).2
    rw [n.1] at good
    have VT : ∀ m : Nat, (m : Int) < nk R → vlR (eK E (acI (inf R)) m) (gv (evK W f p hl R) m).1 := fun m m1 => by { have z := KT m m1; rw [Int.zero_add] at z; exact z.resolve_left (good m m1) }
    refine OK_if (fun c2 => ?_) (fun c2 => ?_)
    · skip
      try simp (disch := omega) only [jst_eq, jst_ne, jst_ni, jI_i, jcmp_lt, jcmp_gt, w32_id, jcpy_out, Sum.elim_inl, Sum.elim_inr, jt2, jt3, jt4, jt5, jt6, jt7, jt8] at c2
      have s2 : (inf R).1 = 2 ∧ a4 ≠ 15 ∧ a4 ≠ 16 := by { rcases i.2 with y | y <;> omega }
      have ea : acI (inf R) = a4 := by { unfold acI; rw [if_neg (by omega)]; exact i.1.symm }
      rw [ea] at VT nO
      have tA : 0 ≤ a4 ∧ a4 < E.1.1 := by { rcases ty.2.2 with z | z | z | z | z <;> omega }
      have A26 := ac.2.2.1 a4 tA.1 tA.2
      have w26 : 26 ≤ a4 → E.1.2.2.2.1 a4 ≤ k := fun z => by { have e : lwI E.1.2.2.2.1 (inf R) = 1 + E.1.2.2.2.1 a4 := by { unfold lwI; rw [if_pos s2.1, if_pos (by omega), i.1] }; omega }
      have w26' : 26 ≤ a4 → 1 + E.1.2.2.2.1 a4 ≤ dpE E.1.2.2.2.1 R := fun z => by { have e : lwI E.1.2.2.2.1 (inf R) = 1 + E.1.2.2.2.1 a4 := by { unfold lwI; rw [if_pos s2.1, if_pos (by omega), i.1] }; omega }
      refine OK_mono (vX1_workAct_j254 (E := E) (Rf := Rf) (W := W) (f := f) (k := k) (xv := (gv (evK W f p hl R) 0).1) (yv := (gv (evK W f p hl R) 1).1) _ _ _ _ _ (by (first | assumption | omega | ((try dsimp only [jt2, jt3, jt4]); first | omega | (simp (disch := omega) only [jst_eq, jst_ne, jst_ni, jst_o, jI_i, jcpy_out, w32_id, jdiv_nn, jshr_k, jand_255] <;> first | done | omega | assumption)) | (intros; simp (disch := omega) only [jst_eq, jst_ne, jst_ni, jst_o, jI_i, jcpy_out, w32_id, jdiv_nn, *] <;> first | done | omega) | (intros; simp (disch := omega) only [jst_eq, jst_ne, jst_ni, jst_o, jI_i, jcpy_out, w32_id, jdiv_nn] at * <;> first | done | omega | assumption) | (intros; first | rfl | (exfalso; omega) | ((repeat' apply And.intro) <;> first | assumption | rfl | omega | trivial)))) (by (first | assumption | omega | ((try dsimp only [jt2, jt3, jt4]); first | omega | (simp (disch := omega) only [jst_eq, jst_ne, jst_ni, jst_o, jI_i, jcpy_out, w32_id, jdiv_nn, jshr_k, jand_255] <;> first | done | omega | assumption)) | (intros; simp (disch := omega) only [jst_eq, jst_ne, jst_ni, jst_o, jI_i, jcpy_out, w32_id, jdiv_nn, *] <;> first | done | omega) | (intros; simp (disch := omega) only [jst_eq, jst_ne, jst_ni, jst_o, jI_i, jcpy_out, w32_id, jdiv_nn] at * <;> first | done | omega | assumption) | (intros; first | rfl | (exfalso; omega) | ((repeat' apply And.intro) <;> first | assumption | rfl | omega | trivial)))) (by (first | assumption | omega | ((try dsimp only [jt2, jt3, jt4]); first | omega | (simp (disch := omega) only [jst_eq, jst_ne, jst_ni, jst_o, jI_i, jcpy_out, w32_id, jdiv_nn, jshr_k, jand_255] <;> first | done | omega | assumption)) | (intros; simp (disch := omega) only [jst_eq, jst_ne, jst_ni, jst_o, jI_i, jcpy_out, w32_id, jdiv_nn, *] <;> first | done | omega) | (intros; simp (disch := omega) only [jst_eq, jst_ne, jst_ni, jst_o, jI_i, jcpy_out, w32_id, jdiv_nn] at * <;> first | done | omega | assumption) | (intros; first | rfl | (exfalso; omega) | ((repeat' apply And.intro) <;> first | assumption | rfl | omega | trivial)))) (by exact fun _ => ⟨⟨tA.1, tA.2, s2.2.1, s2.2.2, w26, ⟨by have z := P28 0 (by omega); rw [show a6 + ((0 : Nat) : Int) = a6 from Int.add_zero a6] at z; exact z, VT 0 (by omega)⟩, fun z => ⟨P28 1 (by omega), VT 1 (by omega)⟩, fun z => by rw [gv_no R 1 (by omega)], by omega, by omega, by omega, fun z => by have := w26' z; omega⟩, by omega⟩) (by (first | assumption | omega | ((try dsimp only [jt2, jt3, jt4]); first | omega | (simp (disch := omega) only [jst_eq, jst_ne, jst_ni, jst_o, jI_i, jcpy_out, w32_id, jdiv_nn, jshr_k, jand_255] <;> first | done | omega | assumption)) | (intros; simp (disch := omega) only [jst_eq, jst_ne, jst_ni, jst_o, jI_i, jcpy_out, w32_id, jdiv_nn, *] <;> first | done | omega) | (intros; simp (disch := omega) only [jst_eq, jst_ne, jst_ni, jst_o, jI_i, jcpy_out, w32_id, jdiv_nn] at * <;> first | done | omega | assumption) | (intros; first | rfl | (exfalso; omega) | ((repeat' apply And.intro) <;> first | assumption | rfl | omega | trivial))))) (fun r r3 => ?_)
      obtain ⟨y3, y4⟩ := r
      try dsimp only [Sum.elim_inl, Sum.elim_inr, jt2, jt3, jt4, jt5, jt6, jt7, jt8] at r3
      have rr3 := r3
      clear r3
      try simp (disch := omega) only [jst_eq, jst_ne, jst_ni, jI_i, jcmp_lt, jcmp_gt, w32_id, jcpy_out, Sum.elim_inl, Sum.elim_inr, jt2, jt3, jt4, jt5, jt6, jt7, jt8] at rr3
      try dsimp only [Sum.elim_inl, Sum.elim_inr, jt2, jt3, jt4, jt5, jt6, jt7, jt8]
      try dsimp only [Sum.elim_inl, Sum.elim_inr, jt2, jt3, jt4, jt5, jt6, jt7, jt8]
      refine ⟨?_, ?_⟩
      · (rw [if_neg c1] at rr3; rw [evT_act ⟨s2.1, by omega, by omega⟩ nO.2.2 good, ← i.1]; exact rr3.1) -- o19 e2.1
      · (rw [if_neg c1, if_neg c1] at rr3; rw [evT_act ⟨s2.1, by omega, by omega⟩ nO.2.2 good, ← i.1]; exact posE_asm n.2.symm W28 F28 (by omega) rr3.2 rfl) -- o20 e2.2
    · skip
      try simp (disch := omega) only [jst_eq, jst_ne, jst_ni, jI_i, jcmp_lt, jcmp_gt, w32_id, jcpy_out, Sum.elim_inl, Sum.elim_inr, jt2, jt3, jt4, jt5, jt6, jt7, jt8] at c2
      have s4 : (inf R).1 = 4 := by { rcases i.2 with y | y <;> omega }
      have ea : acI (inf R) = -2 := if_pos s4
      rw [ea] at VT nO
      have t4 : E.2.2.1 = 1 := by { rcases ty.2.2 with z | z | z | z | z <;> omega }
      obtain ⟨g1, g2, g3, g4, g5, g6, g7, g8, g9⟩ := E28.2.2.2.2.2.1 t4
      have A4 := ac.2.2.2.2 t4
      have PA := g9 _ _ _ (VT 0 (by omega)) (fun z => VT 1 (by omega)) (fun z => VT 2 (by omega))
      have r269 := E28.2.2.2.2.2.2.1
      refine OK_jb (vX4_pointOf (n := eO E (-2)) (kf := eK E (-2)) (vf := fun m => (gv (evK W f p hl R) m.toNat).1) _ _ _ (by exact ⟨g1, g2, by omega, by omega, r269.1, by omega, by rw [r269.2]; omega, by omega⟩) (by exact fun m m0 m1 => ⟨(g3 m m0 m1).1, by { have z := P28 m.toNat (by omega); rw [show ((m.toNat : Nat) : Int) = m by omega] at z; exact z }, by { have z := vl_bs (VT m.toNat (by omega)) (by have := (A4.2.2 m m0 (by omega)).1; rw [show ((m.toNat : Nat) : Int) = m by omega]; exact this) (by have := (g3 m m0 m1).2; rw [show ((m.toNat : Nat) : Int) = m by omega]; exact this); rw [show ((m.toNat : Nat) : Int) = m by omega] at z; exact z }⟩)) (fun v32 r4 => ?_)
      try dsimp only [Sum.elim_inl, Sum.elim_inr, jt2, jt3, jt4, jt5, jt6, jt7, jt8] at r4
      have pv4 := r4
      clear r4
      try simp (disch := omega) only [jst_eq, jst_ne, jst_ni, jI_i, jcmp_lt, jcmp_gt, w32_id, jcpy_out, Sum.elim_inl, Sum.elim_inr, jt2, jt3, jt4, jt5, jt6, jt7, jt8] at pv4
      have pv' : v32 = ptE E (gv (evK W f p hl R) 0).1 (gv (evK W f p hl R) 1).1 (gv (evK W f p hl R) 2).1 := by { rw [pv4]; exact ptf_E (E := E) (v := fun m => (gv (evK W f p hl R) m.toNat).1) ⟨A4.1, A4.2.1⟩ }
      have pr := ptf_r (kf := eK E (-2)) (vf := fun m => (gv (evK W f p hl R) m.toNat).1) (eO E (-2)).toNat (fun m m0 m1 => by { have z := vl_bs (VT m.toNat (by omega)) (by have := (A4.2.2 m m0 (by omega)).1; rw [show ((m.toNat : Nat) : Int) = m by omega]; exact this) (by have := (g3 m m0 (by omega)).2; rw [show ((m.toNat : Nat) : Int) = m by omega]; exact this); rw [show ((m.toNat : Nat) : Int) = m by omega] at z; exact z })
      have p3 := p16_3 (m := (eO E (-2)).toNat) (by omega)
      have iw : w32 (hk 200 15 + v32) = hk 200 15 + ptE E (gv (evK W f p hl R) 0).1 (gv (evK W f p hl R) 1).1 (gv (evK W f p hl R) 2).1 := by { rw [pv']; exact w32_id (by omega) (by omega) }
      refine OK_jg (by (first | assumption | omega | ((try dsimp only [jt2, jt3, jt4]); first | omega | (simp (disch := omega) only [jst_eq, jst_ne, jst_ni, jst_o, jI_i, jcpy_out, w32_id, jdiv_nn, jshr_k, jand_255] <;> first | done | omega | assumption)) | (intros; simp (disch := omega) only [jst_eq, jst_ne, jst_ni, jst_o, jI_i, jcpy_out, w32_id, jdiv_nn, *] <;> first | done | omega) | (intros; simp (disch := omega) only [jst_eq, jst_ne, jst_ni, jst_o, jI_i, jcpy_out, w32_id, jdiv_nn] at * <;> first | done | omega | assumption) | (intros; first | rfl | (exfalso; omega) | ((repeat' apply And.intro) <;> first | assumption | rfl | omega | trivial)))) ?_ -- o23
      refine OK_jlx (fun x33 ex33 => ?_)
      try simp (disch := omega) only [jst_eq, jst_ne, jst_ni, jI_i, jcmp_lt, jcmp_gt, w32_id, jcpy_out, Sum.elim_inl, Sum.elim_inr, jt2, jt3, jt4, jt5, jt6, jt7, jt8] at ex33
      refine OK_mono (vX1_workAct_j339 _ _) (fun r r5 => ?_)
      obtain ⟨y5, y6⟩ := r
      try dsimp only [Sum.elim_inl, Sum.elim_inr, jt2, jt3, jt4, jt5, jt6, jt7, jt8] at r5
      obtain ⟨vv5, hh5⟩ := r5
      try simp (disch := omega) only [jst_eq, jst_ne, jst_ni, jI_i, jcmp_lt, jcmp_gt, w32_id, jcpy_out, Sum.elim_inl, Sum.elim_inr, jt2, jt3, jt4, jt5, jt6, jt7, jt8] at vv5
      try simp (disch := omega) only [jst_eq, jst_ne, jst_ni, jI_i, jcmp_lt, jcmp_gt, w32_id, jcpy_out, Sum.elim_inl, Sum.elim_inr, jt2, jt3, jt4, jt5, jt6, jt7, jt8] at hh5
      try dsimp only [Sum.elim_inl, Sum.elim_inr, jt2, jt3, jt4, jt5, jt6, jt7, jt8]
      try dsimp only [Sum.elim_inl, Sum.elim_inr, jt2, jt3, jt4, jt5, jt6, jt7, jt8]
      refine ⟨?_, ?_⟩
      · (rw [evT_f s4 nO.2.2 good, vv5, ex33, pv']; exact PA.2) -- o24 e3.1
      · (rw [evT_f s4 nO.2.2 good, hh5]; exact posE_asm n.2.symm W28 F28 (by omega) (posO_j (posE_0 hk O28.2)) (by show _ = _ + (0 : Int); omega)) -- o25 e3.2

