/-! m: a term as it is read -/
def frM (N : Int) (h h' : AH) : Prop := ∀ a s, ¬ (a = 454 ∧ (s = 17 ∨ (26 ≤ s ∧ s ≤ 29))) → ¬ (a = 472 ∧ (s = 6 ∨ s = 7)) → ¬ (460 ≤ a ∧ a ≤ 470 ∧ a ≠ 464 ∧ N ≤ s ∧ s < h' 454 17) → ¬ (a = 464 ∧ 3 * N ≤ s ∧ s < 3 * h' 454 17) → h' a s = h a s
theorem frM_tr {N N' : Int} {h h1 h2 : AH} (n : N ≤ N') (t : h1 454 17 ≤ h2 454 17) (a : frM N h h1) (b : frM N' h1 h2) : frM N h h2 := fun x s y1 y2 y3 y4 => by
  rw [b x s y1 y2 (by omega) (by omega)]
  exact a x s y1 y2 (by omega) (by omega)
theorem TM_frM {B : Int → Int} {n N : Int} {h h' : AH} (t : TM B n h) (f : frM N h h') : TM B n h' := TM_fr t (f _ _ (by omega) (by omega) (by omega) (by omega)) (fun s => f _ _ (by omega) (by omega) (by omega) (by omega))
def posM (B : Int → Int) (n q : Int) (h : AH) (res : PR) (t v : Int) (h' : AH) : Prop := (frM (h 454 17) h h' ∧ h 454 17 ≤ h' 454 17 ∧ 2 * (h' 454 17 - h 454 17) ≤ n - q + 1) ∧ match res with
  | .inl z => t = 472 ∧ MF z h'
  | .inr (T, q1) => t = 0 ∧ MS B n q1 h' ∧ q < q1 ∧ v = h 454 17 ∧ h' 454 17 = h 454 17 + sz T ∧ 2 * sz T ≤ q1 - q + 1 ∧ rawM h' T v 0 (v + 1) (-1)
def CTM (F : Int → Int → AH → Option (Int × Int × AH)) (B : Int → Int) (n : Int) (sk : Bool) (d : Nat) : Prop := ∀ (ar s : Int) (h : AH) (q : Int), (ar + d = 13 ∧ 0 ≤ ar ∧ s = if sk = true then 1 else 0) → TM B n h → MS B n q h → (0 ≤ h 454 17 ∧ 2 * h 454 17 + (n - q) + 2 ≤ 17600) → OK (F ar s h) (fun r => jt3 r fun t v h' => posM B n q h (pT B n sk d q) t v h')
/-- on the way: the operands that were met, where we are -/
def stM (B : Int → Int) (n D q2 : Int) (i : NI) (h0 : AH) (l : List TR) (qc c : Int) (h : AH) : Prop := MS B n qc h ∧ q2 ≤ qc ∧ h 454 17 = D + 1 + szL l ∧ 2 * szL l ≤ qc - q2 + c ∧ rawL h D l 0 (D + 1) (-1) (h 466 D) ∧ h 465 D = (l.length : Nat) ∧ ndM h D i ∧ frM D h0 h
theorem stepM {B : Int → Int} {n D q2 qc q1 v : Int} {i : NI} {h0 h h60 h63 : AH} {l : List TR} {T : TR} (hD : 0 ≤ D ∧ h0 454 17 = D + 1) (st : stM B n D q2 i h0 l qc 0 h) (f : frM (h 454 17) h h60) (m : MS B n q1 h60) (qq : qc < q1) (hv : v = h 454 17) (tp : h60 454 17 = h 454 17 + sz T) (s2 : 2 * sz T ≤ q1 - qc + 1) (rw' : rawM h60 T v 0 (v + 1) (-1))
    (k1 : h63 465 D = h60 465 D + 1) (k2 : h60 465 D < 3 → h63 464 (3 * D + h60 465 D) = v ∧ h63 466 D = h60 466 D ∧ h63 467 v = h60 467 v) (k3 : 3 ≤ h60 465 D → h63 467 v = h60 466 D ∧ h63 466 D = v) (k4 : ∀ a s, ¬ (a = 465 ∧ s = D) → ¬ (a = 466 ∧ s = D ∧ 3 ≤ h60 465 D) → ¬ (a = 467 ∧ s = v ∧ 3 ≤ h60 465 D) → ¬ (a = 464 ∧ s = 3 * D + h60 465 D ∧ h60 465 D < 3) → h63 a s = h60 a s) : stM B n D q2 i h0 (l ++ [T]) q1 1 h63 := by
  obtain ⟨s1, s3, s4, s5, s6, s7, s8, s9⟩ := st
  have z1 := szL_pos l
  have zt := sz_pos T
  have lL : (((l ++ [T]).length : Nat) : Int) = (l.length : Nat) + 1 := by rw [List.length_append]; show (((l.length + 1 : Nat)) : Int) = _; omega
  have zL : szL (l ++ [T]) = szL l + sz T := by rw [szL_app]; show szL l + (sz T + 0) = _; omega
  have e465 : h60 465 D = h 465 D := f _ _ (by omega) (by omega) (by omega) (by omega)
  have e466 : h60 466 D = h 466 D := f _ _ (by omega) (by omega) (by omega) (by omega)
  have e17 : h63 454 17 = h60 454 17 := k4 _ _ (by omega) (by omega) (by omega) (by omega)
  have len : h60 465 D = (l.length : Nat) := by omega
  have ls := len_sz l
  refine ⟨MS_fr m (fun s s0 s1 => k4 _ _ (by omega) (by omega) (by omega) (by omega)), by omega, by omega, by omega, ?_, by omega, ?_, fun a s y1 y2 y3 y4 => ?_⟩
  · have g1 : rawL h63 D l 0 (D + 1) (-1) (h 466 D) := by
      refine rawL_ag (h := h) (lo := D + 1) (hi := D + 1 + szL l) ⟨fun a s a0 a1 a2 a3 b0 b1 => ?_, fun s b0 b1 => ?_, fun s b0 b1 => ?_⟩ ?_ (Int.le_refl _) (Int.le_refl _) (Int.le_refl _) (fun k c0 c1 c2 => ?_) s6
      · rw [k4 _ _ (by omega) (by omega) (by omega) (by omega), f _ _ (by omega) (by omega) (by omega) (by omega)]
      · rw [k4 _ _ (by omega) (by omega) (by omega) (by omega), f _ _ (by omega) (by omega) (by omega) (by omega)]
      · rw [k4 _ _ (by omega) (by omega) (by omega) (by omega), f _ _ (by omega) (by omega) (by omega) (by omega)]
      · intro z
        rw [k4 _ _ (by omega) (by omega) (by omega) (by omega), f _ _ (by omega) (by omega) (by omega) (by omega)]
      · rw [k4 _ _ (by omega) (by omega) (by omega) (by omega), f _ _ (by omega) (by omega) (by omega) (by omega)]
    have g2 : rawM h63 T (D + 1 + szL l) 0 (D + 1 + szL l + 1) (-1) := by
      rw [show D + 1 + szL l = v by omega]
      exact rawM_ag (h := h60) (lo := v) (hi := v + sz T) ⟨fun a s a0 a1 a2 a3 b0 b1 => k4 _ _ (by omega) (by omega) (by omega) (by omega), fun s b0 b1 => k4 _ _ (by omega) (by omega) (by omega) (by omega), fun s b0 b1 => k4 _ _ (by omega) (by omega) (by omega) (by omega)⟩ (Int.le_refl _) (Int.le_refl _) (by omega) (by omega) (by omega) rw'
    have g := rawL_app g1 (fun z => by rw [show (0 : Int) + ((l.length : Nat) : Int) = h60 465 D by omega, (k2 (by omega)).1]; omega) g2 (fun z => by rw [show D + 1 + szL l = v by omega, (k3 (by omega)).1]; exact e466)
    rw [show (0 : Int) + ((l.length : Nat) : Int) = h60 465 D by omega] at g
    by_cases c : h60 465 D < 3
    · rw [if_pos c] at g; rw [(k2 c).2.1, e466]; exact g
    · rw [if_neg c] at g; rw [(k3 (by omega)).2, hv, s4]; exact g
  · unfold ndM at *
    rw [k4 460 D (by omega) (by omega) (by omega) (by omega), k4 461 D (by omega) (by omega) (by omega) (by omega), k4 462 D (by omega) (by omega) (by omega) (by omega), k4 468 D (by omega) (by omega) (by omega) (by omega), k4 470 D (by omega) (by omega) (by omega) (by omega)]
    rw [f 460 D (by omega) (by omega) (by omega) (by omega), f 461 D (by omega) (by omega) (by omega) (by omega), f 462 D (by omega) (by omega) (by omega) (by omega), f 468 D (by omega) (by omega) (by omega) (by omega), f 470 D (by omega) (by omega) (by omega) (by omega)]
    exact s8
  · rw [k4 _ _ (by omega) (by omega) (by omega) (by omega), f _ _ y1 y2 (by omega) (by omega)]
    exact s9 a s y1 y2 (by omega) (by omega)
theorem pm_r {B : Int → Int} {n q t v : Int} {h h' : AH} {res : PR} (p : posM B n q h res t v h') (c : t = 0) : ∃ T q1, res = .inr (T, q1) ∧ frM (h 454 17) h h' ∧ MS B n q1 h' ∧ q < q1 ∧ v = h 454 17 ∧ h' 454 17 = h 454 17 + sz T ∧ 2 * sz T ≤ q1 - q + 1 ∧ rawM h' T v 0 (v + 1) (-1) := by
  obtain ⟨⟨p1, p2, p3⟩, r⟩ := p
  cases res with
  | inl z => have := r.1; omega
  | inr x =>
    obtain ⟨T, q1⟩ := x
    exact ⟨T, q1, rfl, p1, r.2.1, r.2.2.1, r.2.2.2.1, r.2.2.2.2.1, r.2.2.2.2.2.1, r.2.2.2.2.2.2⟩
theorem pm_l {B : Int → Int} {n q t v : Int} {h h' : AH} {res : PR} (p : posM B n q h res t v h') (c : ¬ t = 0) : ∃ z, res = .inl z ∧ t = 472 ∧ MF z h' ∧ frM (h 454 17) h h' ∧ h 454 17 ≤ h' 454 17 ∧ 2 * (h' 454 17 - h 454 17) ≤ n - q + 1 := by
  obtain ⟨⟨p1, p2, p3⟩, r⟩ := p
  cases res with
  | inl z => exact ⟨z, rfl, r.1, r.2, p1, p2, p3⟩
  | inr x => exact absurd r.1 c
theorem rM_l {B : Int → Int} {n t : Int} {r : Int ⊕ Int} {h : AH} (p : rM B n r t h) (c : ¬ t = 0) : ∃ z, r = .inl z ∧ t = 472 ∧ MF z h := by
  cases r with
  | inl z => exact ⟨z, rfl, p.1, p.2⟩
  | inr q => exact absurd p.1 c
theorem rM_r {B : Int → Int} {n t : Int} {r : Int ⊕ Int} {h : AH} (p : rM B n r t h) (c : t = 0) : ∃ q, r = .inr q ∧ MS B n q h := by
  cases r with
  | inl z => have := p.1; omega
  | inr q => exact ⟨q, rfl, p.2⟩
theorem comma_sg {B : Int → Int} {n q : Int} : isSg B n q 44 ↔ comma B n q := Iff.rfl
theorem vX14_takeTerm_l132 {F : Int → Int → AH → Option (Int × Int × AH)} (i1 : Int) (i2 : Int) (i6 : Int) {h0 : AH} {B : Int → Int} {n q2 : Int} {d : Nat} {sk : Bool} {i : NI} (hB : ∀ i, 0 ≤ i → i < n → 0 ≤ B i ∧ B i < 256) (hF : CTM F B n sk d) (hd : i1 + 1 + d = 13 ∧ 0 ≤ i1 ∧ i2 = if sk = true then 1 else 0) (t : TM B n h0) (m : MS B n q2 h0) (dn : 0 ≤ i6 ∧ h0 454 17 = i6 + 1 ∧ ndM h0 i6 i ∧ h0 465 i6 = 0 ∧ h0 466 i6 = -1) (rm : 2 * h0 454 17 + (n - q2) + 2 ≤ 17600) : OK (gX14_takeTerm_l132 F i1 i2 i6 h0) (Sum.elim (fun h' => ∃ l q3, pKs B n (pT B n sk d) 2002 [] q2 = .inr (l, q3) ∧ stM B n i6 q2 i h0 l q3 1 h') (fun r => jt2 r fun t' h' => ∃ z, pKs B n (pT B n sk d) 2002 [] q2 = .inl z ∧ t' = 472 ∧ MF z h' ∧ frM i6 h0 h' ∧ i6 + 1 ≤ h' 454 17 ∧ 2 * (h' 454 17 - (i6 + 1)) ≤ n - q2 + 1)) := by
  unfold gX14_takeTerm_l132
  refine OK_jit (I := (fun (h : AH) => ∃ (l : List TR) (k : Nat) (qc : Int), stM B n i6 q2 i h0 l qc 0 h ∧ pKs B n (pT B n sk d) 2002 [] q2 = pKs B n (pT B n sk d) (k + 1) l qc ∧ n - qc ≤ k)) (m := (fun (h : AH) => (9000 - h 454 17).toNat)) ?_ ?_
  · intro h hs
    try dsimp only at hs
    have q0 := hs; clear hs
    unfold gX14_takeTerm_b132
    obtain ⟨l, k, qc, st, eq, hk⟩ := q0
    have st' := st
    obtain ⟨s1, s3, s4, s5, s6, s7, s8, s9⟩ := st'
    have z1 := szL_pos l
    have ls := len_sz l
    have tt := TM_frM t s9
    have qn := s1.2.2.2
    refine OK_jb3 (hF _ _ _ qc (by ((try simp (disch := omega) only [jst_eq, jst_ne, jst_ni, jI_i, jcmp_lt, jcmp_gt, w32_id, jcpy_out, Sum.elim_inl, Sum.elim_inr, jt2, jt3, jt4, jt5, jt6, jt7, jt8]); exact ⟨by omega, by omega, hd.2.2⟩)) (by (first | assumption | omega | ((try dsimp only [jt2, jt3, jt4]); first | omega | (simp (disch := omega) only [jst_eq, jst_ne, jst_ni, jst_o, jI_i, jcpy_out, w32_id, jdiv_nn, jshr_k, jand_255] <;> first | done | omega | assumption)) | (intros; simp (disch := omega) only [jst_eq, jst_ne, jst_ni, jst_o, jI_i, jcpy_out, w32_id, jdiv_nn, *] <;> first | done | omega) | (intros; simp (disch := omega) only [jst_eq, jst_ne, jst_ni, jst_o, jI_i, jcpy_out, w32_id, jdiv_nn] at * <;> first | done | omega | assumption) | (intros; first | rfl | (exfalso; omega) | ((repeat' apply And.intro) <;> first | assumption | rfl | omega | trivial)))) (by (first | assumption | omega | ((try dsimp only [jt2, jt3, jt4]); first | omega | (simp (disch := omega) only [jst_eq, jst_ne, jst_ni, jst_o, jI_i, jcpy_out, w32_id, jdiv_nn, jshr_k, jand_255] <;> first | done | omega | assumption)) | (intros; simp (disch := omega) only [jst_eq, jst_ne, jst_ni, jst_o, jI_i, jcpy_out, w32_id, jdiv_nn, *] <;> first | done | omega) | (intros; simp (disch := omega) only [jst_eq, jst_ne, jst_ni, jst_o, jI_i, jcpy_out, w32_id, jdiv_nn] at * <;> first | done | omega | assumption) | (intros; first | rfl | (exfalso; omega) | ((repeat' apply And.intro) <;> first | assumption | rfl | omega | trivial)))) (by (first | assumption | omega | ((try dsimp only [jt2, jt3, jt4]); first | omega | (simp (disch := omega) only [jst_eq, jst_ne, jst_ni, jst_o, jI_i, jcpy_out, w32_id, jdiv_nn, jshr_k, jand_255] <;> first | done | omega | assumption)) | (intros; simp (disch := omega) only [jst_eq, jst_ne, jst_ni, jst_o, jI_i, jcpy_out, w32_id, jdiv_nn, *] <;> first | done | omega) | (intros; simp (disch := omega) only [jst_eq, jst_ne, jst_ni, jst_o, jI_i, jcpy_out, w32_id, jdiv_nn] at * <;> first | done | omega | assumption) | (intros; first | rfl | (exfalso; omega) | ((repeat' apply And.intro) <;> first | assumption | rfl | omega | trivial))))) (fun t58 v59 h60 r1 => ?_)
    try dsimp only [Sum.elim_inl, Sum.elim_inr, jt2, jt3, jt4, jt5, jt6, jt7, jt8] at r1
    have pm1 := r1
    clear r1
    try simp (disch := omega) only [jst_eq, jst_ne, jst_ni, jI_i, jcmp_lt, jcmp_gt, w32_id, jcpy_out, Sum.elim_inl, Sum.elim_inr, jt2, jt3, jt4, jt5, jt6, jt7, jt8] at pm1
    refine OK_jq (fun c1 => ?_) (fun c1 => ?_)
    · skip
      obtain ⟨z, er, tz, mf, fz, tp1, tp2⟩ := pm_l pm1 c1
      refine OK_ir ?_
      (show (∃ z, pKs B n (pT B n sk d) 2002 [] q2 = .inl z ∧ t58 = 472 ∧ MF z h60 ∧ frM i6 h0 h60 ∧ i6 + 1 ≤ h60 454 17 ∧ 2 * (h60 454 17 - (i6 + 1)) ≤ n - q2 + 1); exact ⟨z, by rw [eq]; exact pKs_l er, tz, mf, frM_tr (N' := h 454 17) (by omega) tp1 s9 fz, by omega, by omega⟩) -- o5 e1
    · skip
      obtain ⟨T, q1, er, f, m1, qq, hv, tp, s2', rw'⟩ := pm_r pm1 c1
      have zt := sz_pos T
      have q1n := m1.2.2.2
      have e465 : h60 465 i6 = h 465 i6 := f _ _ (by omega) (by omega) (by omega) (by omega)
      refine OK_jb (vX14_addKid _ _ (by (first | assumption | omega | ((try dsimp only [jt2, jt3, jt4]); first | omega | (simp (disch := omega) only [jst_eq, jst_ne, jst_ni, jst_o, jI_i, jcpy_out, w32_id, jdiv_nn, jshr_k, jand_255] <;> first | done | omega | assumption)) | (intros; simp (disch := omega) only [jst_eq, jst_ne, jst_ni, jst_o, jI_i, jcpy_out, w32_id, jdiv_nn, *] <;> first | done | omega) | (intros; simp (disch := omega) only [jst_eq, jst_ne, jst_ni, jst_o, jI_i, jcpy_out, w32_id, jdiv_nn] at * <;> first | done | omega | assumption) | (intros; first | rfl | (exfalso; omega) | ((repeat' apply And.intro) <;> first | assumption | rfl | omega | trivial))))) (fun h63 r2 => ?_)
      try dsimp only [Sum.elim_inl, Sum.elim_inr, jt2, jt3, jt4, jt5, jt6, jt7, jt8] at r2
      obtain ⟨n2, k2, x2, fr2⟩ := r2
      try simp (disch := omega) only [jst_eq, jst_ne, jst_ni, jI_i, jcmp_lt, jcmp_gt, w32_id, jcpy_out, Sum.elim_inl, Sum.elim_inr, jt2, jt3, jt4, jt5, jt6, jt7, jt8] at n2
      try simp (disch := omega) only [jst_eq, jst_ne, jst_ni, jI_i, jcmp_lt, jcmp_gt, w32_id, jcpy_out, Sum.elim_inl, Sum.elim_inr, jt2, jt3, jt4, jt5, jt6, jt7, jt8] at k2
      try simp (disch := omega) only [jst_eq, jst_ne, jst_ni, jI_i, jcmp_lt, jcmp_gt, w32_id, jcpy_out, Sum.elim_inl, Sum.elim_inr, jt2, jt3, jt4, jt5, jt6, jt7, jt8] at x2
      try simp (disch := omega) only [jst_eq, jst_ne, jst_ni, jI_i, jcmp_lt, jcmp_gt, w32_id, jcpy_out, Sum.elim_inl, Sum.elim_inr, jt2, jt3, jt4, jt5, jt6, jt7, jt8] at fr2
      have S := stepM ⟨dn.1, dn.2.1⟩ st f m1 qq hv tp s2' rw' n2 k2 x2 fr2
      have t63 := TM_frM t S.2.2.2.2.2.2.2
      have S1 := S.1
      have S17 := S.2.2.1
      have zL : szL (l ++ [T]) = szL l + sz T := by rw [szL_app]; show szL l + (sz T + 0) = _; omega
      have S2 := S.2.2.2.1
      obtain ⟨k', rfl⟩ : ∃ k', k = k' + 1 := ⟨k - 1, by omega⟩
      refine OK_jb3 (vX14_skipSign (B := B) (n := n) (q := q1) _ (by exact t63) (by (first | assumption | omega | ((try dsimp only [jt2, jt3, jt4]); first | omega | (simp (disch := omega) only [jst_eq, jst_ne, jst_ni, jst_o, jI_i, jcpy_out, w32_id, jdiv_nn, jshr_k, jand_255] <;> first | done | omega | assumption)) | (intros; simp (disch := omega) only [jst_eq, jst_ne, jst_ni, jst_o, jI_i, jcpy_out, w32_id, jdiv_nn, *] <;> first | done | omega) | (intros; simp (disch := omega) only [jst_eq, jst_ne, jst_ni, jst_o, jI_i, jcpy_out, w32_id, jdiv_nn] at * <;> first | done | omega | assumption) | (intros; first | rfl | (exfalso; omega) | ((repeat' apply And.intro) <;> first | assumption | rfl | omega | trivial)))) (by exact S1)) (fun t65 v66 h67 r3 => ?_)
      try dsimp only [Sum.elim_inl, Sum.elim_inr, jt2, jt3, jt4, jt5, jt6, jt7, jt8] at r3
      obtain ⟨no3, r3, v13, fr3⟩ := r3
      try simp (disch := omega) only [jst_eq, jst_ne, jst_ni, jI_i, jcmp_lt, jcmp_gt, w32_id, jcpy_out, Sum.elim_inl, Sum.elim_inr, jt2, jt3, jt4, jt5, jt6, jt7, jt8] at no3
      try simp (disch := omega) only [jst_eq, jst_ne, jst_ni, jI_i, jcmp_lt, jcmp_gt, w32_id, jcpy_out, Sum.elim_inl, Sum.elim_inr, jt2, jt3, jt4, jt5, jt6, jt7, jt8] at r3
      try simp (disch := omega) only [jst_eq, jst_ne, jst_ni, jI_i, jcmp_lt, jcmp_gt, w32_id, jcpy_out, Sum.elim_inl, Sum.elim_inr, jt2, jt3, jt4, jt5, jt6, jt7, jt8] at v13
      try simp (disch := omega) only [jst_eq, jst_ne, jst_ni, jI_i, jcmp_lt, jcmp_gt, w32_id, jcpy_out, Sum.elim_inl, Sum.elim_inr, jt2, jt3, jt4, jt5, jt6, jt7, jt8] at fr3
      have e17 : h67 454 17 = h63 454 17 := fr3 _ _ (by omega) (by omega)
      have F7 : frM i6 h0 h67 := fun a s y1 y2 y3 y4 => by rw [fr3 a s (by omega) y2]; exact S.2.2.2.2.2.2.2 a s y1 y2 (by omega) (by omega)
      refine OK_jq (fun c2 => ?_) (fun c2 => ?_)
      · skip
        have cm : isSg B n q1 44 := Classical.byContradiction (fun z => c2 (no3 z).1)
        obtain ⟨z, en, tz, mf⟩ := rM_l (r3 cm) c2
        refine OK_ir ?_
        (show (∃ z, pKs B n (pT B n sk d) 2002 [] q2 = .inl z ∧ t65 = 472 ∧ MF z h67 ∧ frM i6 h0 h67 ∧ i6 + 1 ≤ h67 454 17 ∧ 2 * (h67 454 17 - (i6 + 1)) ≤ n - q2 + 1); exact ⟨z, by rw [eq, pKs_c er cm, en]; rfl, tz, mf, F7, by omega, by omega⟩) -- o10 e2
      · skip
        refine OK_if (fun c3 => ?_) (fun c3 => ?_)
        · skip
          try simp (disch := omega) only [jst_eq, jst_ne, jst_ni, jI_i, jcmp_lt, jcmp_gt, w32_id, jcpy_out, Sum.elim_inl, Sum.elim_inr, jt2, jt3, jt4, jt5, jt6, jt7, jt8] at c3
          have cm : ¬ isSg B n q1 44 := fun z => by have := v13 z c2; omega
          refine OK_ir ?_
          (obtain ⟨_, _, e67⟩ := no3 cm; rw [e67]; exact ⟨l ++ [T], q1, by rw [eq]; exact pKs_e er cm, S⟩) -- o11 e3
        · skip
          try simp (disch := omega) only [jst_eq, jst_ne, jst_ni, jI_i, jcmp_lt, jcmp_gt, w32_id, jcpy_out, Sum.elim_inl, Sum.elim_inr, jt2, jt3, jt4, jt5, jt6, jt7, jt8] at c3
          have cm : isSg B n q1 44 := Classical.byContradiction (fun z => c3 (no3 z).2.1)
          obtain ⟨q3, en, m3⟩ := rM_r (r3 cm) c2
          have nr := nx_r hB S1.2.2.1 S1.2.2.2 S1.2.1 (by have := cm.1; omega) en
          refine OK_il ?_ ?_
          · (show ∃ (l : List TR) (k : Nat) (qc : Int), stM B n i6 q2 i h0 l qc 0 h67 ∧ pKs B n (pT B n sk d) 2002 [] q2 = pKs B n (pT B n sk d) (k + 1) l qc ∧ n - qc ≤ k; refine ⟨l ++ [T], k', q3, ⟨m3, by omega, by omega, by omega, ?_, ?_, ?_, F7⟩, ?_, by omega⟩; { have e6 : h67 466 i6 = h63 466 i6 := fr3 _ _ (by omega) (by omega); rw [e6]; exact rawL_ag (lo := i6 + 1) (hi := i6 + 1 + szL (l ++ [T])) ⟨fun a s _ _ _ _ _ _ => fr3 _ _ (by omega) (by omega), fun s _ _ => fr3 _ _ (by omega) (by omega), fun s _ _ => fr3 _ _ (by omega) (by omega)⟩ (fun _ => fr3 _ _ (by omega) (by omega)) (Int.le_refl _) (Int.le_refl _) (Int.le_refl _) (fun k _ _ _ => fr3 _ _ (by omega) (by omega)) S.2.2.2.2.1 }; { rw [fr3 _ _ (by omega) (by omega)]; exact S.2.2.2.2.2.1 }; { exact ndM_ag (lo := i6) (hi := i6 + 1) ⟨fun a s _ _ _ _ _ _ => fr3 _ _ (by omega) (by omega), fun s _ _ => fr3 _ _ (by omega) (by omega), fun s _ _ => fr3 _ _ (by omega) (by omega)⟩ (Int.le_refl _) (by omega) S.2.2.2.2.2.2.1 }; { rw [eq, pKs_c er cm, en]; rfl }) -- o12 e4i
          · (show (9000 - h67 454 17).toNat < (9000 - h 454 17).toNat; omega) -- o13 e4m
  · (show ∃ (l : List TR) (k : Nat) (qc : Int), stM B n i6 q2 i h0 l qc 0 h0 ∧ pKs B n (pT B n sk d) 2002 [] q2 = pKs B n (pT B n sk d) (k + 1) l qc ∧ n - qc ≤ k; exact ⟨[], 2001, q2, ⟨m, Int.le_refl _, by show h0 454 17 = i6 + 1 + 0; omega, by show (2 : Int) * 0 ≤ q2 - q2 + 0; omega, dn.2.2.2.2, dn.2.2.2.1, dn.2.2.1, fun _ _ _ _ _ _ => rfl⟩, rfl, by have := t.2.2.1; have := m.2.2.1; omega⟩) -- o14 init

