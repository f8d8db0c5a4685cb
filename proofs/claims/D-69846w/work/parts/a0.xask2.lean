/-! x: an ask is read, whole -/
theorem kQ_W {B : Int → Int} {n y c : Int} {b : Bool} {R0 R : Int ⊕ Int} {l : List Int} (k : kQ 3 B n b R0 R l y) : (∃ z, bnd R (pW B n c) = .inl z ∧ bS R0 (pKK B n b 3 []) = .inl z) ∨ (∃ q, bS R0 (pKK B n b 3 []) = .inr (l, q) ∧ y = (l.length : Int) ∧ bnd R (pW B n c) = pW B n c q) := by
  unfold kQ at k
  cases e : bS R0 (pKK B n b 3 []) with
  | inl z => rw [e] at k; exact Or.inl ⟨z, by rw [show R = .inl z from k]; rfl, rfl⟩
  | inr x =>
    obtain ⟨l', q⟩ := x
    rw [e] at k
    obtain ⟨k1, k2, k3⟩ := k
    subst k1
    right
    refine ⟨q, rfl, k2, ?_⟩
    rcases k3 with k3 | ⟨k3, k4⟩
    · rw [k3]; rfl
    · rw [k4, kd_W k3]; rfl
def pA5 (B : Int → Int) (n : Int) (ks : List Int) (la q6 : Int) : Int ⊕ ASt := bS (pPcs B n 2002 [] q6) fun x7 => bS (pW B n 59 x7.2) fun q8 => bS (pIts B n 2002 [] q8) fun its => .inr (ks, la, x7.1, its)
def pA2 (B : Int → Int) (n : Int) (ks : List Int) (q3 : Int) : Int ⊕ ASt := if isKd B n q3 then bS (nx B n q3) fun q4 => bS (pW B n 59 q4) fun q5 => bS (pN B n 15827 q5) (pA5 B n ks (kdv B n q3)) else .inl (tS B n q3)
theorem pAsk_e {B : Int → Int} {n q : Int} : pAsk B n q = bS (bS (pN B n 125041 q) (pKK B n true 3 [])) fun x2 => bS (pW B n 256 x2.2) (pA2 B n x2.1) := by
  show (bS (pN B n 125041 q) fun q1 => bS (pKK B n true 3 [] q1) fun x2 => bS (pW B n 256 x2.2) (pA2 B n x2.1)) = _
  cases pN B n 125041 q <;> rfl
theorem vX13_ask_j114 {h : AH} {B : Int → Int} {n A a T la : Int} {E : EV} {ks : List Int} {R : Int ⊕ Int} (hB : ∀ i, 0 ≤ i → i < n → 0 ≤ B i ∧ B i < 256) (st : lwS B n A a T E ks la 0 h) (rd : rdK B n A a ks la 0 h) (z0 : h 441 13 = 0 ∧ h 441 15 = 0) (sx : Sx B n R h) (rm : rmT B n T R h) : OK (gX13_ask_j114 h) (fun h' => (itOx B n A a T E ks la (FK h) (bS (bnd R (pW B n 59)) (pIts B n 2002 [])) h') ∧ (∀ b s, ¬ lwC a T b s → h' b s = h b s)) := by
  have LA : a = 271 ∨ a = 289 := st.2.2.2.1.1
  have eT : T = a + 12 := st.2.2.2.1.2.2
  have FH := st.2.2.2.2.2.2.2.2.2
  have n2 := st.1.2.2
  unfold gX13_ask_j114
  refine OK_jb (vX13_wantB (B := B) (n := n) (A := A) (c := 59) (r := R) _ (by exact st.1) (by exact hB) (by exact sx) (by exact Or.inr ⟨by unfold sgn; omega, rfl⟩)) (fun h24 r1 => ?_)
  try dsimp only [Sum.elim_inl, Sum.elim_inr, jt2, jt3, jt4, jt5, jt6, jt7, jt8] at r1
  obtain ⟨sx1, fr1, br1⟩ := r1
  try simp (disch := omega) only [jst_eq, jst_ne, jst_ni, jI_i, jcmp_lt, jcmp_gt, w32_id, jcpy_out, Sum.elim_inl, Sum.elim_inr, jt2, jt3, jt4, jt5, jt6, jt7, jt8] at sx1
  try simp (disch := omega) only [jst_eq, jst_ne, jst_ni, jI_i, jcmp_lt, jcmp_gt, w32_id, jcpy_out, Sum.elim_inl, Sum.elim_inr, jt2, jt3, jt4, jt5, jt6, jt7, jt8] at fr1
  try simp (disch := omega) only [jst_eq, jst_ne, jst_ni, jI_i, jcmp_lt, jcmp_gt, w32_id, jcpy_out, Sum.elim_inl, Sum.elim_inr, jt2, jt3, jt4, jt5, jt6, jt7, jt8] at br1
  have F24 : f8X h24 := f8X_f FH (fun s y => fr1 _ _ (by omega))
  have K24 : FK h24 = FK h := FK_fr (fr1 _ _ (by omega)) (fr1 _ _ (by omega))
  have L24 : lwS B n A a T E ks la 0 h24 := lwS_f st (fun b s y => fr1 b s (fun z => y (Or.inl ⟨z.1, Or.inl (by omega)⟩))) (by rw [fr1 _ _ (by omega)]; exact st.2.2.2.2.2.2.2.1.2.2) ⟨by rw [fr1 _ _ (by omega)]; exact st.2.2.2.2.2.2.1.1, st.2.2.2.2.2.2.1.2⟩ F24
  have R24 : rdK B n A a ks la 0 h24 := rdK_g rd (fun b s y _ => fr1 b s (by omega)) F24
  have I24 : itI B n A a T E ks la (FK h) (bS (bnd R (pW B n 59)) (pIts B n 2002 [])) h24 := by { obtain ⟨u, u0, u1, u2, u3, u4⟩ := rm; have h0 : h24 T 0 = h T 0 := fr1 _ _ (by omega); refine ⟨bnd R (pW B n 59), [], 2002, rfl, fun q e => ?_, sx1, ⟨L24.1, L24.2.2.1, F24⟩, fun q e => ⟨⟨L24, R24, ⟨by rw [fr1 _ _ (by omega)]; exact z0.1, by rw [fr1 _ _ (by omega)]; exact z0.2⟩, (fun i i12 r er => by cases er), fun i i4 r er => by cases er⟩, ?_, ?_⟩⟩; { rw [e] at sx1; have := (Sx_inr sx1).1.2.2.1; omega }; { obtain ⟨q0, e1, e2⟩ := bndW_le hB sx e; have := u4 q0 e1; exact ⟨u, u0, u1, by omega, by omega, fun q' e' => by cases e'; omega⟩ }; { rw [K24]; show FK h = min (FK h) 1000000; have := FH.2.2; omega } }
  refine OK_jb (vX13_ask_l120 (B := B) (n := n) (A := A) (a := a) (T := T) (la := la) (K := FK h) (E := E) (ks := ks) (W0 := bS (bnd R (pW B n 59)) (pIts B n 2002 [])) (by exact hB) (by exact ⟨n2.1, n2.2.1⟩) (by exact I24)) (fun o25 r2 => ?_)
  try dsimp only [Sum.elim_inl, Sum.elim_inr, jt2, jt3, jt4, jt5, jt6, jt7, jt8] at r2
  obtain ⟨ok2, fr2⟩ := r2
  try simp (disch := omega) only [jst_eq, jst_ne, jst_ni, jI_i, jcmp_lt, jcmp_gt, w32_id, jcpy_out, Sum.elim_inl, Sum.elim_inr, jt2, jt3, jt4, jt5, jt6, jt7, jt8] at ok2
  try simp (disch := omega) only [jst_eq, jst_ne, jst_ni, jI_i, jcmp_lt, jcmp_gt, w32_id, jcpy_out, Sum.elim_inl, Sum.elim_inr, jt2, jt3, jt4, jt5, jt6, jt7, jt8] at fr2
  refine OK_some ?_
  try dsimp only [Sum.elim_inl, Sum.elim_inr, jt2, jt3, jt4, jt5, jt6, jt7, jt8]
  try dsimp only [Sum.elim_inl, Sum.elim_inr, jt2, jt3, jt4, jt5, jt6, jt7, jt8]
  refine ⟨?_, ?_⟩
  · exact ok2 -- o8 e1.1
  · exact fun b s y => (fr2 b s y).trans (fr1 b s (fun z => y (Or.inl ⟨z.1, Or.inl (by omega)⟩))) -- o9 e1.2
/-- what an ask's reader has at its start -/
def akP (B : Int → Int) (n A a T : Int) (E : EV) (h : AH) : Prop := TX B n A h ∧ actX h E.1.1 E.1.2.1 E.1.2.2.1 E.1.2.2.2.1 E.1.2.2.2.2 ∧ Od h ∧ (isAk a ∧ h 441 20 = a ∧ T = a + 12) ∧ (h 441 17 = T ∧ h 441 14 = 0 ∧ h 441 16 = 0 ∧ h 441 13 = 0 ∧ h 441 15 = 0) ∧ (h a 3 = 0 ∧ h a 8 = 0 ∧ h a 11 = 0 ∧ h T 0 = 0) ∧ (arP h a ∧ (h (a + 6) (-2) = 101 ∧ h (a + 6) (-1) = 36) ∧ h (a + 7) (-2) = 101 ∧ h (a + 7) (-1) = 12) ∧ (capT h T 2200 ∧ h (T + 3) (-2) = 101) ∧ f8X h ∧ FK h = 1000000
theorem akP_f {B : Int → Int} {n A a T : Int} {E : EV} {h h' : AH} (x : akP B n A a T E h) (f : ∀ b s, ¬ (b = 441 ∧ ((2 ≤ s ∧ s ≤ 7) ∨ s = 18)) → ¬ (b = a ∧ (s = 1 ∨ s = 2)) → ¬ (b = a + 1 ∧ 0 ≤ s) → h' b s = h b s) : akP B n A a T E h' := by
  obtain ⟨x1, x2, x3, ⟨x4, x5, x6⟩, ⟨x7, x8, x9, x10, x11⟩, ⟨x12, x13, x14, x15⟩, ⟨x16, x17, x18⟩, ⟨x19, x20⟩, x21, x22⟩ := x
  have LA : a = 271 ∨ a = 289 := x4
  have ta := x1.2.2.2.2
  refine ⟨TX_fr x1 (f _ _ (by omega) (by omega) (by omega)) (f _ _ (by omega) (by omega) (by omega)) (fun s => f _ _ (by omega) (by omega) (by omega)), actX_fr x2 (fun b s y => f b s (by unfold actC at y; omega) (by unfold actC at y; omega) (by unfold actC at y; omega)), Od_fr x3 (fun b i b0 b1 => f _ _ (by omega) (by omega) (by omega)), ⟨x4, by rw [f _ _ (by omega) (by omega) (by omega)]; exact x5, x6⟩, ⟨by rw [f _ _ (by omega) (by omega) (by omega)]; exact x7, by rw [f _ _ (by omega) (by omega) (by omega)]; exact x8, by rw [f _ _ (by omega) (by omega) (by omega)]; exact x9, by rw [f _ _ (by omega) (by omega) (by omega)]; exact x10, by rw [f _ _ (by omega) (by omega) (by omega)]; exact x11⟩, ⟨by rw [f _ _ (by omega) (by omega) (by omega)]; exact x12, by rw [f _ _ (by omega) (by omega) (by omega)]; exact x13, by rw [f _ _ (by omega) (by omega) (by omega)]; exact x14, by rw [f _ _ (by omega) (by omega) (by omega)]; exact x15⟩, ⟨?_, ?_, ?_⟩, ⟨capT_fr x19 (fun c c0 c1 => f _ _ (by omega) (by omega) (by omega)), by rw [f _ _ (by omega) (by omega) (by omega)]; exact x20⟩, f8X_f x21 (fun s y => f _ _ (by omega) (by omega) (by omega)), by rw [FK_fr (f _ _ (by omega) (by omega) (by omega)) (f _ _ (by omega) (by omega) (by omega))]; exact x22⟩
  · unfold arP at x16 ⊢
    rw [f _ _ (by omega) (by omega) (by omega), f _ _ (by omega) (by omega) (by omega), f _ _ (by omega) (by omega) (by omega), f _ _ (by omega) (by omega) (by omega)]
    exact x16
  · rw [f _ _ (by omega) (by omega) (by omega), f _ _ (by omega) (by omega) (by omega)]; exact x17
  · rw [f _ _ (by omega) (by omega) (by omega), f _ _ (by omega) (by omega) (by omega)]; exact x18
/-- an ask that was read, as x keeps it -/
def asR (B : Int → Int) (n A a T : Int) (E : EV) (W : Int ⊕ ASt) (h : AH) : Prop := match W with
  | .inl z => h 441 6 = 1 ∧ h 441 7 = z ∧ f8X h
  | .inr p => h 441 6 = 0 ∧ itA B n A a T E p.1 p.2.1 p.2.2.2 h ∧ pcsX B n E h a p.2.2.1 ∧ h a 3 = ((min p.2.2.1.length 12 : Nat) : Int) ∧ FK h = min 1000000 (fkAs B n E p) ∧ (0 ≤ h T 0 ∧ h T 0 ≤ 2100)
def asC (a T b s : Int) : Prop := lwC a T b s ∨ (b = a ∧ 1 ≤ s ∧ s ≤ 3) ∨ (a + 1 ≤ b ∧ b ≤ a + 5 ∧ 0 ≤ s)
theorem pA2_e {B : Int → Int} {n la : Int} {ks : List Int} {R1 : Int ⊕ Int} (v : ∀ q, R1 = .inr q → isKd B n q → la = kdv B n q) : bS R1 (pA2 B n ks) = bS (bS (bnd (bnd (bnd R1 (pKd B n)) (pW B n 59)) (pN B n 15827)) (pPcs B n 2002 [])) fun x7 => bS (bS (pW B n 59 x7.2) (pIts B n 2002 [])) fun its => .inr (ks, la, x7.1, its) := by
  have P5 : ∀ q6, pA5 B n ks la q6 = bS (pPcs B n 2002 [] q6) fun x7 => bS (bS (pW B n 59 x7.2) (pIts B n 2002 [])) fun its => .inr (ks, la, x7.1, its) := fun q6 => by
    unfold pA5
    congr 1
    funext x7
    exact bS_a
  cases R1 with
  | inl z => rfl
  | inr q3 =>
    show pA2 B n ks q3 = bS (bS (bnd (bnd (pKd B n q3) (pW B n 59)) (pN B n 15827)) (pPcs B n 2002 [])) _
    unfold pA2 pKd
    by_cases g : isKd B n q3
    · rw [if_pos g, if_pos g, ← v q3 rfl g]
      cases nx B n q3 with
      | inl z => rfl
      | inr q4 =>
        show (bS (pW B n 59 q4) fun q5 => bS (pN B n 15827 q5) (pA5 B n ks la)) = bS (bS (bnd (pW B n 59 q4) (pN B n 15827)) (pPcs B n 2002 [])) _
        cases pW B n 59 q4 with
        | inl z => rfl
        | inr q5 =>
          show bS (pN B n 15827 q5) (pA5 B n ks la) = bS (bS (pN B n 15827 q5) (pPcs B n 2002 [])) _
          cases pN B n 15827 q5 with
          | inl z => rfl
          | inr q6 => exact P5 q6
    · rw [if_neg g, if_neg g]; rfl
theorem pPcs_w {B : Int → Int} {n : Int} {R4 : Int ⊕ Int} {P : Int ⊕ ((Int × Int) × Int)} (e : bS R4 (pPc B n) = P) : (∀ z, P = .inl z → bS R4 (pPcs B n 2002 []) = .inl z) ∧ ∀ p q, P = .inr (p, q) → (comma B n q → bS R4 (pPcs B n 2002 []) = bS (nx B n q) (pPcs B n 2001 [p])) ∧ (¬ comma B n q → bS R4 (pPcs B n 2002 []) = .inr ([p], q)) := by
  cases R4 with
  | inl z0 => exact ⟨fun z ez => by rw [ez] at e; cases e; rfl, fun p q ep => by rw [ep] at e; cases e⟩
  | inr q0 =>
    have e : pPc B n q0 = P := e
    exact ⟨fun z ez => pPcs_l (e.trans ez), fun p q ep => pPcs_r (k := 2001) (l := []) (e.trans ep)⟩
theorem pc_st {B : Int → Int} {n A a : Int} {E : EV} {R4 : Int ⊕ Int} {h18 h20 : AH} (hB : ∀ i, 0 ≤ i → i < n → 0 ≤ B i ∧ B i < 256) (LA : a = 271 ∨ a = 289) (Q : pcQ B n A a E [] h18) (S : Sx B n R4 h18) (K : FK h18 = 1000000) (po : poY B n a E [] (FK h18) (bS R4 (pPc B n)) h20) (fr : frPc a h18 h20) : ∃ l0, ((∃ z, bS R4 (pPcs B n 2002 []) = .inl z ∧ Sx B n (.inl z) h20 ∧ f8X h20) ∨ (∃ q, (comma B n q → bS R4 (pPcs B n 2002 []) = bS (nx B n q) (pPcs B n 2001 l0)) ∧ (¬ comma B n q → bS R4 (pPcs B n 2002 []) = .inr (l0, q)) ∧ 2002 ≤ ((2001 : Nat) : Int) + q + 1 ∧ pcQ B n A a E l0 h20 ∧ Sx B n (.inr q) h20 ∧ FK h20 = min 1000000 (pkL B n E [] l0) ∧ pcO B n l0 q ∧ l0 ≠ [])) ∧ (TX B n A h20 ∧ isAk a) := by
  obtain ⟨x1, x2, x3, ⟨x4, x5, x6, x7⟩, x8, x9⟩ := Q
  have ta := x1.2.2.2.2
  have F : ∀ b s, ¬ (b = 441 ∧ ((2 ≤ s ∧ s ≤ 9) ∨ s = 18)) → ¬ (b = a ∧ s = 3) → ¬ (a + 2 ≤ b ∧ b ≤ a + 5 ∧ 0 ≤ s ∧ s < 12) → h20 b s = h18 b s := fr
  have T20 : TX B n A h20 := TX_fr x1 (F _ _ (by omega) (by omega) (by omega)) (F _ _ (by omega) (by omega) (by omega)) (fun s => F _ _ (by omega) (by omega) (by omega))
  obtain ⟨F20, PO⟩ := po
  cases e : bS R4 (pPc B n) with
  | inl z =>
    rw [e] at PO
    exact ⟨[], Or.inl ⟨z, (pPcs_w e).1 z rfl, PO, F20⟩, T20, LA⟩
  | inr y =>
    obtain ⟨p, q1⟩ := y
    rw [e] at PO
    obtain ⟨y1, y2, y3, y4⟩ := PO
    obtain ⟨q0, e0, ep⟩ := bS_r e
    rw [e0] at S
    have nb := Sx_inr S
    obtain ⟨z1, z2, z3, z4, z5, z6, z7⟩ := pPc_r hB nb.1.2.2.1 nb.1.2.2.2 nb.2 ep
    have W := (pPcs_w e).2 p q1 rfl
    have NB1 := Sx_inr y1
    have TS := tE_r hB nb.1.2.2.1 nb.1.2.2.2 nb.2
    have TS2 := TS.2.2.2 z7
    have hnx : q1 ≥ tE B n q0 := by
      have g := ep
      rw [pPc_e, if_pos z6] at g
      obtain ⟨r2, e2, g⟩ := bS_r g
      have n2 := nx_r hB nb.1.2.2.1 nb.1.2.2.2 nb.2 z7 e2
      have g2 := pPq_r hB (by have := nb.1.2.2.1; omega) n2.2.2.1 n2.2.2.2 g
      omega
    refine ⟨[p], Or.inr ⟨q1, W.1, W.2, by have := NB1.1.2.2.1; omega, ⟨T20, actX_fr x2 (fun b s z => F b s (by unfold actC at z; omega) (by unfold actC at z; omega) (by unfold actC at z; omega)), Od_fr x3 (fun b i b0 b1 => F b i (by omega) (by omega) (by omega)), ⟨LA, by rw [F _ _ (by omega) (by omega) (by omega)]; exact x5, y4, ?_⟩, y3, F20⟩, y1, ?_, fun u hu => ?_, fun z => by cases z⟩, T20, LA⟩
    · unfold arP at x7 ⊢
      rw [F _ _ (by omega) (by omega) (by omega), F _ _ (by omega) (by omega) (by omega), F _ _ (by omega) (by omega) (by omega), F _ _ (by omega) (by omega) (by omega)]
      exact x7
    · rw [y2, K]
      show min 1000000 (pk1 B n E [] p.1) = min 1000000 (min (pk1 B n E [] p.1) 1000000)
      omega
    · have eu : u = p := List.mem_singleton.mp hu
      rw [eu, z1]
      exact ⟨nb.1.2.2.1, z2, by omega, nb.2, z6, z5⟩
theorem akP_lw {B : Int → Int} {n A a T la : Int} {E : EV} {ks : List Int} {h h' : AH} (x : akP B n A a T E h) (c1 : h a 1 = (ks.length : Int) ∧ 1 ≤ ks.length ∧ ks.length ≤ 3 ∧ ∀ k, 0 ≤ k → k < (ks.length : Int) → h (a + 1) k = kL ks k ∧ 0 ≤ kL ks k ∧ kL ks k ≤ 2) (c2 : h a 2 = la ∧ 0 ≤ la ∧ la ≤ 2) (fr : frPc a h h') (g : f8X h') : lwS B n A a T E ks la 0 h' ∧ rdK B n A a ks la 0 h' ∧ (h' 441 13 = 0 ∧ h' 441 15 = 0) ∧ h' T 0 = 0 := by
  obtain ⟨x1, x2, x3, ⟨x4, x5, x6⟩, ⟨x7, x8, x9, x10, x11⟩, ⟨x12, x13, x14, x15⟩, ⟨x16, x17, x18⟩, ⟨x19, x20⟩, x21, x22⟩ := x
  have LA : a = 271 ∨ a = 289 := x4
  have ta := x1.2.2.2.2
  have F : ∀ b s, ¬ (b = 441 ∧ ((2 ≤ s ∧ s ≤ 9) ∨ s = 18)) → ¬ (b = a ∧ s = 3) → ¬ (a + 2 ≤ b ∧ b ≤ a + 5 ∧ 0 ≤ s ∧ s < 12) → h' b s = h b s := fr
  have L : lwS B n A a T E ks la 0 h' := ⟨TX_fr x1 (F _ _ (by omega) (by omega) (by omega)) (F _ _ (by omega) (by omega) (by omega)) (fun s => F _ _ (by omega) (by omega) (by omega)), actX_fr x2 (fun b s y => F b s (by unfold actC at y; omega) (by unfold actC at y; omega) (by unfold actC at y; omega)), Od_fr x3 (fun b i b0 b1 => F _ _ (by omega) (by omega) (by omega)), ⟨x4, by rw [F _ _ (by omega) (by omega) (by omega)]; exact x5, x6⟩, ⟨by rw [F _ _ (by omega) (by omega) (by omega)]; exact c1.1, c1.2.1, c1.2.2.1, fun k k0 k1 => by rw [F _ _ (by omega) (by omega) (by omega)]; exact (c1.2.2.2 k k0 k1).1⟩, by rw [F _ _ (by omega) (by omega) (by omega)]; exact c2, ⟨by rw [F _ _ (by omega) (by omega) (by omega)]; exact x14, by omega, by omega⟩, ⟨by rw [F _ _ (by omega) (by omega) (by omega)]; exact x7, by rw [F _ _ (by omega) (by omega) (by omega)]; exact x8, by rw [F _ _ (by omega) (by omega) (by omega)]; exact x9⟩, ⟨capT_fr x19 (fun c c0 c1 => F _ _ (by omega) (by omega) (by omega)), by rw [F _ _ (by omega) (by omega) (by omega)]; exact x20⟩, g⟩
  refine ⟨L, rdK_of L (fun k k0 k1 => (c1.2.2.2 k k0 k1).2) ⟨by rw [F _ _ (by omega) (by omega) (by omega)]; exact x13, by omega, by omega⟩ ?_, ⟨by rw [F _ _ (by omega) (by omega) (by omega)]; exact x10, by rw [F _ _ (by omega) (by omega) (by omega)]; exact x11⟩, by rw [F _ _ (by omega) (by omega) (by omega)]; exact x15⟩
  rw [F _ _ (by omega) (by omega) (by omega), F _ _ (by omega) (by omega) (by omega), F _ _ (by omega) (by omega) (by omega), F _ _ (by omega) (by omega) (by omega)]
  exact ⟨x17, x18⟩
theorem asR_of {B : Int → Int} {n A a T la : Int} {E : EV} {ks : List Int} {W : Int ⊕ (List (Int × Int) × Int)} {o21 h' : AH} (LA : a = 271 ∨ a = 289) (eT : T = a + 12) (ok6 : (∃ z, W = .inl z ∧ Sx B n (.inl z) o21 ∧ f8X o21) ∨ (∃ q l, W = .inr (l, q) ∧ pcQ B n A a E l o21 ∧ Sx B n (.inr q) o21 ∧ FK o21 = min 1000000 (pkL B n E [] l) ∧ pcO B n l q ∧ l ≠ [])) (ok7 : itOx B n A a T E ks la (FK o21) (bS (bnd (sRp W) (pW B n 59)) (pIts B n 2002 [])) h') (fr : ∀ b s, ¬ lwC a T b s → h' b s = o21 b s) : asR B n A a T E (bS W fun x7 => bS (bS (pW B n 59 x7.2) (pIts B n 2002 [])) fun its => .inr (ks, la, x7.1, its)) h' := by
  cases W with
  | inl z => exact ok7
  | inr x =>
    obtain ⟨l, q⟩ := x
    rcases ok6 with ⟨z, e, _⟩ | ⟨q', l', e, P, S, K, _, _⟩
    · cases e
    · cases e
      have ok7 : itOx B n A a T E ks la (FK o21) (bS (pW B n 59 q) (pIts B n 2002 [])) h' := ok7
      show asR B n A a T E (bS (bS (pW B n 59 q) (pIts B n 2002 [])) fun its => .inr (ks, la, l, its)) h'
      cases e : bS (pW B n 59 q) (pIts B n 2002 []) with
      | inl z => rw [e] at ok7; exact ok7
      | inr its =>
        rw [e] at ok7
        obtain ⟨o1, o2, o3, o4⟩ := ok7
        have F : ∀ b s, ¬ ((b = 441 ∧ ((2 ≤ s ∧ s ≤ 9) ∨ s = 13 ∨ s = 15 ∨ s = 16 ∨ s = 18)) ∨ (442 ≤ b ∧ b ≤ 445 ∧ 0 ≤ s) ∨ (T ≤ b ∧ b ≤ T + 5 ∧ 0 ≤ s) ∨ (b = a ∧ (s = 8 ∨ s = 11)) ∨ (a + 6 ≤ b ∧ b ≤ a + 11 ∧ 0 ≤ s)) → h' b s = o21 b s := fr
        refine ⟨o1, o2, pcsX_f P.2.2.2.2.1 (fun b s b0 b1 s0 s1 => F _ _ (by omega)), by rw [F _ _ (by omega)]; exact P.2.2.2.1.2.2.1, ?_, o4⟩
        rw [o3, K, Int.min_assoc]
        rfl
theorem vX13_ask_j52 (a1 : Int) (a2 : Int) {h : AH} {B : Int → Int} {n A T : Int} {E : EV} {ks : List Int} {R : Int ⊕ Int} (hB : ∀ i, 0 ≤ i → i < n → 0 ≤ B i ∧ B i < 256) (st : akP B n A a1 T E h) (sx : Sx B n R h) (kk : (ks.length : Int) = a2 ∧ 1 ≤ a2 ∧ a2 ≤ 3 ∧ ∀ k, 0 ≤ k → k < a2 → h (a1 + 1) k = kL ks k ∧ 0 ≤ kL ks k ∧ kL ks k ≤ 2) : OK (gX13_ask_j52 a1 a2 h) (fun h' => (asR B n A a1 T E (bS (bnd R (pW B n 256)) (pA2 B n ks)) h') ∧ (∀ b s, ¬ asC a1 T b s → h' b s = h b s)) := by
  have LA : a1 = 271 ∨ a1 = 289 := st.2.2.2.1.1
  have eT : T = a1 + 12 := st.2.2.2.1.2.2
  have nn := st.1.2.2
  have FH := st.2.2.2.2.2.2.2.2
  unfold gX13_ask_j52
  refine OK_jb (vX13_wantB (B := B) (n := n) (A := A) _ (by exact st.1) (by exact hB) (by exact sx) (by exact Or.inl ⟨rfl, rfl⟩)) (fun h9 r1 => ?_)
  try dsimp only [Sum.elim_inl, Sum.elim_inr, jt2, jt3, jt4, jt5, jt6, jt7, jt8] at r1
  obtain ⟨sx1, fr1, br1⟩ := r1
  try simp (disch := omega) only [jst_eq, jst_ne, jst_ni, jI_i, jcmp_lt, jcmp_gt, w32_id, jcpy_out, Sum.elim_inl, Sum.elim_inr, jt2, jt3, jt4, jt5, jt6, jt7, jt8] at sx1
  try simp (disch := omega) only [jst_eq, jst_ne, jst_ni, jI_i, jcmp_lt, jcmp_gt, w32_id, jcpy_out, Sum.elim_inl, Sum.elim_inr, jt2, jt3, jt4, jt5, jt6, jt7, jt8] at fr1
  try simp (disch := omega) only [jst_eq, jst_ne, jst_ni, jI_i, jcmp_lt, jcmp_gt, w32_id, jcpy_out, Sum.elim_inl, Sum.elim_inr, jt2, jt3, jt4, jt5, jt6, jt7, jt8] at br1
  refine OK_jl ?_
  have F10 : ∀ b s, ¬ (b = a1 ∧ s = 1) → jst h9 a1 1 a2 b s = h9 b s := fun b s y => jst_o y
  have V10 : jst h9 a1 1 a2 a1 1 = a2 := jst_eq
  generalize jst h9 a1 1 a2 = g10 at *
  have G10 : ∀ b s, ¬ (b = 441 ∧ 2 ≤ s ∧ s ≤ 7) → ¬ (b = a1 ∧ s = 1) → g10 b s = h b s := fun b s y1 y2 => (F10 b s y2).trans (fr1 b s y1)
  have A10 : akP B n A a1 T E g10 := akP_f st (fun b s y1 y2 y3 => G10 b s (by omega) (by omega))
  obtain ⟨R1, eR1⟩ : ∃ x, x = bnd R (pW B n 256) := ⟨_, rfl⟩
  refine OK_jb2 (vX13_kind (B := B) (n := n) (A := A) (R := R1) (by exact A10.1) (by exact hB) (by (rw [eR1]; exact Sx_fr sx1 (fun s s0 s1 => F10 _ _ (by omega)))) (by exact A10.2.2.1)) (fun v12 h13 r2 => ?_)
  try dsimp only [Sum.elim_inl, Sum.elim_inr, jt2, jt3, jt4, jt5, jt6, jt7, jt8] at r2
  obtain ⟨sx2, rg2, v2, fr2⟩ := r2
  try simp (disch := omega) only [jst_eq, jst_ne, jst_ni, jI_i, jcmp_lt, jcmp_gt, w32_id, jcpy_out, Sum.elim_inl, Sum.elim_inr, jt2, jt3, jt4, jt5, jt6, jt7, jt8] at sx2
  try simp (disch := omega) only [jst_eq, jst_ne, jst_ni, jI_i, jcmp_lt, jcmp_gt, w32_id, jcpy_out, Sum.elim_inl, Sum.elim_inr, jt2, jt3, jt4, jt5, jt6, jt7, jt8] at rg2
  try simp (disch := omega) only [jst_eq, jst_ne, jst_ni, jI_i, jcmp_lt, jcmp_gt, w32_id, jcpy_out, Sum.elim_inl, Sum.elim_inr, jt2, jt3, jt4, jt5, jt6, jt7, jt8] at v2
  try simp (disch := omega) only [jst_eq, jst_ne, jst_ni, jI_i, jcmp_lt, jcmp_gt, w32_id, jcpy_out, Sum.elim_inl, Sum.elim_inr, jt2, jt3, jt4, jt5, jt6, jt7, jt8] at fr2
  refine OK_jl ?_
  have F14 : ∀ b s, ¬ (b = a1 ∧ s = 2) → jst h13 a1 2 v12 b s = h13 b s := fun b s y => jst_o y
  have V14 : jst h13 a1 2 v12 a1 2 = v12 := jst_eq
  generalize jst h13 a1 2 v12 = g14 at *
  have G14 : ∀ b s, ¬ (b = 441 ∧ 2 ≤ s ∧ s ≤ 7) → ¬ (b = a1 ∧ (s = 1 ∨ s = 2)) → g14 b s = h b s := fun b s y1 y2 => (F14 b s (by omega)).trans ((fr2 b s y1).trans (G10 b s y1 (by omega)))
  have A14 : akP B n A a1 T E g14 := akP_f st (fun b s y1 y2 y3 => G14 b s (by omega) (by omega))
  refine OK_jb (vX13_wantB (B := B) (n := n) (A := A) _ (by exact A14.1) (by exact hB) (by exact Sx_fr sx2 (fun s s0 s1 => F14 _ _ (by omega))) (by exact Or.inr ⟨by unfold sgn; omega, rfl⟩)) (fun h16 r3 => ?_)
  try dsimp only [Sum.elim_inl, Sum.elim_inr, jt2, jt3, jt4, jt5, jt6, jt7, jt8] at r3
  obtain ⟨sx3, fr3, br3⟩ := r3
  try simp (disch := omega) only [jst_eq, jst_ne, jst_ni, jI_i, jcmp_lt, jcmp_gt, w32_id, jcpy_out, Sum.elim_inl, Sum.elim_inr, jt2, jt3, jt4, jt5, jt6, jt7, jt8] at sx3
  try simp (disch := omega) only [jst_eq, jst_ne, jst_ni, jI_i, jcmp_lt, jcmp_gt, w32_id, jcpy_out, Sum.elim_inl, Sum.elim_inr, jt2, jt3, jt4, jt5, jt6, jt7, jt8] at fr3
  try simp (disch := omega) only [jst_eq, jst_ne, jst_ni, jI_i, jcmp_lt, jcmp_gt, w32_id, jcpy_out, Sum.elim_inl, Sum.elim_inr, jt2, jt3, jt4, jt5, jt6, jt7, jt8] at br3
  refine OK_jb (vX13_word (B := B) (n := n) (A := A) _ (by exact TX_fr A14.1 (fr3 _ _ (by omega)) (fr3 _ _ (by omega)) (fun s => fr3 _ _ (by have := A14.1.2.2.2.2; omega))) (by exact hB) (by exact sx3) (by exact nm_use (Od_fr A14.2.2.1 (fun b i b0 b1 => fr3 _ _ (by omega))))) (fun h18 r4 => ?_)
  try dsimp only [Sum.elim_inl, Sum.elim_inr, jt2, jt3, jt4, jt5, jt6, jt7, jt8] at r4
  obtain ⟨sx4, fr4⟩ := r4
  try simp (disch := omega) only [jst_eq, jst_ne, jst_ni, jI_i, jcmp_lt, jcmp_gt, w32_id, jcpy_out, Sum.elim_inl, Sum.elim_inr, jt2, jt3, jt4, jt5, jt6, jt7, jt8] at sx4
  try simp (disch := omega) only [jst_eq, jst_ne, jst_ni, jI_i, jcmp_lt, jcmp_gt, w32_id, jcpy_out, Sum.elim_inl, Sum.elim_inr, jt2, jt3, jt4, jt5, jt6, jt7, jt8] at fr4
  have G18 : ∀ b s, ¬ (b = 441 ∧ 2 ≤ s ∧ s ≤ 7) → ¬ (b = a1 ∧ (s = 1 ∨ s = 2)) → h18 b s = h b s := fun b s y1 y2 => (fr4 b s y1).trans ((fr3 b s y1).trans (G14 b s y1 y2))
  have A18 : akP B n A a1 T E h18 := akP_f st (fun b s y1 y2 y3 => G18 b s (by omega) (by omega))
  have C18 : h18 a1 1 = a2 ∧ h18 a1 2 = v12 := ⟨by rw [fr4 _ _ (by omega), fr3 _ _ (by omega), F14 _ _ (by omega), fr2 _ _ (by omega)]; exact V10, by rw [fr4 _ _ (by omega), fr3 _ _ (by omega)]; exact V14⟩
  obtain ⟨R4, eR4⟩ : ∃ x, x = bnd (bnd (bnd R1 (pKd B n)) (pW B n 59)) (pN B n 15827) := ⟨_, rfl⟩
  have S18 : Sx B n R4 h18 := by { rw [eR4]; exact sx4 }
  have Q18 : pcQ B n A a1 E [] h18 := ⟨A18.1, A18.2.1, A18.2.2.1, ⟨LA, A18.2.2.2.1.2.1, A18.2.2.2.2.2.1.1, A18.2.2.2.2.2.2.1.1⟩, (fun i i12 p ep => by cases ep), A18.2.2.2.2.2.2.2.2.1⟩
  refine OK_jb (vX13_piece (B := B) (n := n) (A := A) (a := a1) (u := 0) (E := E) (l := []) (R := R4) (by exact hB) (by exact Q18) (by exact S18) (by exact ⟨fun p m => by (cases m), fun q e => by (rw [e] at S18; exact (Sx_inr S18).1.2.2.1)⟩)) (fun h20 r5 => ?_)
  try dsimp only [Sum.elim_inl, Sum.elim_inr, jt2, jt3, jt4, jt5, jt6, jt7, jt8] at r5
  obtain ⟨po5, fr5⟩ := r5
  try simp (disch := omega) only [jst_eq, jst_ne, jst_ni, jI_i, jcmp_lt, jcmp_gt, w32_id, jcpy_out, Sum.elim_inl, Sum.elim_inr, jt2, jt3, jt4, jt5, jt6, jt7, jt8] at po5
  try simp (disch := omega) only [jst_eq, jst_ne, jst_ni, jI_i, jcmp_lt, jcmp_gt, w32_id, jcpy_out, Sum.elim_inl, Sum.elim_inr, jt2, jt3, jt4, jt5, jt6, jt7, jt8] at fr5
  have K18 : FK h18 = 1000000 := A18.2.2.2.2.2.2.2.2.2
  obtain ⟨l0, W0, TA⟩ := pc_st hB LA Q18 S18 K18 po5 fr5
  refine OK_jb (vX13_ask_l87 (B := B) (n := n) (A := A) (a := a1) (K := 1000000) (E := E) (R0 := R4) (l0 := l0) (k0 := 2001) (W := bS R4 (pPcs B n 2002 [])) (by exact hB) (by exact W0) (by exact TA)) (fun o21 r6 => ?_)
  try dsimp only [Sum.elim_inl, Sum.elim_inr, jt2, jt3, jt4, jt5, jt6, jt7, jt8] at r6
  obtain ⟨ok6, fr6⟩ := r6
  try simp (disch := omega) only [jst_eq, jst_ne, jst_ni, jI_i, jcmp_lt, jcmp_gt, w32_id, jcpy_out, Sum.elim_inl, Sum.elim_inr, jt2, jt3, jt4, jt5, jt6, jt7, jt8] at ok6
  try simp (disch := omega) only [jst_eq, jst_ne, jst_ni, jI_i, jcmp_lt, jcmp_gt, w32_id, jcpy_out, Sum.elim_inl, Sum.elim_inr, jt2, jt3, jt4, jt5, jt6, jt7, jt8] at fr6
  have FR21 : frPc a1 h18 o21 := frPc_t fr5 fr6
  have F21 : f8X o21 := by { rcases ok6 with ⟨_, _, _, f⟩ | ⟨_, _, _, p, _⟩; { exact f }; { exact p.2.2.2.2.2 } }
  have S21 : Sx B n (sRp (bS R4 (pPcs B n 2002 []))) o21 := by { rcases ok6 with ⟨z, e, s, _⟩ | ⟨q, l, e, _, s, _⟩; { rw [e]; exact s }; { rw [e]; exact s } }
  obtain ⟨LW, RD, Z0, TZ⟩ := akP_lw (la := v12) (ks := ks) A18 ⟨by rw [C18.1]; exact kk.1.symm, by omega, by omega, fun k k0 k1 => by { rw [G18 _ _ (by omega) (by omega)]; exact kk.2.2.2 k k0 (by omega) }⟩ ⟨C18.2, rg2⟩ FR21 F21
  refine OK_mono (vX13_ask_j114 (B := B) (n := n) (A := A) (a := a1) (T := T) (la := v12) (E := E) (ks := ks) (R := sRp (bS R4 (pPcs B n 2002 []))) (by exact hB) (by exact LW) (by exact RD) (by exact Z0) (by exact S21) (by exact ⟨0, Int.le_refl _, nn.1, by omega, by omega, fun q e => by (rw [e] at S21; exact (Sx_inr S21).1.2.2.1)⟩)) (fun r r7 => ?_)
  try dsimp only [Sum.elim_inl, Sum.elim_inr, jt2, jt3, jt4, jt5, jt6, jt7, jt8] at r7
  obtain ⟨ok7, fr7⟩ := r7
  try simp (disch := omega) only [jst_eq, jst_ne, jst_ni, jI_i, jcmp_lt, jcmp_gt, w32_id, jcpy_out, Sum.elim_inl, Sum.elim_inr, jt2, jt3, jt4, jt5, jt6, jt7, jt8] at ok7
  try simp (disch := omega) only [jst_eq, jst_ne, jst_ni, jI_i, jcmp_lt, jcmp_gt, w32_id, jcpy_out, Sum.elim_inl, Sum.elim_inr, jt2, jt3, jt4, jt5, jt6, jt7, jt8] at fr7
  try dsimp only [Sum.elim_inl, Sum.elim_inr, jt2, jt3, jt4, jt5, jt6, jt7, jt8]
  try dsimp only [Sum.elim_inl, Sum.elim_inr, jt2, jt3, jt4, jt5, jt6, jt7, jt8]
  refine ⟨?_, ?_⟩
  · (have WE : bS (bnd R (pW B n 256)) (pA2 B n ks) = bS (bS R4 (pPcs B n 2002 [])) fun x7 => bS (bS (pW B n 59 x7.2) (pIts B n 2002 [])) fun its => .inr (ks, v12, x7.1, its) := (by rw [← eR1, pA2_e v2, ← eR4]); rw [WE]; exact asR_of LA eT ok6 ok7 fr7) -- o30 e1.1
  · (intro b s y; have y2 : ¬ lwC a1 T b s := (fun z => y (Or.inl z)); have y3 := y; unfold asC at y3; have y4 := y2; unfold lwC at y4; rw [fr7 b s y2]; have e21 : o21 b s = h18 b s := FR21 b s (by omega) (by omega) (by omega); rw [e21]; exact G18 b s (by omega) (by omega)) -- o31 e1.2
theorem vX13_ask (a1 : Int) {h : AH} {B : Int → Int} {n A T : Int} {E : EV} {R : Int ⊕ Int} (hB : ∀ i, 0 ≤ i → i < n → 0 ≤ B i ∧ B i < 256) (st : akP B n A a1 T E (jst h 441 20 a1)) (sx : Sx B n R h) : OK (gX13_ask a1 h) (fun h' => (asR B n A a1 T E (bS R (pAsk B n)) h') ∧ (∀ b s, ¬ asC a1 T b s → ¬ (b = 441 ∧ s = 20) → h' b s = h b s)) := by
  have LA : a1 = 271 ∨ a1 = 289 := st.2.2.2.1.1
  have eT : T = a1 + 12 := st.2.2.2.1.2.2
  unfold gX13_ask
  refine OK_jl ?_
  have F1 : ∀ b s, ¬ (b = 441 ∧ s = 20) → jst h 441 20 a1 b s = h b s := fun b s y => jst_o y
  generalize jst h 441 20 a1 = g1 at *
  refine OK_jb (vX13_word (B := B) (n := n) (A := A) _ (by exact st.1) (by exact hB) (by exact Sx_fr sx (fun s s0 s1 => F1 _ _ (by omega))) (by exact nm_find st.2.2.1)) (fun h3 r1 => ?_)
  try dsimp only [Sum.elim_inl, Sum.elim_inr, jt2, jt3, jt4, jt5, jt6, jt7, jt8] at r1
  obtain ⟨sx1, fr1⟩ := r1
  try simp (disch := omega) only [jst_eq, jst_ne, jst_ni, jI_i, jcmp_lt, jcmp_gt, w32_id, jcpy_out, Sum.elim_inl, Sum.elim_inr, jt2, jt3, jt4, jt5, jt6, jt7, jt8] at sx1
  try simp (disch := omega) only [jst_eq, jst_ne, jst_ni, jI_i, jcmp_lt, jcmp_gt, w32_id, jcpy_out, Sum.elim_inl, Sum.elim_inr, jt2, jt3, jt4, jt5, jt6, jt7, jt8] at fr1
  have A3 : akP B n A a1 T E h3 := akP_f st (fun b s y1 y2 y3 => fr1 b s (by omega))
  refine OK_jb (vX13_ask_l13 (B := B) (n := n) (A := A) (R0 := bnd R (pN B n 125041)) _ _ (by exact hB) (by exact A3.1) (by exact A3.2.2.1) (by exact sx1) (by exact LA) (by rfl)) (fun o4 r2 => ?_)
  obtain ⟨y6, h7⟩ := o4
  refine OK_jt2 ?_
  try dsimp only [Sum.elim_inl, Sum.elim_inr, jt2, jt3, jt4, jt5, jt6, jt7, jt8] at r2
  obtain ⟨rg2, ko2, fr2⟩ := r2
  try simp (disch := omega) only [jst_eq, jst_ne, jst_ni, jI_i, jcmp_lt, jcmp_gt, w32_id, jcpy_out, Sum.elim_inl, Sum.elim_inr, jt2, jt3, jt4, jt5, jt6, jt7, jt8] at rg2
  try simp (disch := omega) only [jst_eq, jst_ne, jst_ni, jI_i, jcmp_lt, jcmp_gt, w32_id, jcpy_out, Sum.elim_inl, Sum.elim_inr, jt2, jt3, jt4, jt5, jt6, jt7, jt8] at ko2
  try simp (disch := omega) only [jst_eq, jst_ne, jst_ni, jI_i, jcmp_lt, jcmp_gt, w32_id, jcpy_out, Sum.elim_inl, Sum.elim_inr, jt2, jt3, jt4, jt5, jt6, jt7, jt8] at fr2
  obtain ⟨R7, ks, S7, KO, LN, KV⟩ := ko2
  have A7 : akP B n A a1 T E h7 := akP_f A3 (fun b s y1 y2 y3 => fr2 b s (by omega) (by omega))
  refine OK_mono (vX13_ask_j52 (B := B) (n := n) (A := A) (T := T) (E := E) (ks := ks) (R := R7) _ _ (by exact hB) (by exact A7) (by exact S7) (by exact ⟨LN, rg2.1, rg2.2, KV⟩)) (fun r r3 => ?_)
  try dsimp only [Sum.elim_inl, Sum.elim_inr, jt2, jt3, jt4, jt5, jt6, jt7, jt8] at r3
  obtain ⟨ok3, fr3⟩ := r3
  try simp (disch := omega) only [jst_eq, jst_ne, jst_ni, jI_i, jcmp_lt, jcmp_gt, w32_id, jcpy_out, Sum.elim_inl, Sum.elim_inr, jt2, jt3, jt4, jt5, jt6, jt7, jt8] at ok3
  try simp (disch := omega) only [jst_eq, jst_ne, jst_ni, jI_i, jcmp_lt, jcmp_gt, w32_id, jcpy_out, Sum.elim_inl, Sum.elim_inr, jt2, jt3, jt4, jt5, jt6, jt7, jt8] at fr3
  try dsimp only [Sum.elim_inl, Sum.elim_inr, jt2, jt3, jt4, jt5, jt6, jt7, jt8]
  try dsimp only [Sum.elim_inl, Sum.elim_inr, jt2, jt3, jt4, jt5, jt6, jt7, jt8]
  refine ⟨?_, ?_⟩
  · (have W0 : bS R (pAsk B n) = bS (bS (bnd R (pN B n 125041)) (pKK B n true 3 [])) fun x2 => bS (pW B n 256 x2.2) (pA2 B n x2.1) := (by cases R with | inl z => rfl | inr q => exact pAsk_e); rw [W0]; rcases kQ_W (c := 256) KO with ⟨z, e1, e2⟩ | ⟨q, e1, e2, e3⟩; { rw [e1] at ok3; rw [e2]; exact ok3 }; { rw [e3] at ok3; rw [e1]; exact ok3 }) -- o15 e1.1
  · (intro b s y1 y2; have y3 := y1; unfold asC lwC at y3; rw [fr3 b s y1, fr2 b s (by omega) (by omega), fr1 b s (by omega)]; exact F1 b s y2) -- o16 e1.2

