/-! x: pieces by commas; a row is read -/
theorem pPcs_l {B : Int → Int} {n z q : Int} {k : Nat} {l : List (Int × Int)} (e : pPc B n q = .inl z) : pPcs B n (k + 1) l q = .inl z := by
  show (match pPc B n q with | .inl z => (.inl z : Int ⊕ (List (Int × Int) × Int)) | .inr (p, q1) => if comma B n q1 then (match nx B n q1 with | .inl z => .inl z | .inr q2 => pPcs B n k (l ++ [p]) q2) else .inr (l ++ [p], q1)) = _
  rw [e]
theorem pPcs_r {B : Int → Int} {n q q1 : Int} {k : Nat} {l : List (Int × Int)} {p : Int × Int} (e : pPc B n q = .inr (p, q1)) : (comma B n q1 → pPcs B n (k + 1) l q = bS (nx B n q1) (pPcs B n k (l ++ [p]))) ∧ (¬ comma B n q1 → pPcs B n (k + 1) l q = .inr (l ++ [p], q1)) := by
  have w : pPcs B n (k + 1) l q = if comma B n q1 then (match nx B n q1 with | .inl z => (.inl z : Int ⊕ (List (Int × Int) × Int)) | .inr q2 => pPcs B n k (l ++ [p]) q2) else .inr (l ++ [p], q1) := by
    show (match pPc B n q with | .inl z => (.inl z : Int ⊕ (List (Int × Int) × Int)) | .inr (p, q1) => if comma B n q1 then (match nx B n q1 with | .inl z => .inl z | .inr q2 => pPcs B n k (l ++ [p]) q2) else .inr (l ++ [p], q1)) = _
    rw [e]
  refine ⟨fun c => ?_, fun c => ?_⟩
  · rw [w, if_pos c]; cases nx B n q1 <;> rfl
  · rw [w, if_neg c]
theorem pkL_app {B : Int → Int} {n : Int} {E : EV} {p : Int × Int} : ∀ (l0 l : List (Int × Int)), pkL B n E l0 (l ++ [p]) = min (pkL B n E l0 l) (pk1 B n E (l0 ++ l) p.1)
  | l0, [] => by
    show min (pk1 B n E l0 p.1) 1000000 = min 1000000 (pk1 B n E (l0 ++ []) p.1)
    rw [List.append_nil]; omega
  | l0, u :: l => by
    show min (pk1 B n E l0 u.1) (pkL B n E (l0 ++ [u]) (l ++ [p])) = min (min (pk1 B n E l0 u.1) (pkL B n E (l0 ++ [u]) l)) (pk1 B n E (l0 ++ u :: l) p.1)
    rw [pkL_app (l0 ++ [u]) l, List.append_assoc]
    show min (pk1 B n E l0 u.1) (min (pkL B n E (l0 ++ [u]) l) (pk1 B n E (l0 ++ u :: l) p.1)) = _
    omega
theorem pPq_r {B : Int → Int} {n q r q1 : Int} {p : Int × Int} (hB : ∀ i, 0 ≤ i → i < n → 0 ≤ B i ∧ B i < 256) (r0 : 0 ≤ r) (rn : r ≤ n) (o5 : tO B n r ≠ 5) (w : pPq B n q r = .inr (p, q1)) : p.1 = q ∧ r ≤ q1 ∧ q1 ≤ n ∧ tO B n q1 ≠ 5 ∧ 1 ≤ p.2 ∧ p.2 ≤ 9 := by
  unfold pPq at w
  by_cases c : isSg B n r 58
  · rw [if_pos c] at w
    obtain ⟨q2, e2, w⟩ := bS_r w
    have n2 := nx_r hB r0 rn o5 (by rw [c.1]; decide) e2
    unfold pPr at w
    by_cases d : tO B n q2 = 2 ∧ 1 ≤ tV B n q2 ∧ tV B n q2 ≤ 9
    · rw [if_pos d] at w
      obtain ⟨q3, e3, w⟩ := bS_r w
      have n3 := nx_r hB (by omega) n2.2.2.1 n2.2.2.2 (by rw [d.1]; decide) e3
      cases w
      exact ⟨rfl, by omega, n3.2.2.1, n3.2.2.2, d.2.1, d.2.2⟩
    · rw [if_neg d] at w; cases w
  · rw [if_neg c] at w; cases w; exact ⟨rfl, Int.le_refl _, rn, o5, by (show (1 : Int) ≤ 1; decide), by (show (1 : Int) ≤ 9; decide)⟩
theorem pPc_r {B : Int → Int} {n q q1 : Int} {p : Int × Int} (hB : ∀ i, 0 ≤ i → i < n → 0 ≤ B i ∧ B i < 256) (q0 : 0 ≤ q) (qn : q ≤ n) (o5 : tO B n q ≠ 5) (w : pPc B n q = .inr (p, q1)) : p.1 = q ∧ q < q1 ∧ q1 ≤ n ∧ tO B n q1 ≠ 5 ∧ (1 ≤ p.2 ∧ p.2 ≤ 9) ∧ (isVl B n q ∨ tO B n q = 1) ∧ tO B n q ≠ 0 := by
  rw [pPc_e] at w
  by_cases c : isVl B n q ∨ tO B n q = 1
  · rw [if_pos c] at w
    obtain ⟨r, e, w⟩ := bS_r w
    have o0 : tO B n q ≠ 0 := by rcases c with (y | y | y | y) | y <;> (first | omega | (have := y.1; omega))
    have nr := nx_r hB q0 qn o5 o0 e
    obtain ⟨a1, a2, a3, a4, a5, a6⟩ := pPq_r hB (by omega) nr.2.2.1 nr.2.2.2 w
    exact ⟨a1, by omega, a3, a4, ⟨a5, a6⟩, c, o0⟩
  · rw [if_neg c] at w; cases w
/-- pieces one behind the other -/
def pcO (B : Int → Int) (n : Int) (l : List (Int × Int)) (u : Int) : Prop := ∀ p, p ∈ l → 0 ≤ p.1 ∧ p.1 < u ∧ tS B n p.1 < u ∧ tO B n p.1 ≠ 5 ∧ (isVl B n p.1 ∨ tO B n p.1 = 1) ∧ 1 ≤ p.2 ∧ p.2 ≤ 9
theorem pk1_2 {B : Int → Int} {n : Int} {E : EV} {l : List (Int × Int)} {q : Int} (a : ¬ isVl B n q) (b : pcA B n E q = -1) : pk1 B n E l q ≤ tS B n q * 8 + 2 := by
  unfold pk1
  rw [if_pos ⟨a, b⟩]; omega
theorem pkL_un {B : Int → Int} {n : Int} {E : EV} : ∀ (l0 l : List (Int × Int)) (p : Int × Int), p ∈ l → ¬ isVl B n p.1 → pcA B n E p.1 = -1 → pkL B n E l0 l ≤ tS B n p.1 * 8 + 2
  | l0, [], p, m, _, _ => by cases m
  | l0, u :: l, p, m, a, b => by
    show min (pk1 B n E l0 u.1) (pkL B n E (l0 ++ [u]) l) ≤ _
    rcases List.mem_cons.mp m with y | y
    · subst y; have := pk1_2 (l := l0) a b; omega
    · have := pkL_un (l0 ++ [u]) l p y a b; omega
theorem unK_of {B : Int → Int} {n K u : Int} {E : EV} {l : List (Int × Int)} (o : pcO B n l u) (k : K ≤ pkL B n E [] l) : unK B n E l K u := fun p m a b => by
  have x := pkL_un [] l p m a b
  have y := (o p m).2.2.1
  omega
def lQP (B : Int → Int) (n A a K : Int) (E : EV) (W : Int ⊕ (List (Int × Int) × Int)) (h : AH) : Prop := match W with
  | .inl z => Sx B n (.inl z) h ∧ f8X h
  | .inr (l, q) => pcQ B n A a E l h ∧ Sx B n (.inr q) h ∧ FK h = min K (pkL B n E [] l) ∧ pcO B n l q ∧ l ≠ []
theorem pcQ_a {B : Int → Int} {n A a : Int} {E : EV} {l : List (Int × Int)} {p : Int × Int} {h h48 : AH} (LA : a = 271 ∨ a = 289) (P : pcQ B n A a E l h) (G48 : ∀ b s, ¬ ((b = 441 ∧ ((2 ≤ s ∧ s ≤ 9) ∨ s = 18)) ∨ (b = a ∧ s = 3) ∨ (a + 2 ≤ b ∧ b ≤ a + 5 ∧ 0 ≤ s ∧ s < 12)) → h48 b s = h b s) (T48 : TX B n A h48) (y3 : pcsX B n E h48 a (l ++ [p])) (y4 : h48 a 3 = ((min (l.length + 1) 12 : Nat) : Int)) (F8 : f8X h48) : pcQ B n A a E (l ++ [p]) h48 := by
  obtain ⟨_, p2, p3, ⟨p4, p5, _, p7⟩, _, _⟩ := P
  refine ⟨T48, actX_fr p2 (fun b s z => G48 b s (by unfold actC at z; omega)), Od_fr p3 (fun b i b0 b1 => G48 b i (by omega)), ⟨p4, by rw [G48 _ _ (by omega)]; exact p5, by rw [y4, List.length_append]; rfl, ?_⟩, y3, F8⟩
  unfold arP at p7 ⊢
  rw [G48 _ _ (by omega), G48 _ _ (by omega), G48 _ _ (by omega), G48 _ _ (by omega)]
  exact p7
theorem pcs_st {B : Int → Int} {n A a K q : Int} {E : EV} {W : Int ⊕ (List (Int × Int) × Int)} {l : List (Int × Int)} {k : Nat} {h h46 h48 : AH} (hB : ∀ i, 0 ≤ i → i < n → 0 ≤ B i ∧ B i < 256) (LA : a = 271 ∨ a = 289) (nn : 0 ≤ n ∧ n ≤ 2000) (q0 : 0 ≤ q ∧ q ≤ n) (o5 : tO B n q ≠ 5) (CM : comma B n q) (c1 : h 441 6 = 0) (X4 : h 441 4 = tE B n q) (w1 : comma B n q → W = bS (nx B n q) (pPcs B n k l)) (k1 : 2002 ≤ (k : Int) + q + 1) (P : pcQ B n A a E l h) (F : FK h = min K (pkL B n E [] l)) (O : pcO B n l q) (K46 : FK h46 = FK h) (G48 : ∀ b s, ¬ ((b = 441 ∧ ((2 ≤ s ∧ s ≤ 9) ∨ s = 18)) ∨ (b = a ∧ s = 3) ∨ (a + 2 ≤ b ∧ b ≤ a + 5 ∧ 0 ≤ s ∧ s < 12)) → h48 b s = h b s) (T48 : TX B n A h48) (po : poY B n a E l (FK h46) (bS (nx B n q) (pPc B n)) h48) : ((∃ z, W = .inl z ∧ Sx B n (.inl z) h48 ∧ f8X h48) ∨ (∃ q l k, (comma B n q → W = bS (nx B n q) (pPcs B n k l)) ∧ (¬ comma B n q → W = .inr (l, q)) ∧ 2002 ≤ (k : Int) + q + 1 ∧ pcQ B n A a E l h48 ∧ Sx B n (.inr q) h48 ∧ FK h48 = min K (pkL B n E [] l) ∧ pcO B n l q ∧ l ≠ [])) ∧ (if h48 441 6 = 0 ∧ h48 441 2 ≠ 120 then 3000 - h48 441 4 else 0) < 3000 - h 441 4 := by
  obtain ⟨F8, PO⟩ := po
  have te0 := tE_r hB q0.1 q0.2 o5
  have M0 : (0 : Int) < 3000 - h 441 4 := by omega
  obtain ⟨m, rfl⟩ : ∃ m : Nat, k = m + 1 := ⟨k - 1, by omega⟩
  cases e : bS (nx B n q) (pPc B n) with
  | inl z =>
    rw [e] at PO
    refine ⟨Or.inl ⟨z, ?_, PO, F8⟩, ?_⟩
    · rw [w1 CM]
      cases en : nx B n q with
      | inl y => rw [en] at e; exact congrArg Sum.inl (Sum.inl.inj e)
      | inr q1 => rw [en] at e; exact pPcs_l e
    · rw [if_neg (fun y => y.2 (Sx_sort PO y.1))]; exact M0
  | inr x =>
    obtain ⟨p, q1⟩ := x
    rw [e] at PO
    obtain ⟨y1, y2, y3, y4⟩ := PO
    obtain ⟨r, er, ep⟩ := bS_r e
    have nr := nx_r hB q0.1 q0.2 o5 (by rw [CM.1]; decide) er
    obtain ⟨z1, z2, z3, z4, z5, z6, z7⟩ := pPc_r hB (by omega) nr.2.2.1 nr.2.2.2 ep
    have NB1 := Sx_inr y1
    have X41 := NB1.1.2.1.2.2.1 NB1.2
    have TE1 := tE_r hB NB1.1.2.2.1 NB1.1.2.2.2 NB1.2
    have WW := pPcs_r (k := m) (l := l) ep
    have TSr := tE_r hB (show 0 ≤ r by omega) nr.2.2.1 nr.2.2.2
    have TSr2 := TSr.2.2.2 z7
    have hnx : q1 ≥ tE B n r := by
      have g := ep
      rw [pPc_e, if_pos z6] at g
      obtain ⟨r2, e2, g⟩ := bS_r g
      have n2 := nx_r hB (show 0 ≤ r by omega) nr.2.2.1 nr.2.2.2 z7 e2
      have g2 := pPq_r hB (show 0 ≤ r2 by omega) n2.2.2.1 n2.2.2.2 g
      omega
    have k2 : 2002 ≤ (m : Int) + q1 + 1 := by clear z6 CM; omega
    refine ⟨Or.inr ⟨q1, l ++ [p], m, fun c => ?_, fun c => ?_, k2, pcQ_a LA P G48 T48 y3 y4 F8, y1, ?_, fun u hu => ?_, fun z => by cases l <;> cases z⟩, ?_⟩
    · rw [w1 CM, er]; exact WW.1 c
    · rw [w1 CM, er]; exact WW.2 c
    · rw [y2, K46, F, pkL_app, List.nil_append, Int.min_assoc]
    · rcases List.mem_append.mp hu with v | v
      · obtain ⟨v1, v2, v3, v4⟩ := O u v
        exact ⟨v1, by omega, by omega, v4⟩
      · have eu : u = p := List.mem_singleton.mp v
        rw [eu, z1]
        exact ⟨by omega, by omega, by omega, nr.2.2.2, z6, z5⟩
    · by_cases v : h48 441 6 = 0 ∧ h48 441 2 ≠ 120
      · rw [if_pos v, X4, X41]; omega
      · rw [if_neg v]; exact M0
theorem vX13_ask_l87 {h0 : AH} {B : Int → Int} {n A a K : Int} {E : EV} {R0 : Int ⊕ Int} {l0 : List (Int × Int)} {k0 : Nat} {W : Int ⊕ (List (Int × Int) × Int)} (hB : ∀ i, 0 ≤ i → i < n → 0 ≤ B i ∧ B i < 256) (w0 : (∃ z, W = .inl z ∧ Sx B n (.inl z) h0 ∧ f8X h0) ∨ (∃ q, (comma B n q → W = bS (nx B n q) (pPcs B n k0 l0)) ∧ (¬ comma B n q → W = .inr (l0, q)) ∧ 2002 ≤ (k0 : Int) + q + 1 ∧ pcQ B n A a E l0 h0 ∧ Sx B n (.inr q) h0 ∧ FK h0 = min K (pkL B n E [] l0) ∧ pcO B n l0 q ∧ l0 ≠ [])) (tx : TX B n A h0 ∧ isAk a) : OK (gX13_ask_l87 h0) (fun h' => ((∃ z, W = .inl z ∧ Sx B n (.inl z) h' ∧ f8X h') ∨ (∃ q l, W = .inr (l, q) ∧ pcQ B n A a E l h' ∧ Sx B n (.inr q) h' ∧ FK h' = min K (pkL B n E [] l) ∧ pcO B n l q ∧ l ≠ [])) ∧ (frPc a h0 h')) := by
  have LA : a = 271 ∨ a = 289 := tx.2
  have n2 := tx.1.2.2.2.1
  have n0 := tx.1.2.2.1
  have ta := tx.1.2.2.2.2
  unfold gX13_ask_l87
  refine OK_jit (I := (fun (h : AH) => ((∃ z, W = .inl z ∧ Sx B n (.inl z) h ∧ f8X h) ∨ (∃ q l k, (comma B n q → W = bS (nx B n q) (pPcs B n k l)) ∧ (¬ comma B n q → W = .inr (l, q)) ∧ 2002 ≤ (k : Int) + q + 1 ∧ pcQ B n A a E l h ∧ Sx B n (.inr q) h ∧ FK h = min K (pkL B n E [] l) ∧ pcO B n l q ∧ l ≠ [])) ∧ (frPc a h0 h))) (m := (fun (h : AH) => (if h 441 6 = 0 ∧ h 441 2 ≠ 120 then 3000 - h 441 4 else 0).toNat)) ?_ ?_
  · intro h hs
    try dsimp only at hs
    obtain ⟨q1, fr⟩ := hs
    unfold gX13_ask_b87
    have T1 : TX B n A h := TX_fr tx.1 (fr _ _ (by omega) (by omega) (by omega)) (fr _ _ (by omega) (by omega) (by omega)) (fun s => fr _ _ (by omega) (by omega) (by omega))
    refine OK_if (fun c1 => ?_) (fun c1 => ?_)
    · skip
      try simp (disch := omega) only [jst_eq, jst_ne, jst_ni, jI_i, jcmp_lt, jcmp_gt, w32_id, jcpy_out, Sum.elim_inl, Sum.elim_inr, jt2, jt3, jt4, jt5, jt6, jt7, jt8] at c1
      refine OK_if (fun c2 => ?_) (fun c2 => ?_)
      · skip
        try simp (disch := omega) only [jst_eq, jst_ne, jst_ni, jI_i, jcmp_lt, jcmp_gt, w32_id, jcpy_out, Sum.elim_inl, Sum.elim_inr, jt2, jt3, jt4, jt5, jt6, jt7, jt8] at c2
        obtain ⟨q, l, k, w1, w2, k1, P, S, F, O, NE⟩ := q1.resolve_left (fun ⟨z, e, s, _⟩ => by have := Sx_sort s c1; omega)
        have NB0 := Sx_inr S
        have CM : comma B n q := (comma_x NB0.1).mpr c2
        have q0 := NB0.1.2.2
        have X4 := NB0.1.2.1.2.2.1 NB0.2
        refine OK_jb (vX13_nextS (B := B) (n := n) (A := A) (q := q) (by exact T1) (by exact hB) (by exact NB0.1) (by exact NB0.2)) (fun h46 r1 => ?_)
        try dsimp only [Sum.elim_inl, Sum.elim_inr, jt2, jt3, jt4, jt5, jt6, jt7, jt8] at r1
        obtain ⟨sx1, fr1⟩ := r1
        try simp (disch := omega) only [jst_eq, jst_ne, jst_ni, jI_i, jcmp_lt, jcmp_gt, w32_id, jcpy_out, Sum.elim_inl, Sum.elim_inr, jt2, jt3, jt4, jt5, jt6, jt7, jt8] at sx1
        try simp (disch := omega) only [jst_eq, jst_ne, jst_ni, jI_i, jcmp_lt, jcmp_gt, w32_id, jcpy_out, Sum.elim_inl, Sum.elim_inr, jt2, jt3, jt4, jt5, jt6, jt7, jt8] at fr1
        have P46 : pcQ B n A a E l h46 := pcQ_f P (fun b s y => fr1 b s (by omega)) (f8X_f P.2.2.2.2.2 (fun s y => fr1 _ _ (by omega)))
        have K46 : FK h46 = FK h := FK_fr (fr1 _ _ (by omega)) (fr1 _ _ (by omega))
        refine OK_jb (vX13_piece (B := B) (n := n) (A := A) (a := a) (u := q + 1) (E := E) (l := l) (R := nx B n q) (by exact hB) (by exact P46) (by exact sx1) (by exact ⟨unK_of (fun p m => by (obtain ⟨y1, y2, y3, y4⟩ := O p m; exact ⟨y1, by omega, by omega, y4⟩)) (by rw [K46, F]; omega), fun q' e => by (have nr := nx_r hB q0.1 q0.2 NB0.2 (by rw [CM.1]; decide) e; omega)⟩)) (fun h48 r2 => ?_)
        try dsimp only [Sum.elim_inl, Sum.elim_inr, jt2, jt3, jt4, jt5, jt6, jt7, jt8] at r2
        obtain ⟨po2, fr2⟩ := r2
        try simp (disch := omega) only [jst_eq, jst_ne, jst_ni, jI_i, jcmp_lt, jcmp_gt, w32_id, jcpy_out, Sum.elim_inl, Sum.elim_inr, jt2, jt3, jt4, jt5, jt6, jt7, jt8] at po2
        try simp (disch := omega) only [jst_eq, jst_ne, jst_ni, jI_i, jcmp_lt, jcmp_gt, w32_id, jcpy_out, Sum.elim_inl, Sum.elim_inr, jt2, jt3, jt4, jt5, jt6, jt7, jt8] at fr2
        have G48 : ∀ b s, ¬ ((b = 441 ∧ ((2 ≤ s ∧ s ≤ 9) ∨ s = 18)) ∨ (b = a ∧ s = 3) ∨ (a + 2 ≤ b ∧ b ≤ a + 5 ∧ 0 ≤ s ∧ s < 12)) → h48 b s = h b s := fun b s y => by { rw [fr2 b s (by omega) (by omega) (by omega)]; exact fr1 b s (by omega) }
        have T48 : TX B n A h48 := TX_fr T1 (G48 _ _ (by omega)) (G48 _ _ (by omega)) (fun s => G48 _ _ (by omega))
        have ST := pcs_st hB LA ⟨n0, n2⟩ q0 NB0.2 CM c1 X4 w1 k1 P F O K46 G48 T48 po2
        have MM : (if h 441 6 = 0 ∧ h 441 2 ≠ 120 then 3000 - h 441 4 else 0) = 3000 - h 441 4 := if_pos ⟨c1, by omega⟩
        have M0 : (0 : Int) < 3000 - h 441 4 := by { have := tE_r hB q0.1 q0.2 NB0.2; omega }
        refine OK_il ?_ ?_
        · try dsimp only [Sum.elim_inl, Sum.elim_inr, jt2, jt3, jt4, jt5, jt6, jt7, jt8]
          refine ⟨?_, ?_⟩
          · exact ST.1 -- o9 e1i.1
          · exact frPc_t fr (frPc_t (fun b s y1 y2 y3 => fr1 b s (by omega)) fr2) -- o10 e1i.2
        · (have := ST.2; rw [MM]; omega) -- o11 e1m
      · skip
        try simp (disch := omega) only [jst_eq, jst_ne, jst_ni, jI_i, jcmp_lt, jcmp_gt, w32_id, jcpy_out, Sum.elim_inl, Sum.elim_inr, jt2, jt3, jt4, jt5, jt6, jt7, jt8] at c2
        refine OK_ir ?_
        try dsimp only [Sum.elim_inl, Sum.elim_inr, jt2, jt3, jt4, jt5, jt6, jt7, jt8]
        refine ⟨?_, ?_⟩
        · (rcases q1 with q1 | ⟨q, l, k, w1, w2, k1, P, S, F, O, NE⟩; { exact Or.inl q1 }; { exact Or.inr ⟨q, l, w2 (fun z => c2 ((comma_x (Sx_inr S).1).mp z)), P, S, F, O, NE⟩ }) -- o12 e2.1
        · (first | assumption | omega | ((try dsimp only [jt2, jt3, jt4]); first | omega | (simp (disch := omega) only [jst_eq, jst_ne, jst_ni, jst_o, jI_i, jcpy_out, w32_id, jdiv_nn, jshr_k, jand_255] <;> first | done | omega | assumption)) | (intros; simp (disch := omega) only [jst_eq, jst_ne, jst_ni, jst_o, jI_i, jcpy_out, w32_id, jdiv_nn, *] <;> first | done | omega) | (intros; simp (disch := omega) only [jst_eq, jst_ne, jst_ni, jst_o, jI_i, jcpy_out, w32_id, jdiv_nn] at * <;> first | done | omega | assumption) | (intros; first | rfl | (exfalso; omega) | ((repeat' apply And.intro) <;> first | assumption | rfl | omega | trivial))) -- o13 e2.2
    · skip
      try simp (disch := omega) only [jst_eq, jst_ne, jst_ni, jI_i, jcmp_lt, jcmp_gt, w32_id, jcpy_out, Sum.elim_inl, Sum.elim_inr, jt2, jt3, jt4, jt5, jt6, jt7, jt8] at c1
      refine OK_ir ?_
      try dsimp only [Sum.elim_inl, Sum.elim_inr, jt2, jt3, jt4, jt5, jt6, jt7, jt8]
      refine ⟨?_, ?_⟩
      · (rcases q1 with q1 | ⟨q, l, k, w1, w2, k1, P, S, F, O, NE⟩; { exact Or.inl q1 }; { exact absurd (Sx_inr S).1.1 c1 }) -- o14 e3.1
      · (first | assumption | omega | ((try dsimp only [jt2, jt3, jt4]); first | omega | (simp (disch := omega) only [jst_eq, jst_ne, jst_ni, jst_o, jI_i, jcpy_out, w32_id, jdiv_nn, jshr_k, jand_255] <;> first | done | omega | assumption)) | (intros; simp (disch := omega) only [jst_eq, jst_ne, jst_ni, jst_o, jI_i, jcpy_out, w32_id, jdiv_nn, *] <;> first | done | omega) | (intros; simp (disch := omega) only [jst_eq, jst_ne, jst_ni, jst_o, jI_i, jcpy_out, w32_id, jdiv_nn] at * <;> first | done | omega | assumption) | (intros; first | rfl | (exfalso; omega) | ((repeat' apply And.intro) <;> first | assumption | rfl | omega | trivial))) -- o15 e3.2
  · try dsimp only [Sum.elim_inl, Sum.elim_inr, jt2, jt3, jt4, jt5, jt6, jt7, jt8]
    refine ⟨?_, ?_⟩
    · (rcases w0 with w0 | ⟨q, w1, w2, k1, P⟩; { exact Or.inl w0 }; { exact Or.inr ⟨q, l0, k0, w1, w2, k1, P⟩ }) -- o16 init.1
    · exact fun _ _ _ _ _ => rfl -- o17 init.2

