/-! x: an ask is read -/
theorem pIts_0 {B : Int → Int} {n q : Int} {k : Nat} {l : List ITt} (o : tO B n q = 0) : pIts B n (k + 1) l q = .inr l := if_pos o
theorem pIts_r {B : Int → Int} {n q : Int} {k : Nat} {l : List ITt} (o : tO B n q ≠ 0) (g : isN B n q 13550) : pIts B n (k + 1) l q = bS (pRow B n q) fun x => pIts B n k (l ++ [(q, .inl x.1)]) x.2 := by
  have w : pIts B n (k + 1) l q = (match pRow B n q with | .inl z => (.inl z : Int ⊕ List ITt) | .inr (r, q1) => pIts B n k (l ++ [(q, .inl r)]) q1) := (if_neg o).trans (if_pos g)
  rw [w]
  cases pRow B n q <;> rfl
theorem pIts_l {B : Int → Int} {n q : Int} {k : Nat} {l : List ITt} (o : tO B n q ≠ 0) (g1 : ¬ isN B n q 13550) (g : isN B n q 8798) : pIts B n (k + 1) l q = bS (pLaw B n q) fun x => pIts B n k (l ++ [(q, .inr x.1)]) x.2 := by
  have w : pIts B n (k + 1) l q = (match pLaw B n q with | .inl z => (.inl z : Int ⊕ List ITt) | .inr (r, q1) => pIts B n k (l ++ [(q, .inr r)]) q1) := (if_neg o).trans ((if_neg g1).trans (if_pos g))
  rw [w]
  cases pLaw B n q <;> rfl
theorem pIts_n {B : Int → Int} {n q : Int} {k : Nat} {l : List ITt} (o : tO B n q ≠ 0) (g1 : ¬ isN B n q 13550) (g : ¬ isN B n q 8798) : pIts B n (k + 1) l q = .inl (tS B n q) := (if_neg o).trans ((if_neg g1).trans (if_neg g))
/-- in the middle of rows and laws -/
def itI (B : Int → Int) (n A a T : Int) (E : EV) (ks : List Int) (la K : Int) (W0 : Int ⊕ List ITt) (h : AH) : Prop := ∃ (R : Int ⊕ Int) (its : List ITt) (k : Nat), W0 = bS R (pIts B n k its) ∧ (∀ q, R = .inr q → 2002 ≤ (k : Int) + q) ∧ Sx B n R h ∧ (TX B n A h ∧ Od h ∧ f8X h) ∧ ∀ q, R = .inr q → itA B n A a T E ks la its h ∧ rmT B n T (.inr q) h ∧ FK h = min K (itK B n E ks la 0 0 its)
def itMs (h : AH) : Int := if h 441 6 = 0 then (if h 441 2 = 120 then 1 else 3000 - h 441 4) else 0
theorem itM_lt {B : Int → Int} {n q : Int} {R : Int ⊕ Int} {h h' : AH} (hB : ∀ i, 0 ≤ i → i < n → 0 ≤ B i ∧ B i < 256) (n2 : n ≤ 2000) (nb : NB B n q h) (o5 : tO B n q ≠ 5) (s : Sx B n R h') (le : ∀ q', R = .inr q' → tE B n q < q' ∧ q' ≤ n ∧ tO B n q' ≠ 5) : itMs h' < itMs h := by
  have te := tE_r hB nb.2.2.1 nb.2.2.2 o5
  have O := chX_1 (tok_o B n q)
  rw [← nb.2.1.2.1] at O
  have h4 : h 441 4 = tE B n q := nb.2.1.2.2.1 o5
  have e : itMs h = 3000 - tE B n q := by
    unfold itMs
    rw [if_pos nb.1, if_neg (fun z => o5 (O.2.2.2.2.1.mpr z)), h4]
  rw [e]
  unfold itMs
  by_cases c : h' 441 6 = 0
  · rw [if_pos c]
    by_cases d : h' 441 2 = 120
    · rw [if_pos d]; omega
    · rw [if_neg d]
      obtain ⟨q', nb', k⟩ := Sx_nb s c
      have O' := chX_1 (tok_o B n q')
      rw [← nb'.2.1.2.1] at O'
      rcases k with k | k
      · exact absurd (O'.2.2.2.2.1.mp k.2) d
      · obtain ⟨l1, l2, l3⟩ := le q' k.1
        have te' := tE_r hB nb'.2.2.1 nb'.2.2.2 l3
        have h4' : h' 441 4 = tE B n q' := nb'.2.1.2.2.1 l3
        omega
  · rw [if_neg c]; omega
theorem itM_0 {B : Int → Int} {n q : Int} {h h' : AH} (hB : ∀ i, 0 ≤ i → i < n → 0 ≤ B i ∧ B i < 256) (n2 : n ≤ 2000) (nb : NB B n q h) (b : h' 441 6 = 1) : itMs h' < itMs h := by
  have e : itMs h' = 0 := if_neg (by omega)
  rw [e]
  unfold itMs
  rw [if_pos nb.1]
  by_cases d : h 441 2 = 120
  · rw [if_pos d]; decide
  · rw [if_neg d]
    have O := chX_1 (tok_o B n q)
    rw [← nb.2.1.2.1] at O
    have o5 : tO B n q ≠ 5 := fun z => d (O.2.2.2.2.1.mp z)
    have te := tE_r hB nb.2.2.1 nb.2.2.2 o5
    have h4 : h 441 4 = tE B n q := nb.2.1.2.2.1 o5
    have := nb.2.2.2
    omega
theorem it_row {B : Int → Int} {n A a T la K q : Int} {E : EV} {ks : List Int} {its : List ITt} {k : Nat} {W0 : Int ⊕ List ITt} {h h' : AH} (hB : ∀ i, 0 ≤ i → i < n → 0 ≤ B i ∧ B i < 256) (n2 : n ≤ 2000) (w : W0 = pIts B n k its q) (fu : 2002 ≤ (k : Int) + q) (x : itA B n A a T E ks la its h) (rm : rmT B n T (.inr q) h) (fk : FK h = min K (itK B n E ks la 0 0 its)) (nb : NB B n q h ∧ tO B n q ≠ 5) (g : isN B n q 13550)
    (o : rwQx B n A a la ((min (rwsO its).length 12 : Nat) : Int) (fun r => min (FK h) (rwK B n ks la ((min (rwsO its).length 12 : Nat) : Int) q r)) ks (if ((min (rwsO its).length 12 : Nat) : Int) < 12 then 1 else 0) (pRow B n q) h') (f : frRw a ((min (rwsO its).length 12 : Nat) : Int) h h') : itI B n A a T E ks la K W0 h' ∧ itMs h' < itMs h ∧ ∀ b s, ¬ lwC a T b s → h' b s = h b s := by
  have LA : a = 271 ∨ a = 289 := x.1.2.2.2.1.1
  have eT : T = a + 12 := x.1.2.2.2.1.2.2
  have ta := x.1.1.2.2.2.2
  have F : ∀ b s, ¬ (b = 441 ∧ ((2 ≤ s ∧ s ≤ 9) ∨ s = 18)) → ¬ (b = a + 6 ∧ 3 * ((min (rwsO its).length 12 : Nat) : Int) ≤ s ∧ s < 3 * ((min (rwsO its).length 12 : Nat) : Int) + 3) → ¬ (b = a + 7 ∧ s = ((min (rwsO its).length 12 : Nat) : Int)) → ¬ (b = a ∧ s = 8) → h' b s = h b s := f
  have FR : ∀ b s, ¬ lwC a T b s → h' b s = h b s := fun b s y => by
    unfold lwC at y
    exact F b s (by omega) (by omega) (by omega) (by omega)
  have TX' : TX B n A h' := TX_fr x.1.1 (F _ _ (by omega) (by omega) (by omega) (by omega)) (F _ _ (by omega) (by omega) (by omega) (by omega)) (fun s => F _ _ (by omega) (by omega) (by omega) (by omega))
  have OD' : Od h' := Od_fr x.1.2.2.1 (fun b i b0 b1 => F _ _ (by omega) (by omega) (by omega) (by omega))
  have o0 : tO B n q ≠ 0 := by rw [g.1]; decide
  have nq := nb.1.2.2
  obtain ⟨m, rfl⟩ : ∃ m : Nat, k = m + 1 := ⟨k - 1, by omega⟩
  rw [pIts_r o0 g] at w
  cases e : pRow B n q with
  | inl z =>
    rw [e] at o w
    exact ⟨⟨.inl z, its, 0, w, (fun q' e' => by cases e'), o.1, ⟨TX', OD', o.2⟩, fun q' e' => by cases e'⟩, itM_lt hB n2 nb.1 nb.2 o.1 (fun q' e' => by cases e'), FR⟩
  | inr y =>
    obtain ⟨r, q'⟩ := y
    obtain ⟨a1, a2, a3⟩ := itA_r x e o f
    have le := pRow_le hB nq.1 nq.2 nb.2 o0 e
    have te := tE_r hB nq.1 nq.2 nb.2
    have te2 := te.2.2.2 o0
    rw [e] at w
    refine ⟨⟨.inr q', its ++ [(q, .inl r)], m, (show W0 = bS (Sum.inr q') (pIts B n m (its ++ [(q, .inl r)])) from w), (fun q2 e2 => by cases e2; omega), a3, ⟨TX', OD', a1.1.2.2.2.2.2.2.2.2.2⟩, fun q2 e2 => ⟨a1, ?_, ?_⟩⟩, itM_lt hB n2 nb.1 nb.2 a3 (fun q2 e2 => by cases e2; exact le), FR⟩
    · cases e2
      obtain ⟨u, u0, u1, u2, u3, u4⟩ := rm
      have h0 : h' T 0 = h T 0 := F _ _ (by omega) (by omega) (by omega) (by omega)
      have := u4 q rfl
      exact ⟨u, u0, u1, by omega, by omega, fun q3 e3 => by cases e3; omega⟩
    · rw [a2, itK_r, Int.zero_add]
      show min (FK h) (rwK B n ks la ((min (rwsO its).length 12 : Nat) : Int) q r) = _
      rw [rwK_12, fk, Int.min_assoc]
theorem it_law {B : Int → Int} {n A a T la K q : Int} {E : EV} {ks : List Int} {its : List ITt} {k : Nat} {W0 : Int ⊕ List ITt} {h h' : AH} (hB : ∀ i, 0 ≤ i → i < n → 0 ≤ B i ∧ B i < 256) (n2 : n ≤ 2000) (w : W0 = pIts B n k its q) (fu : 2002 ≤ (k : Int) + q) (x : itA B n A a T E ks la its h) (rm : rmT B n T (.inr q) h) (fk : FK h = min K (itK B n E ks la 0 0 its)) (nb : NB B n q h ∧ tO B n q ≠ 5) (g1 : ¬ isN B n q 13550) (g : isN B n q 8798)
    (o : lwQ B n A a T E ks la ((min (lwsO its).length 4 : Nat) : Int) (if ((min (lwsO its).length 4 : Nat) : Int) < 4 then 1 else 0) (h T 0) (fun r => min (FK h) (lwK B n E ks la ((min (lwsO its).length 4 : Nat) : Int) q r)) (pLaw B n q) h') (f : frLw a T ((min (lwsO its).length 4 : Nat) : Int) (h T 0) h h') : itI B n A a T E ks la K W0 h' ∧ itMs h' < itMs h ∧ ∀ b s, ¬ lwC a T b s → h' b s = h b s := by
  have LA : a = 271 ∨ a = 289 := x.1.2.2.2.1.1
  have eT : T = a + 12 := x.1.2.2.2.1.2.2
  have ta := x.1.1.2.2.2.2
  obtain ⟨u, u0, u1, u2, u3, u4⟩ := rm
  have F : ∀ b s, ¬ (b = 441 ∧ ((2 ≤ s ∧ s ≤ 9) ∨ s = 13 ∨ s = 15 ∨ s = 16 ∨ s = 18)) → ¬ (442 ≤ b ∧ b ≤ 445 ∧ 0 ≤ s) → ¬ (b = T ∧ s = 0) → ¬ (T + 1 ≤ b ∧ b ≤ T + 4 ∧ h T 0 ≤ s) → ¬ (b = T + 5 ∧ 3 * h T 0 ≤ s) → ¬ (b = a ∧ s = 11) → ¬ (a + 8 ≤ b ∧ b ≤ a + 10 ∧ s = ((min (lwsO its).length 4 : Nat) : Int)) → ¬ (b = a + 11 ∧ 2 * ((min (lwsO its).length 4 : Nat) : Int) ≤ s ∧ s ≤ 2 * ((min (lwsO its).length 4 : Nat) : Int) + 1) → h' b s = h b s := f
  have FR : ∀ b s, ¬ lwC a T b s → h' b s = h b s := fun b s y => by
    unfold lwC at y
    exact F b s (by omega) (by omega) (by omega) (by omega) (by omega) (by omega) (by omega) (by omega)
  have TX' : TX B n A h' := TX_fr x.1.1 (FR _ _ (by unfold lwC; omega)) (FR _ _ (by unfold lwC; omega)) (fun s => FR _ _ (by unfold lwC; omega))
  have OD' : Od h' := Od_fr x.1.2.2.1 (fun b i b0 b1 => FR _ _ (by unfold lwC; omega))
  have o0 : tO B n q ≠ 0 := by rw [g.1]; decide
  have nq := nb.1.2.2
  obtain ⟨m, rfl⟩ : ∃ m : Nat, k = m + 1 := ⟨k - 1, by omega⟩
  rw [pIts_l o0 g1 g] at w
  cases e : pLaw B n q with
  | inl z =>
    rw [e] at o w
    exact ⟨⟨.inl z, its, 0, w, (fun q' e' => by cases e'), o.1, ⟨TX', OD', o.2⟩, fun q' e' => by cases e'⟩, itM_lt hB n2 nb.1 nb.2 o.1 (fun q' e' => by cases e'), FR⟩
  | inr y =>
    obtain ⟨r, q'⟩ := y
    obtain ⟨a1, a2, a3, a4⟩ := itA_l x e o f
    have le := pLaw_le hB nq.1 nq.2 nb.2 o0 e
    have te := tE_r hB nq.1 nq.2 nb.2
    have te2 := te.2.2.2 o0
    rw [e] at w
    refine ⟨⟨.inr q', its ++ [(q, .inr r)], m, (show W0 = bS (Sum.inr q') (pIts B n m (its ++ [(q, .inr r)])) from w), (fun q2 e2 => by cases e2; omega), a3, ⟨TX', OD', a1.1.2.2.2.2.2.2.2.2.2⟩, fun q2 e2 => ⟨a1, by cases e2; exact a4, ?_⟩⟩, itM_lt hB n2 nb.1 nb.2 a3 (fun q2 e2 => by cases e2; exact le), FR⟩
    rw [a2, itK_l, Int.zero_add]
    show min (FK h) (lwK B n E ks la ((min (lwsO its).length 4 : Nat) : Int) q r) = _
    rw [lwK_4, fk, Int.min_assoc]
theorem itM_n {B : Int → Int} {n A a T la K : Int} {E : EV} {ks : List Int} {W0 : Int ⊕ List ITt} (h : AH) (hB : ∀ i, 0 ≤ i → i < n → 0 ≤ B i ∧ B i < 256) (n2 : n ≤ 2000) (i : itI B n A a T E ks la K W0 h) : 0 ≤ itMs h := by
  obtain ⟨R, its, k, w, fu, S, _⟩ := i
  unfold itMs
  by_cases c : h 441 6 = 0
  · rw [if_pos c]
    by_cases d : h 441 2 = 120
    · rw [if_pos d]; decide
    · rw [if_neg d]
      obtain ⟨q, nb, k⟩ := Sx_nb S c
      have O := chX_1 (tok_o B n q)
      rw [← nb.2.1.2.1] at O
      have o5 : tO B n q ≠ 5 := fun z => d (O.2.2.2.2.1.mp z)
      have te := tE_r hB nb.2.2.1 nb.2.2.2 o5
      have h4 : h 441 4 = tE B n q := nb.2.1.2.2.1 o5
      have := nb.2.2.2
      omega
  · rw [if_neg c]; exact Int.le_refl _
/-- what the items of an ask leave -/
def itOx (B : Int → Int) (n A a T : Int) (E : EV) (ks : List Int) (la K : Int) (W : Int ⊕ List ITt) (h' : AH) : Prop := match W with | .inl z => h' 441 6 = 1 ∧ h' 441 7 = z ∧ f8X h' | .inr its => h' 441 6 = 0 ∧ itA B n A a T E ks la its h' ∧ FK h' = min K (itK B n E ks la 0 0 its) ∧ (0 ≤ h' T 0 ∧ h' T 0 ≤ 2100)
theorem rmT_b {B : Int → Int} {n T : Int} {R : Int ⊕ Int} {h : AH} (x : rmT B n T R h) : 0 ≤ h T 0 ∧ h T 0 ≤ 2100 := by
  obtain ⟨u, u0, un, t0, t1, _⟩ := x
  exact ⟨t0, by omega⟩
theorem vX13_ask_l120 {h0 : AH} {B : Int → Int} {n A a T la K : Int} {E : EV} {ks : List Int} {W0 : Int ⊕ List ITt} (hB : ∀ i, 0 ≤ i → i < n → 0 ≤ B i ∧ B i < 256) (n2 : 0 ≤ n ∧ n ≤ 2000) (i0 : itI B n A a T E ks la K W0 h0) : OK (gX13_ask_l120 h0) (fun h' => (itOx B n A a T E ks la K W0 h') ∧ (∀ b s, ¬ lwC a T b s → h' b s = h0 b s)) := by
  unfold gX13_ask_l120
  refine OK_jit (I := (fun (h : AH) => (itI B n A a T E ks la K W0 h) ∧ (∀ b s, ¬ lwC a T b s → h b s = h0 b s))) (m := (fun (h : AH) => (itMs h).toNat)) ?_ ?_
  · intro h hs
    try dsimp only at hs
    obtain ⟨q1, fr⟩ := hs
    unfold gX13_ask_b120
    obtain ⟨R, its, k, w, fu, S, ⟨T1, O1, F1⟩, ST⟩ := q1
    refine OK_if (fun c1 => ?_) (fun c1 => ?_)
    · skip
      try simp (disch := omega) only [jst_eq, jst_ne, jst_ni, jI_i, jcmp_lt, jcmp_gt, w32_id, jcpy_out, Sum.elim_inl, Sum.elim_inr, jt2, jt3, jt4, jt5, jt6, jt7, jt8] at c1
      obtain ⟨q, NB1, KK⟩ := Sx_nb S c1
      have q0 := NB1.2.2
      have O := chX_1 (tok_o B n q)
      rw [← NB1.2.1.2.1] at O
      refine OK_jb (vX13_isEnd) (fun v29 r1 => ?_)
      try dsimp only [Sum.elim_inl, Sum.elim_inr, jt2, jt3, jt4, jt5, jt6, jt7, jt8] at r1
      have ev1 := r1
      clear r1
      try simp (disch := omega) only [jst_eq, jst_ne, jst_ni, jI_i, jcmp_lt, jcmp_gt, w32_id, jcpy_out, Sum.elim_inl, Sum.elim_inr, jt2, jt3, jt4, jt5, jt6, jt7, jt8] at ev1
      have V29 : v29 = if h 441 2 = 36 then 1 else 0 := by assumption
      refine OK_if (fun c2 => ?_) (fun c2 => ?_)
      · skip
        try simp (disch := omega) only [jst_eq, jst_ne, jst_ni, jI_i, jcmp_lt, jcmp_gt, w32_id, jcpy_out, Sum.elim_inl, Sum.elim_inr, jt2, jt3, jt4, jt5, jt6, jt7, jt8] at c2
        have o0 : tO B n q ≠ 0 := fun z => by { rw [if_pos (O.2.2.2.1.mp z)] at V29; omega }
        refine OK_jb (vX13_is (B := B) (n := n) (A := A) (q := q) _ (by exact T1) (by exact NB1) (by exact nm_row O1)) (fun v32 r2 => ?_)
        try dsimp only [Sum.elim_inl, Sum.elim_inr, jt2, jt3, jt4, jt5, jt6, jt7, jt8] at r2
        have v2 := r2
        clear r2
        try simp (disch := omega) only [jst_eq, jst_ne, jst_ni, jI_i, jcmp_lt, jcmp_gt, w32_id, jcpy_out, Sum.elim_inl, Sum.elim_inr, jt2, jt3, jt4, jt5, jt6, jt7, jt8] at v2
        refine OK_if (fun c3 => ?_) (fun c3 => ?_)
        · skip
          try simp (disch := omega) only [jst_eq, jst_ne, jst_ni, jI_i, jcmp_lt, jcmp_gt, w32_id, jcpy_out, Sum.elim_inl, Sum.elim_inr, jt2, jt3, jt4, jt5, jt6, jt7, jt8] at c3
          have g1 : ¬ isN B n q 13550 := fun z => by { rw [if_pos z] at v2; omega }
          refine OK_jb (vX13_is (B := B) (n := n) (A := A) (q := q) _ (by exact T1) (by exact NB1) (by exact nm_law O1)) (fun v35 r3 => ?_)
          try dsimp only [Sum.elim_inl, Sum.elim_inr, jt2, jt3, jt4, jt5, jt6, jt7, jt8] at r3
          have v3 := r3
          clear r3
          try simp (disch := omega) only [jst_eq, jst_ne, jst_ni, jI_i, jcmp_lt, jcmp_gt, w32_id, jcpy_out, Sum.elim_inl, Sum.elim_inr, jt2, jt3, jt4, jt5, jt6, jt7, jt8] at v3
          refine OK_if (fun c4 => ?_) (fun c4 => ?_)
          · skip
            try simp (disch := omega) only [jst_eq, jst_ne, jst_ni, jI_i, jcmp_lt, jcmp_gt, w32_id, jcpy_out, Sum.elim_inl, Sum.elim_inr, jt2, jt3, jt4, jt5, jt6, jt7, jt8] at c4
            have g2 : ¬ isN B n q 8798 := fun z => by { rw [if_pos z] at v3; omega }
            refine OK_jb (vX13_no (B := B) (n := n) (r := R) (by exact S)) (fun h38 r4 => ?_)
            try dsimp only [Sum.elim_inl, Sum.elim_inr, jt2, jt3, jt4, jt5, jt6, jt7, jt8] at r4
            obtain ⟨nb4, fr4⟩ := r4
            try simp (disch := omega) only [jst_eq, jst_ne, jst_ni, jI_i, jcmp_lt, jcmp_gt, w32_id, jcpy_out, Sum.elim_inl, Sum.elim_inr, jt2, jt3, jt4, jt5, jt6, jt7, jt8] at nb4
            try simp (disch := omega) only [jst_eq, jst_ne, jst_ni, jI_i, jcmp_lt, jcmp_gt, w32_id, jcpy_out, Sum.elim_inl, Sum.elim_inr, jt2, jt3, jt4, jt5, jt6, jt7, jt8] at fr4
            have W2 : W0 = .inl (plc B n R) := by { rcases KK with z | z; { rw [w, z.1]; rfl }; { have f := fu q z.1; obtain ⟨m, rfl⟩ : ∃ m : Nat, k = m + 1 := ⟨k - 1, by omega⟩; rw [w, z.1]; exact pIts_n o0 g1 g2 } }
            have FR4 : ∀ b s, ¬ lwC a T b s → h38 b s = h b s := fun b s y => fr4 b s (fun z => y (Or.inl ⟨z.1, Or.inl (by omega)⟩))
            refine OK_il ?_ ?_
            · try dsimp only [Sum.elim_inl, Sum.elim_inr, jt2, jt3, jt4, jt5, jt6, jt7, jt8]
              refine ⟨?_, ?_⟩
              · exact ⟨.inl (plc B n R), its, 0, W2, (fun q' e => by cases e), Sx_l nb4.1 nb4.2, ⟨TX_fr T1 (fr4 _ _ (by omega)) (fr4 _ _ (by omega)) (fun s => fr4 _ _ (by have := T1.2.2.2.2; omega)), Od_fr O1 (fun b i b0 b1 => fr4 _ _ (by omega)), f8X_f F1 (fun s y => fr4 _ _ (by omega))⟩, fun q' e => by cases e⟩ -- o8 e1i.1
              · exact fun b s y => (FR4 b s y).trans (fr b s y) -- o9 e1i.2
            · (have := itM_0 (h' := h38) hB n2.2 NB1 nb4.1; have : 0 ≤ itMs h38 := (by unfold itMs; rw [if_neg (by omega)]; exact Int.le_refl _); omega) -- o10 e1m
          · skip
            try simp (disch := omega) only [jst_eq, jst_ne, jst_ni, jI_i, jcmp_lt, jcmp_gt, w32_id, jcpy_out, Sum.elim_inl, Sum.elim_inr, jt2, jt3, jt4, jt5, jt6, jt7, jt8] at c4
            have g2 : isN B n q 8798 := Classical.byContradiction fun z => by { rw [if_neg z] at v3; omega }
            have K2 := KK.resolve_left (fun z => by { have := g2.1; omega })
            obtain ⟨s1, s2, s3⟩ := ST q K2.1
            refine OK_jb (vX13_law (B := B) (n := n) (A := A) (a := a) (T := T) (la := la) (m := ((min (lwsO its).length 4 : Nat) : Int)) (E := E) (ks := ks) (q := q) (by exact hB) (by exact s1.1) (by exact ⟨NB1, g2.1⟩) (by exact s2)) (fun h40 r5 => ?_)
            try dsimp only [Sum.elim_inl, Sum.elim_inr, jt2, jt3, jt4, jt5, jt6, jt7, jt8] at r5
            obtain ⟨ok5, fr5⟩ := r5
            try simp (disch := omega) only [jst_eq, jst_ne, jst_ni, jI_i, jcmp_lt, jcmp_gt, w32_id, jcpy_out, Sum.elim_inl, Sum.elim_inr, jt2, jt3, jt4, jt5, jt6, jt7, jt8] at ok5
            try simp (disch := omega) only [jst_eq, jst_ne, jst_ni, jI_i, jcmp_lt, jcmp_gt, w32_id, jcpy_out, Sum.elim_inl, Sum.elim_inr, jt2, jt3, jt4, jt5, jt6, jt7, jt8] at fr5
            have X := it_law (W0 := W0) hB n2.2 (by rw [w, K2.1]; rfl) (fu q K2.1) s1 s2 s3 ⟨NB1, K2.2⟩ g1 g2 ok5 fr5
            refine OK_il ?_ ?_
            · try dsimp only [Sum.elim_inl, Sum.elim_inr, jt2, jt3, jt4, jt5, jt6, jt7, jt8]
              refine ⟨?_, ?_⟩
              · exact X.1 -- o15 e2i.1
              · exact fun b s y => (X.2.2 b s y).trans (fr b s y) -- o16 e2i.2
            · (have x2 := X.2.1; have x3 := itM_n h40 hB n2.2 X.1; omega) -- o17 e2m
        · skip
          try simp (disch := omega) only [jst_eq, jst_ne, jst_ni, jI_i, jcmp_lt, jcmp_gt, w32_id, jcpy_out, Sum.elim_inl, Sum.elim_inr, jt2, jt3, jt4, jt5, jt6, jt7, jt8] at c3
          have g1 : isN B n q 13550 := Classical.byContradiction fun z => by { rw [if_neg z] at v2; omega }
          have K2 := KK.resolve_left (fun z => by { have := g1.1; omega })
          obtain ⟨s1, s2, s3⟩ := ST q K2.1
          refine OK_jb (vX13_row (B := B) (n := n) (A := A) (a := a) (m := ((min (rwsO its).length 12 : Nat) : Int)) (la := la) (ks := ks) (q := q) (by exact hB) (by exact s1.2.1) (by exact ⟨NB1, K2.2⟩)) (fun h42 r6 => ?_)
          try dsimp only [Sum.elim_inl, Sum.elim_inr, jt2, jt3, jt4, jt5, jt6, jt7, jt8] at r6
          obtain ⟨ok6, fr6⟩ := r6
          try simp (disch := omega) only [jst_eq, jst_ne, jst_ni, jI_i, jcmp_lt, jcmp_gt, w32_id, jcpy_out, Sum.elim_inl, Sum.elim_inr, jt2, jt3, jt4, jt5, jt6, jt7, jt8] at ok6
          try simp (disch := omega) only [jst_eq, jst_ne, jst_ni, jI_i, jcmp_lt, jcmp_gt, w32_id, jcpy_out, Sum.elim_inl, Sum.elim_inr, jt2, jt3, jt4, jt5, jt6, jt7, jt8] at fr6
          have X := it_row (W0 := W0) hB n2.2 (by rw [w, K2.1]; rfl) (fu q K2.1) s1 s2 s3 ⟨NB1, K2.2⟩ g1 ok6 fr6
          refine OK_il ?_ ?_
          · try dsimp only [Sum.elim_inl, Sum.elim_inr, jt2, jt3, jt4, jt5, jt6, jt7, jt8]
            refine ⟨?_, ?_⟩
            · exact X.1 -- o21 e3i.1
            · exact fun b s y => (X.2.2 b s y).trans (fr b s y) -- o22 e3i.2
          · (have x2 := X.2.1; have x3 := itM_n h42 hB n2.2 X.1; omega) -- o23 e3m
      · skip
        try simp (disch := omega) only [jst_eq, jst_ne, jst_ni, jI_i, jcmp_lt, jcmp_gt, w32_id, jcpy_out, Sum.elim_inl, Sum.elim_inr, jt2, jt3, jt4, jt5, jt6, jt7, jt8] at c2
        have o0 : tO B n q = 0 := Classical.byContradiction fun z => by { rw [if_neg (fun y => z (O.2.2.2.1.mpr y))] at V29; omega }
        have K2 := KK.resolve_left (fun z => by omega)
        have W2 : W0 = .inr its := by { have f := fu q K2.1; obtain ⟨m, rfl⟩ : ∃ m : Nat, k = m + 1 := ⟨k - 1, by omega⟩; rw [w, K2.1]; exact pIts_0 o0 }
        refine OK_ir ?_
        try dsimp only [Sum.elim_inl, Sum.elim_inr, jt2, jt3, jt4, jt5, jt6, jt7, jt8]
        refine ⟨?_, ?_⟩
        · (rw [W2]; obtain ⟨s1, s2, s3⟩ := ST q K2.1; exact ⟨c1, s1, s3, rmT_b s2⟩) -- o24 e4.1
        · exact fr -- o25 e4.2
    · skip
      try simp (disch := omega) only [jst_eq, jst_ne, jst_ni, jI_i, jcmp_lt, jcmp_gt, w32_id, jcpy_out, Sum.elim_inl, Sum.elim_inr, jt2, jt3, jt4, jt5, jt6, jt7, jt8] at c1
      refine OK_ir ?_
      try dsimp only [Sum.elim_inl, Sum.elim_inr, jt2, jt3, jt4, jt5, jt6, jt7, jt8]
      refine ⟨?_, ?_⟩
      · (obtain ⟨y, e⟩ := Sx_br S c1; have W2 : W0 = .inl (h 441 7) := (by rw [w, e]; rfl); rw [W2]; exact ⟨y, rfl, F1⟩) -- o26 e5.1
      · exact fr -- o27 e5.2
  · try dsimp only [Sum.elim_inl, Sum.elim_inr, jt2, jt3, jt4, jt5, jt6, jt7, jt8]
    refine ⟨?_, ?_⟩
    · exact i0 -- o28 init.1
    · exact fun _ _ _ => rfl -- o29 init.2

