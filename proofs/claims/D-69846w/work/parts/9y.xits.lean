/-! x: rows and laws one behind the other -/
theorem nm_find {h : AH} (o : Od h) : nmS h 30 125041 := old_nm o [102, 105, 110, 100] rfl (by decide) (by decide) (by decide) (by decide) (by decide) (by decide)
theorem nm_use {h : AH} (o : Od h) : nmS h 38 15827 := old_nm o [117, 115, 101] rfl (by decide) (by decide) (by decide) (by decide) (by decide) (by decide)
theorem nm_row {h : AH} (o : Od h) : nmS h 40 13550 := old_nm o [114, 111, 119] rfl (by decide) (by decide) (by decide) (by decide) (by decide) (by decide)
theorem nm_law {h : AH} (o : Od h) : nmS h 42 8798 := old_nm o [108, 97, 119] rfl (by decide) (by decide) (by decide) (by decide) (by decide) (by decide)
theorem pW_r {B : Int → Int} {n c q q1 : Int} (hB : ∀ i, 0 ≤ i → i < n → 0 ≤ B i ∧ B i < 256) (q0 : 0 ≤ q) (qn : q ≤ n) (o5 : tO B n q ≠ 5) (w : pW B n c q = .inr q1) : q < q1 ∧ q1 ≤ n ∧ tO B n q1 ≠ 5 := by
  unfold pW at w
  by_cases g : tO B n q = 4 ∧ tV B n q = c
  · rw [if_pos g] at w
    have nr := nx_r hB q0 qn o5 (by rw [g.1]; decide) w
    exact nr.2
  · rw [if_neg g] at w; cases w
theorem isVl_0 {B : Int → Int} {n q : Int} (g : isVl B n q) : tO B n q ≠ 0 := by
  rcases g with y | y | y | y <;> (first | omega | (have := y.1; omega))
theorem pVs_le {B : Int → Int} {n : Int} (hB : ∀ i, 0 ≤ i → i < n → 0 ≤ B i ∧ B i < 256) : ∀ (k : Nat) (l : List Int) (q : Int) (l' : List Int) (q1 : Int), 0 ≤ q → q ≤ n → tO B n q ≠ 5 → pVs B n k l q = .inr (l', q1) → q < q1 ∧ q1 ≤ n ∧ tO B n q1 ≠ 5
  | 0, l, q, l', q1, _, _, _, w => by cases w
  | k + 1, l, q, l', q1, q0, qn, o5, w => by
    by_cases g : isVl B n q
    · cases e : nx B n q with
      | inl z => rw [pVs_l g e] at w; cases w
      | inr r =>
        have nr := nx_r hB q0 qn o5 (isVl_0 g) e
        by_cases g2 : isVl B n r
        · rw [(pVs_r g e).1 g2] at w
          have ih := pVs_le hB k (l ++ [q]) r l' q1 (by omega) nr.2.2.1 nr.2.2.2 w
          exact ⟨by omega, ih.2⟩
        · rw [(pVs_r g e).2 g2] at w
          cases w
          exact nr.2
    · rw [pVs_n g] at w; cases w
theorem pRow_le {B : Int → Int} {n q q1 : Int} {r : RWt} (hB : ∀ i, 0 ≤ i → i < n → 0 ≤ B i ∧ B i < 256) (q0 : 0 ≤ q) (qn : q ≤ n) (o5 : tO B n q ≠ 5) (o0 : tO B n q ≠ 0) (w : pRow B n q = .inr (r, q1)) : tE B n q < q1 ∧ q1 ≤ n ∧ tO B n q1 ≠ 5 := by
  unfold pRow at w
  obtain ⟨a, e1, w⟩ := bS_r w
  have n1 := nx_r hB q0 qn o5 o0 e1
  obtain ⟨x, e2, w⟩ := bS_r w
  obtain ⟨vs, b⟩ := x
  have n2 := pVs_le hB 2002 [] a vs b (by omega) n1.2.2.1 n1.2.2.2 e2
  obtain ⟨c, e3, w⟩ := bS_r w
  have n3 := pW_r hB (by omega) n2.2.1 n2.2.2 e3
  have w : pRw B n vs c = .inr (r, q1) := w
  unfold pRw at w
  by_cases g : isN B n c 3025044 ∨ isVl B n c
  · rw [if_pos g] at w
    obtain ⟨d, e4, w⟩ := bS_r w
    have n4 := nx_r hB (by omega) n3.2.1 n3.2.2 (by rcases g with y | y; { rw [y.1]; decide }; { exact isVl_0 y }) e4
    obtain ⟨f, e5, w⟩ := bS_r w
    have n5 := pW_r hB (by omega) n4.2.2.1 n4.2.2.2 e5
    cases w
    exact ⟨by omega, n5.2⟩
  · rw [if_neg g] at w; cases w
theorem pLaw_le {B : Int → Int} {n q q1 : Int} {r : LWt} (hB : ∀ i, 0 ≤ i → i < n → 0 ≤ B i ∧ B i < 256) (q0 : 0 ≤ q) (qn : q ≤ n) (o5 : tO B n q ≠ 5) (o0 : tO B n q ≠ 0) (w : pLaw B n q = .inr (r, q1)) : tE B n q < q1 ∧ q1 ≤ n ∧ tO B n q1 ≠ 5 := by
  unfold pLaw at w
  obtain ⟨a, e1, w⟩ := bS_r w
  have n1 := nx_r hB q0 qn o5 o0 e1
  obtain ⟨x, e2, w⟩ := bS_r w
  obtain ⟨ns, b⟩ := x
  have n2 := pNs_le hB (by omega) n1.2.2.1 n1.2.2.2 e2
  have w : pLw B n ns b = .inr (r, q1) := w
  unfold pLw at w
  obtain ⟨c, e3, w⟩ := bS_r w
  have n3 := pW_r hB (by omega) n2.2.1 n2.2.2 e3
  obtain ⟨t, e4, w⟩ := bS_r w
  obtain ⟨t1, d⟩ := t
  have n4 := pT_wp hB 13 c t1 d (by omega) n3.2.1 n3.2.2 e4
  obtain ⟨f, e5, w⟩ := bS_r w
  have n5 := pW_r hB (by have := n4.2.2.1; omega) n4.2.2.2.1 n4.2.2.2.2.1 e5
  obtain ⟨t, e6, w⟩ := bS_r w
  obtain ⟨t2, g⟩ := t
  have n6 := pT_wp hB 13 f t2 g (by have := n4.2.2.1; omega) n5.2.1 n5.2.2 e6
  obtain ⟨i, e7, w⟩ := bS_r w
  have n7 := pW_r hB (by have := n4.2.2.1; have := n6.2.2.1; omega) n6.2.2.2.1 n6.2.2.2.2.1 e7
  cases w
  exact ⟨by have := n4.2.2.1; have := n6.2.2.1; omega, n7.2⟩
/-- rows of an ask, laws of an ask -/
def rwsO : List ITt → List RWt
  | [] => []
  | x :: l => match x.2 with | .inl r => r :: rwsO l | .inr _ => rwsO l
def lwsO : List ITt → List LWt
  | [] => []
  | x :: l => match x.2 with | .inl _ => lwsO l | .inr r => r :: lwsO l
theorem rwsO_a {q : Int} {r : RWt} : ∀ l : List ITt, rwsO (l ++ [(q, .inl r)]) = rwsO l ++ [r] ∧ lwsO (l ++ [(q, .inl r)]) = lwsO l
  | [] => ⟨rfl, rfl⟩
  | x :: l => by
    have ih := rwsO_a (q := q) (r := r) l
    obtain ⟨p, y⟩ := x
    cases y with
    | inl s => exact ⟨congrArg (fun z => s :: z) ih.1, ih.2⟩
    | inr s => exact ⟨ih.1, congrArg (fun z => s :: z) ih.2⟩
theorem lwsO_a {q : Int} {r : LWt} : ∀ l : List ITt, rwsO (l ++ [(q, .inr r)]) = rwsO l ∧ lwsO (l ++ [(q, .inr r)]) = lwsO l ++ [r]
  | [] => ⟨rfl, rfl⟩
  | x :: l => by
    have ih := lwsO_a (q := q) (r := r) l
    obtain ⟨p, y⟩ := x
    cases y with
    | inl s => exact ⟨congrArg (fun z => s :: z) ih.1, ih.2⟩
    | inr s => exact ⟨ih.1, congrArg (fun z => s :: z) ih.2⟩
theorem itK_r {B : Int → Int} {n : Int} {E : EV} {ks : List Int} {la q : Int} {r : RWt} : ∀ (i j : Int) (l : List ITt), itK B n E ks la i j (l ++ [(q, .inl r)]) = min (itK B n E ks la i j l) (rwK B n ks la (i + (rwsO l).length) q r)
  | i, j, [] => by
    show min (rwK B n ks la i q r) 1000000 = min 1000000 (rwK B n ks la (i + 0) q r)
    rw [Int.add_zero]; omega
  | i, j, (p, .inl s) :: l => by
    show min (rwK B n ks la i p s) (itK B n E ks la (i + 1) j (l ++ [(q, .inl r)])) = min (min (rwK B n ks la i p s) (itK B n E ks la (i + 1) j l)) (rwK B n ks la (i + (((rwsO l).length + 1 : Nat) : Int)) q r)
    rw [itK_r (i + 1) j l, show i + (((rwsO l).length + 1 : Nat) : Int) = i + 1 + ((rwsO l).length : Int) by omega]
    omega
  | i, j, (p, .inr s) :: l => by
    show min (lwK B n E ks la j p s) (itK B n E ks la i (j + 1) (l ++ [(q, .inl r)])) = min (min (lwK B n E ks la j p s) (itK B n E ks la i (j + 1) l)) (rwK B n ks la (i + (rwsO l).length) q r)
    rw [itK_r i (j + 1) l]
    omega
theorem itK_l {B : Int → Int} {n : Int} {E : EV} {ks : List Int} {la q : Int} {r : LWt} : ∀ (i j : Int) (l : List ITt), itK B n E ks la i j (l ++ [(q, .inr r)]) = min (itK B n E ks la i j l) (lwK B n E ks la (j + (lwsO l).length) q r)
  | i, j, [] => by
    show min (lwK B n E ks la j q r) 1000000 = min 1000000 (lwK B n E ks la (j + 0) q r)
    rw [Int.add_zero]; omega
  | i, j, (p, .inl s) :: l => by
    show min (rwK B n ks la i p s) (itK B n E ks la (i + 1) j (l ++ [(q, .inr r)])) = min (min (rwK B n ks la i p s) (itK B n E ks la (i + 1) j l)) (lwK B n E ks la (j + (lwsO l).length) q r)
    rw [itK_l (i + 1) j l]
    omega
  | i, j, (p, .inr s) :: l => by
    show min (lwK B n E ks la j p s) (itK B n E ks la i (j + 1) (l ++ [(q, .inr r)])) = min (min (lwK B n E ks la j p s) (itK B n E ks la i (j + 1) l)) (lwK B n E ks la (j + (((lwsO l).length + 1 : Nat) : Int)) q r)
    rw [itK_l i (j + 1) l, show j + (((lwsO l).length + 1 : Nat) : Int) = j + 1 + ((lwsO l).length : Int) by omega]
    omega
theorem rwK_12 {B : Int → Int} {n : Int} {ks : List Int} {la q : Int} {r : RWt} {i : Nat} : rwK B n ks la ((min i 12 : Nat) : Int) q r = rwK B n ks la (i : Int) q r := by
  unfold rwK
  by_cases c : 12 ≤ (i : Int)
  · rw [if_pos c, if_pos (show 12 ≤ ((min i 12 : Nat) : Int) by omega)]
  · rw [if_neg c, if_neg (show ¬ 12 ≤ ((min i 12 : Nat) : Int) by omega)]
theorem lwK_4 {B : Int → Int} {n : Int} {E : EV} {ks : List Int} {la q : Int} {r : LWt} {i : Nat} : lwK B n E ks la ((min i 4 : Nat) : Int) q r = lwK B n E ks la (i : Int) q r := by
  unfold lwK
  by_cases c : 4 ≤ (i : Int)
  · rw [if_pos c, if_pos (show 4 ≤ ((min i 4 : Nat) : Int) by omega)]
  · rw [if_neg c, if_neg (show ¬ 4 ≤ ((min i 4 : Nat) : Int) by omega)]
/-- rows and laws that were read, as x keeps them -/
def itA (B : Int → Int) (n A a T : Int) (E : EV) (ks : List Int) (la : Int) (its : List ITt) (h : AH) : Prop := lwS B n A a T E ks la ((min (lwsO its).length 4 : Nat) : Int) h ∧ rdK B n A a ks la ((min (rwsO its).length 12 : Nat) : Int) h ∧ (h 441 13 = 0 ∧ h 441 15 = 0) ∧ (∀ i : Nat, i < 12 → ∀ r, (rwsO its)[i]? = some r → rwkX B n a i ks r h) ∧ ∀ i : Nat, i < 4 → ∀ r, (lwsO its)[i]? = some r → lwkX B n a T E ks la i r h
theorem rdK_of {B : Int → Int} {n A a T la m m8 : Int} {E : EV} {ks : List Int} {h : AH} (x : lwS B n A a T E ks la m h) (kb : ∀ k, 0 ≤ k → k < (ks.length : Int) → 0 ≤ kL ks k ∧ kL ks k ≤ 2) (e8 : h a 8 = m8 ∧ 0 ≤ m8 ∧ m8 ≤ 12) (ar : (h (a + 6) (-2) = 101 ∧ h (a + 6) (-1) = 36) ∧ h (a + 7) (-2) = 101 ∧ h (a + 7) (-1) = 12) : rdK B n A a ks la m8 h := by
  obtain ⟨x1, x2, x3, ⟨x4, x5, x6⟩, ⟨x7, x8, x9, x10⟩, x11, x12, x13, x16, x18⟩ := x
  exact ⟨x1, x3, ⟨x4, x5⟩, ⟨x7, x8, x9, fun k k0 k1 => ⟨x10 k k0 k1, kb k k0 k1⟩⟩, x11, e8, ar, x18⟩
theorem rwkX_f {B : Int → Int} {n a i m : Int} {ks : List Int} {r : RWt} {h h' : AH} (k3 : ks.length ≤ 3) (ne : i ≠ m) (f : ∀ b s, (b = a + 6 ∨ b = a + 7) → ¬ (b = a + 6 ∧ 3 * m ≤ s ∧ s < 3 * m + 3) → ¬ (b = a + 7 ∧ s = m) → h' b s = h b s) (x : rwkX B n a i ks r h) : rwkX B n a i ks r h' := by
  refine ⟨by rw [f _ _ (by omega) (by omega) (by omega)]; exact x.1, fun j jk q e => ?_⟩
  rw [f _ _ (by omega) (by omega) (by omega)]
  exact x.2 j jk q e
theorem lwkX_f {B : Int → Int} {n a T i m la N : Int} {E : EV} {ks : List Int} {r : LWt} {h h' : AH} (eT : T = a + 12) (LA : a = 271 ∨ a = 289) (ne : i ≠ m) (eN : h T 0 ≤ N) (le : h T 0 ≤ h' T 0) (F : ∀ b s, (a + 8 ≤ b ∧ b ≤ a + 17) → ¬ (b = T ∧ s = 0) → ¬ (T + 1 ≤ b ∧ b ≤ T + 4 ∧ N ≤ s) → ¬ (b = T + 5 ∧ 3 * N ≤ s) → ¬ (a + 8 ≤ b ∧ b ≤ a + 10 ∧ s = m) → ¬ (b = a + 11 ∧ 2 * m ≤ s ∧ s ≤ 2 * m + 1) → h' b s = h b s) (x : lwkX B n a T E ks la i r h) : lwkX B n a T E ks la i r h' := by
  obtain ⟨v, w, x1, x2, ⟨x3, x3'⟩, x4, ⟨x5, x6, x7, x8⟩, x9, x10⟩ := x
  have TR : ∀ {t : TR} {v : Int}, 0 ≤ v → v + sz t ≤ h T 0 → rXc h T (rsE (EVA B n E ks la r.1) t 0) v 0 (v + 1) → rXc h' T (rsE (EVA B n E ks la r.1) t 0) v 0 (v + 1) := fun {t v} v0 v1 y => rXc_g (N := h T 0) v0 v1 (fun b s b0 b1 s0 s1 => F b s (by omega) (by omega) (by omega) (by omega) (by omega) (by omega)) (fun s s0 s1 => F _ s (by omega) (by omega) (by omega) (by omega) (by omega) (by omega)) y
  refine ⟨v, w, by rw [F _ _ (by omega) (by omega) (by omega) (by omega) (by omega) (by omega)]; exact x1, by rw [F _ _ (by omega) (by omega) (by omega) (by omega) (by omega) (by omega)]; exact x2, ⟨by rw [F _ _ (by omega) (by omega) (by omega) (by omega) (by omega) (by omega)]; exact x3, x3'⟩, fun k k0 k1 => ?_, ⟨x5, by omega, x7, by omega⟩, TR x5 x6 x9, TR x7 x8 x10⟩
  rw [F _ _ (by omega) (by omega) (by omega) (by omega) (by omega) (by omega)]
  exact x4 k k0 k1
theorem itA_r {B : Int → Int} {n A a T la q q' : Int} {E : EV} {ks : List Int} {its : List ITt} {r : RWt} {K : RWt → Int} {h h' : AH} (x : itA B n A a T E ks la its h) (W : pRow B n q = .inr (r, q')) (o : rwQx B n A a la ((min (rwsO its).length 12 : Nat) : Int) K ks (if ((min (rwsO its).length 12 : Nat) : Int) < 12 then 1 else 0) (pRow B n q) h') (f : frRw a ((min (rwsO its).length 12 : Nat) : Int) h h') : itA B n A a T E ks la (its ++ [(q, .inl r)]) h' ∧ FK h' = K r ∧ Sx B n (.inr q') h' := by
  obtain ⟨x1, x2, ⟨x3, x4⟩, x5, x6⟩ := x
  have LA : a = 271 ∨ a = 289 := x1.2.2.2.1.1
  have eT : T = a + 12 := x1.2.2.2.1.2.2
  have k3 := x1.2.2.2.2.1.2.2.1
  obtain ⟨m, em, m0⟩ : ∃ m : Int, id (m = ((min (rwsO its).length 12 : Nat) : Int)) ∧ 0 ≤ m ∧ m ≤ 12 := ⟨_, rfl, by omega, by omega⟩
  rw [← (show m = ((min (rwsO its).length 12 : Nat) : Int) from em)] at o f
  rw [W] at o
  obtain ⟨o1, o2, o3, o4⟩ := o
  have F : ∀ b s, ¬ (b = 441 ∧ ((2 ≤ s ∧ s ≤ 9) ∨ s = 18)) → ¬ (b = a + 6 ∧ 3 * m ≤ s ∧ s < 3 * m + 3) → ¬ (b = a + 7 ∧ s = m) → ¬ (b = a ∧ s = 8) → h' b s = h b s := f
  have R := rwsO_a (q := q) (r := r) its
  have LN : id (((min (rwsO (its ++ [(q, .inl r)])).length 12 : Nat) : Int) = m + (if m < 12 then 1 else 0)) := by
    show ((min (rwsO (its ++ [(q, .inl r)])).length 12 : Nat) : Int) = m + (if m < 12 then 1 else 0)
    rw [show m = ((min (rwsO its).length 12 : Nat) : Int) from em, R.1, List.length_append]
    show ((min ((rwsO its).length + 1) 12 : Nat) : Int) = _
    split <;> omega
  refine ⟨⟨?_, ?_, ⟨by rw [F _ _ (by omega) (by omega) (by omega) (by omega)]; exact x3, by rw [F _ _ (by omega) (by omega) (by omega) (by omega)]; exact x4⟩, ?_, ?_⟩, o3, o1⟩
  · rw [R.2]
    refine lwS_f x1 (fun b s y => ?_) (by rw [F _ _ (by omega) (by omega) (by omega) (by omega)]; exact x1.2.2.2.2.2.2.2.1.2.2) ⟨by rw [F _ _ (by omega) (by omega) (by omega) (by omega)]; exact x1.2.2.2.2.2.2.1.1, x1.2.2.2.2.2.2.1.2⟩ o2.2.2.2.2.2.2.2
    unfold lwC at y
    exact F b s (by omega) (by omega) (by omega) (by omega)
  · rw [show ((min (rwsO (its ++ [(q, .inl r)])).length 12 : Nat) : Int) = m + (if m < 12 then 1 else 0) from LN]; exact o2
  · intro i i12 u eu
    rw [R.1] at eu
    rcases app_ixg eu with ⟨y1, y2⟩ | ⟨y1, y2⟩
    · exact rwkX_f k3 (by have e : m = ((min (rwsO its).length 12 : Nat) : Int) := em; omega) (fun b s _ z1 z2 => F b s (by omega) z1 z2 (by omega)) (x5 i i12 u y2)
    · rw [y2, show (i : Int) = m by have e : m = ((min (rwsO its).length 12 : Nat) : Int) := em; omega]
      exact o4 (if_pos (by have e : m = ((min (rwsO its).length 12 : Nat) : Int) := em; omega))
  · intro i i4 u eu
    rw [R.2] at eu
    exact lwkX_f (m := 9) (N := h T 0) eT LA (by omega) (Int.le_refl _) (by rw [F T 0 (by omega) (by omega) (by omega) (by omega)]; exact Int.le_refl _) (fun b s y1 y2 y3 y4 y5 y6 => F b s (by omega) (by omega) (by omega) (by omega)) (x6 i i4 u eu)
theorem itA_l {B : Int → Int} {n A a T la q q' : Int} {E : EV} {ks : List Int} {its : List ITt} {r : LWt} {K : LWt → Int} {h h' : AH} (x : itA B n A a T E ks la its h) (W : pLaw B n q = .inr (r, q')) (o : lwQ B n A a T E ks la ((min (lwsO its).length 4 : Nat) : Int) (if ((min (lwsO its).length 4 : Nat) : Int) < 4 then 1 else 0) (h T 0) K (pLaw B n q) h') (f : frLw a T ((min (lwsO its).length 4 : Nat) : Int) (h T 0) h h') : itA B n A a T E ks la (its ++ [(q, .inr r)]) h' ∧ FK h' = K r ∧ Sx B n (.inr q') h' ∧ rmT B n T (.inr q') h' := by
  obtain ⟨x1, x2, ⟨x3, x4⟩, x5, x6⟩ := x
  have LA : a = 271 ∨ a = 289 := x1.2.2.2.1.1
  have eT : T = a + 12 := x1.2.2.2.1.2.2
  have k3 := x1.2.2.2.2.1.2.2.1
  obtain ⟨m, em, m0⟩ : ∃ m : Int, id (m = ((min (lwsO its).length 4 : Nat) : Int)) ∧ 0 ≤ m ∧ m ≤ 4 := ⟨_, rfl, by omega, by omega⟩
  rw [← (show m = ((min (lwsO its).length 4 : Nat) : Int) from em)] at o f
  rw [W] at o
  obtain ⟨o1, o2, o3, o4, ⟨o5, o6⟩, o7⟩ := o
  have F : ∀ b s, ¬ (b = 441 ∧ ((2 ≤ s ∧ s ≤ 9) ∨ s = 13 ∨ s = 15 ∨ s = 16 ∨ s = 18)) → ¬ (442 ≤ b ∧ b ≤ 445 ∧ 0 ≤ s) → ¬ (b = T ∧ s = 0) → ¬ (T + 1 ≤ b ∧ b ≤ T + 4 ∧ h T 0 ≤ s) → ¬ (b = T + 5 ∧ 3 * h T 0 ≤ s) → ¬ (b = a ∧ s = 11) → ¬ (a + 8 ≤ b ∧ b ≤ a + 10 ∧ s = m) → ¬ (b = a + 11 ∧ 2 * m ≤ s ∧ s ≤ 2 * m + 1) → h' b s = h b s := f
  have R := lwsO_a (q := q) (r := r) its
  have LN : id (((min (lwsO (its ++ [(q, .inr r)])).length 4 : Nat) : Int) = m + (if m < 4 then 1 else 0)) := by
    show ((min (lwsO (its ++ [(q, .inr r)])).length 4 : Nat) : Int) = m + (if m < 4 then 1 else 0)
    rw [show m = ((min (lwsO its).length 4 : Nat) : Int) from em, R.2, List.length_append]
    show ((min ((lwsO its).length + 1) 4 : Nat) : Int) = _
    split <;> omega
  have x7 := x2.2.2.2.2.2.2.1
  refine ⟨⟨by rw [show ((min (lwsO (its ++ [(q, .inr r)])).length 4 : Nat) : Int) = m + (if m < 4 then 1 else 0) from LN]; exact o2, ?_, o5, ?_, ?_⟩, o4, o1, o3⟩
  · rw [R.1]
    refine rdK_of o2 (fun k k0 k1 => (x2.2.2.2.1.2.2.2 k k0 k1).2) ⟨by rw [F _ _ (by omega) (by omega) (by omega) (by omega) (by omega) (by omega) (by omega) (by omega)]; exact x2.2.2.2.2.2.1.1, x2.2.2.2.2.2.1.2⟩ ?_
    rw [F _ _ (by omega) (by omega) (by omega) (by omega) (by omega) (by omega) (by omega) (by omega), F _ _ (by omega) (by omega) (by omega) (by omega) (by omega) (by omega) (by omega) (by omega), F _ _ (by omega) (by omega) (by omega) (by omega) (by omega) (by omega) (by omega) (by omega), F _ _ (by omega) (by omega) (by omega) (by omega) (by omega) (by omega) (by omega) (by omega)]
    exact x7
  · intro i i12 u eu
    rw [R.1] at eu
    exact rwkX_f (m := 99) k3 (by omega) (fun b s z _ _ => F b s (by omega) (by omega) (by omega) (by omega) (by omega) (by omega) (by omega) (by omega)) (x5 i i12 u eu)
  · intro i i4 u eu
    rw [R.2] at eu
    rcases app_ixg eu with ⟨y1, y2⟩ | ⟨y1, y2⟩
    · exact lwkX_f (m := m) (N := h T 0) eT LA (by have e : m = ((min (lwsO its).length 4 : Nat) : Int) := em; omega) (Int.le_refl _) o6 (fun b s y1 y2 y3 y4 y5 y6 => F b s (by omega) (by omega) y2 y3 y4 (by omega) y5 y6) (x6 i i4 u y2)
    · rw [y2, show (i : Int) = m by have e : m = ((min (lwsO its).length 4 : Nat) : Int) := em; omega]
      exact o7 (if_pos (by have e : m = ((min (lwsO its).length 4 : Nat) : Int) := em; omega))

