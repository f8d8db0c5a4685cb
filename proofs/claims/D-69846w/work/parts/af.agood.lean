/-! an ask without faults: what is known of its pieces, rows and laws -/
def pcGd (B : Int → Int) (n : Int) (p : Int × Int) : Prop := (0 ≤ p.1 ∧ p.1 ≤ n) ∧ (1 ≤ p.2 ∧ p.2 ≤ 9)
def rwS (B : Int → Int) (n : Int) (r : RWt) : Prop := (∀ q, q ∈ r.1 → 0 ≤ q ∧ q ≤ n ∧ isVl B n q) ∧ (0 ≤ r.2 ∧ r.2 ≤ n) ∧ (isN B n r.2 3025044 ∨ isVl B n r.2)
def lwSy (B : Int → Int) (n : Int) (r : LWt) : Prop := (1 ≤ r.1.length ∧ r.1.length ≤ 2) ∧ (∀ p, p ∈ r.1 → (0 ≤ p.1 ∧ p.1 ≤ n) ∧ 0 ≤ p.2 ∧ p.2 ≤ 2) ∧ rdd B n r.2.1 ∧ rdd B n r.2.2
def itS (B : Int → Int) (n : Int) (x : ITt) : Prop := (0 ≤ x.1 ∧ x.1 ≤ n) ∧ match x.2 with | .inl r => rwS B n r | .inr r => lwSy B n r
theorem pPcs_s {B : Int → Int} {n : Int} (hB : ∀ i, 0 ≤ i → i < n → 0 ≤ B i ∧ B i < 256) : ∀ (k : Nat) (l : List (Int × Int)) (q : Int) (l' : List (Int × Int)) (q1 : Int), 0 ≤ q → q ≤ n → tO B n q ≠ 5 → (∀ p, p ∈ l → pcGd B n p) → pPcs B n k l q = .inr (l', q1) → (∀ p, p ∈ l' → pcGd B n p) ∧ (0 ≤ q1 ∧ q1 ≤ n ∧ tO B n q1 ≠ 5)
  | 0, l, q, l', q1, _, _, _, _, w => by cases w
  | k + 1, l, q, l', q1, q0, qn, o5, g, w => by
    cases e : pPc B n q with
    | inl z => rw [pPcs_l e] at w; cases w
    | inr x =>
      obtain ⟨p, q2⟩ := x
      obtain ⟨p1, p2, p3, p4, p5, _⟩ := pPc_r hB q0 qn o5 e
      have G : ∀ u, u ∈ l ++ [p] → pcGd B n u := fun u m => by
        rcases List.mem_append.mp m with y | y
        · exact g u y
        · rw [List.mem_singleton.mp y]; exact ⟨by omega, p5⟩
      obtain ⟨WC, WN⟩ := pPcs_r (k := k) (l := l) e
      by_cases c : comma B n q2
      · rw [WC c] at w
        obtain ⟨q3, e3, w⟩ := bS_r w
        have n3 := nx_r hB (by omega) p3 p4 (by rw [c.1]; decide) e3
        exact pPcs_s hB k _ q3 l' q1 (by omega) n3.2.2.1 n3.2.2.2 G w
      · rw [WN c] at w
        cases w
        exact ⟨G, by omega, p3, p4⟩
theorem pVs_s {B : Int → Int} {n : Int} (hB : ∀ i, 0 ≤ i → i < n → 0 ≤ B i ∧ B i < 256) : ∀ (k : Nat) (l : List Int) (q : Int) (l' : List Int) (q1 : Int), 0 ≤ q → q ≤ n → tO B n q ≠ 5 → (∀ u, u ∈ l → 0 ≤ u ∧ u ≤ n ∧ isVl B n u) → pVs B n k l q = .inr (l', q1) → ∀ u, u ∈ l' → 0 ≤ u ∧ u ≤ n ∧ isVl B n u
  | 0, l, q, l', q1, _, _, _, _, w => by cases w
  | k + 1, l, q, l', q1, q0, qn, o5, g, w => by
    by_cases v : isVl B n q
    · have G : ∀ u, u ∈ l ++ [q] → 0 ≤ u ∧ u ≤ n ∧ isVl B n u := fun u m => by
        rcases List.mem_append.mp m with y | y
        · exact g u y
        · rw [List.mem_singleton.mp y]; exact ⟨q0, qn, v⟩
      cases e : nx B n q with
      | inl z => rw [pVs_l v e] at w; cases w
      | inr q2 =>
        have n2 := nx_r hB q0 qn o5 (isVl_0 v) e
        obtain ⟨WV, WN⟩ := pVs_r (k := k) (l := l) v e
        by_cases c : isVl B n q2
        · rw [WV c] at w
          exact pVs_s hB k _ q2 l' q1 (by omega) n2.2.2.1 n2.2.2.2 G w
        · rw [WN c] at w; cases w; exact G
    · rw [pVs_n v] at w; cases w
theorem pRow_s {B : Int → Int} {n q q1 : Int} {r : RWt} (hB : ∀ i, 0 ≤ i → i < n → 0 ≤ B i ∧ B i < 256) (q0 : 0 ≤ q) (qn : q ≤ n) (o5 : tO B n q ≠ 5) (o0 : tO B n q ≠ 0) (w : pRow B n q = .inr (r, q1)) : rwS B n r := by
  unfold pRow at w
  obtain ⟨a, e1, w⟩ := bS_r w
  have n1 := nx_r hB q0 qn o5 o0 e1
  obtain ⟨x, e2, w⟩ := bS_r w
  obtain ⟨vs, b⟩ := x
  have n2 := pVs_le hB 2002 [] a vs b (by omega) n1.2.2.1 n1.2.2.2 e2
  have s2 := pVs_s hB 2002 [] a vs b (by omega) n1.2.2.1 n1.2.2.2 (fun u m => by cases m) e2
  obtain ⟨c, e3, w⟩ := bS_r w
  have n3 := pW_r hB (by omega) n2.2.1 n2.2.2 e3
  have w : pRw B n vs c = .inr (r, q1) := w
  unfold pRw at w
  by_cases g : isN B n c 3025044 ∨ isVl B n c
  · rw [if_pos g] at w
    obtain ⟨d, e4, w⟩ := bS_r w
    obtain ⟨f, e5, w⟩ := bS_r w
    cases w
    exact ⟨s2, ⟨by show 0 ≤ c; omega, n3.2.1⟩, g⟩
  · rw [if_neg g] at w; cases w
theorem kdv_02 (B : Int → Int) (n q : Int) : 0 ≤ kdv B n q ∧ kdv B n q ≤ 2 := by unfold kdv; split <;> (try split) <;> omega
theorem pNs_s {B : Int → Int} {n q q1 : Int} {ns : List (Int × Int)} (hB : ∀ i, 0 ≤ i → i < n → 0 ≤ B i ∧ B i < 256) (q0 : 0 ≤ q) (qn : q ≤ n) (o5 : tO B n q ≠ 5) (w : pNs B n q = .inr (ns, q1)) : (1 ≤ ns.length ∧ ns.length ≤ 2) ∧ ∀ p, p ∈ ns → (0 ≤ p.1 ∧ p.1 ≤ n) ∧ 0 ≤ p.2 ∧ p.2 ≤ 2 := by
  unfold pNs at w
  obtain ⟨x, e1, w⟩ := bS_r w
  obtain ⟨p, q2⟩ := x
  obtain ⟨_, q3, _, _, pe, _⟩ := pNm_r e1
  have le := pNm_le hB q0 qn o5 e1
  have P : (0 ≤ p.1 ∧ p.1 ≤ n) ∧ 0 ≤ p.2 ∧ p.2 ≤ 2 := by rw [pe]; exact ⟨⟨q0, qn⟩, kdv_02 B n q3⟩
  by_cases c : tO B n q2 = 1
  · have w : (bS (pNm B n q2) fun y => .inr ([p, y.1], y.2)) = (.inr (ns, q1) : Int ⊕ (List (Int × Int) × Int)) := by
      have := w
      rw [if_pos c] at this
      exact this
    obtain ⟨y, e2, w⟩ := bS_r w
    obtain ⟨p2, q4⟩ := y
    obtain ⟨_, q5, _, _, pe2, _⟩ := pNm_r e2
    cases w
    refine ⟨⟨by show 1 ≤ 2; decide, by show 2 ≤ 2; decide⟩, fun u m => ?_⟩
    rcases List.mem_cons.mp m with z | z
    · rw [z]; exact P
    · rw [List.mem_singleton.mp z]
      show (0 ≤ p2.1 ∧ p2.1 ≤ n) ∧ 0 ≤ p2.2 ∧ p2.2 ≤ 2
      rw [pe2]; exact ⟨⟨by show 0 ≤ q2; omega, le.2.1⟩, kdv_02 B n q5⟩
  · have w : (Sum.inr ([p], q2) : Int ⊕ (List (Int × Int) × Int)) = .inr (ns, q1) := by
      have := w
      rw [if_neg c] at this
      exact this
    cases w
    refine ⟨⟨by show 1 ≤ 1; decide, by show 1 ≤ 2; decide⟩, fun u m => ?_⟩
    rw [List.mem_singleton.mp m]; exact P
theorem pLaw_s {B : Int → Int} {n q q1 : Int} {r : LWt} (hB : ∀ i, 0 ≤ i → i < n → 0 ≤ B i ∧ B i < 256) (hn : n ≤ 2000) (q0 : 0 ≤ q) (qn : q ≤ n) (o5 : tO B n q ≠ 5) (o0 : tO B n q ≠ 0) (w : pLaw B n q = .inr (r, q1)) : lwSy B n r := by
  unfold pLaw at w
  obtain ⟨a, e1, w⟩ := bS_r w
  have n1 := nx_r hB q0 qn o5 o0 e1
  obtain ⟨x, e2, w⟩ := bS_r w
  obtain ⟨ns, b⟩ := x
  have n2 := pNs_le hB (by omega) n1.2.2.1 n1.2.2.2 e2
  have s2 := pNs_s hB (by omega) n1.2.2.1 n1.2.2.2 e2
  have w : pLw B n ns b = .inr (r, q1) := w
  unfold pLw at w
  obtain ⟨c, e3, w⟩ := bS_r w
  have n3 := pW_r hB (by omega) n2.2.1 n2.2.2 e3
  obtain ⟨y, e4, w⟩ := bS_r w
  obtain ⟨t1, d⟩ := y
  have n4 := pT_wp hB 13 c t1 d (by omega) n3.2.1 n3.2.2 e4
  obtain ⟨f, e5, w⟩ := bS_r w
  have n5 := pW_r hB (by omega) n4.2.2.2.1 n4.2.2.2.2.1 e5
  obtain ⟨y2, e6, w⟩ := bS_r w
  obtain ⟨t2, g⟩ := y2
  obtain ⟨u, e7, w⟩ := bS_r w
  cases w
  exact ⟨s2.1, s2.2, ⟨c, d, by omega, n3.2.1, n3.2.2, e4⟩, ⟨f, g, by omega, n5.2.1, n5.2.2, e6⟩⟩
theorem pIts_s {B : Int → Int} {n : Int} (hB : ∀ i, 0 ≤ i → i < n → 0 ≤ B i ∧ B i < 256) (hn : n ≤ 2000) : ∀ (k : Nat) (l : List ITt) (q : Int) (its : List ITt), 0 ≤ q → q ≤ n → tO B n q ≠ 5 → (∀ x, x ∈ l → itS B n x) → pIts B n k l q = .inr its → ∀ x, x ∈ its → itS B n x
  | 0, l, q, its, _, _, _, _, w => by cases w
  | k + 1, l, q, its, q0, qn, o5, g, w => by
    by_cases o0 : tO B n q = 0
    · rw [pIts_0 o0] at w; cases w; exact g
    have TE := tE_r hB q0 qn o5
    by_cases g1 : isN B n q 13550
    · rw [pIts_r o0 g1] at w
      obtain ⟨x, e, w⟩ := bS_r w
      obtain ⟨r, q1⟩ := x
      have le := pRow_le hB q0 qn o5 o0 e
      refine pIts_s hB hn k _ q1 its (by omega) le.2.1 le.2.2 (fun x m => ?_) w
      rcases List.mem_append.mp m with y | y
      · exact g x y
      · rw [List.mem_singleton.mp y]; exact ⟨⟨q0, qn⟩, pRow_s hB q0 qn o5 o0 e⟩
    by_cases g2 : isN B n q 8798
    · rw [pIts_l o0 g1 g2] at w
      obtain ⟨x, e, w⟩ := bS_r w
      obtain ⟨r, q1⟩ := x
      have le := pLaw_le hB q0 qn o5 o0 e
      refine pIts_s hB hn k _ q1 its (by omega) le.2.1 le.2.2 (fun x m => ?_) w
      rcases List.mem_append.mp m with y | y
      · exact g x y
      · rw [List.mem_singleton.mp y]; exact ⟨⟨q0, qn⟩, pLaw_s hB hn q0 qn o5 o0 e⟩
    · rw [pIts_n o0 g1 g2] at w; cases w
/-! keys that tell of no fault -/
theorem vkL_g {B : Int → Int} {n : Int} {ks : List Int} (hn : n ≤ 2000) : ∀ (j : Int) (l : List Int), (∀ q, q ∈ l → 0 ≤ q ∧ q ≤ n ∧ isVl B n q) → 1000000 ≤ vkL B n ks j l → ∀ (i : Nat) q, l[i]? = some q → j + i < (ks.length : Int) → vlK B n q = kL ks (j + i)
  | j, [], _, _, i, q, e, _ => by cases e
  | j, u :: l, g, w, i, q, e, lt => by
    have w : 1000000 ≤ min (if j < (ks.length : Int) ∧ vlK B n u ≠ kL ks j then tS B n u * 8 + 3 else 1000000) (vkL B n ks (j + 1) l) := w
    have gu := g u List.mem_cons_self
    have S := tS_r (B := B) gu.2.1
    cases i with
    | zero =>
      have eu : u = q := Option.some.inj e
      have lt : j < (ks.length : Int) := by omega
      rw [← eu, show j + ((0 : Nat) : Int) = j by omega]
      by_cases c : vlK B n u = kL ks j
      · exact c
      · rw [if_pos ⟨lt, c⟩] at w; omega
    | succ i =>
      have e : l[i]? = some q := e
      rw [show j + ((i + 1 : Nat) : Int) = j + 1 + (i : Int) by omega]
      exact vkL_g (B := B) (ks := ks) hn (j + 1) l (fun q m => g q (List.mem_cons_of_mem _ m)) (by omega) i q e (by omega)
def rwGd (B : Int → Int) (n : Int) (ks : List Int) (la : Int) (r : RWt) : Prop := rwS B n r ∧ r.1.length = ks.length ∧ (∀ (j : Nat) q, r.1[j]? = some q → (j : Int) < (ks.length : Int) → vlK B n q = kL ks j) ∧ (isN B n r.2 3025044 ∨ (isVl B n r.2 ∧ vlK B n r.2 = la))
theorem rwK_g {B : Int → Int} {n la i q : Int} {ks : List Int} {r : RWt} (hn : n ≤ 2000) (qr : 0 ≤ q ∧ q ≤ n) (s : rwS B n r) (w : 1000000 ≤ rwK B n ks la i q r) : i < 12 ∧ rwGd B n ks la r := by
  have S := tS_r (B := B) qr.2
  have S2 := tS_r (B := B) s.2.1.2
  unfold rwK at w
  have a1 : i < 12 := Classical.byContradiction fun z => by rw [if_pos (show 12 ≤ i by omega)] at w; omega
  have a2 : 1000000 ≤ vkL B n ks 0 r.1 := by omega
  have a3 : r.1.length = ks.length := Classical.byContradiction fun z => by rw [if_neg z] at w; omega
  have a4 : ¬ (¬ isN B n r.2 3025044 ∧ vlK B n r.2 ≠ la) := fun z => by rw [if_pos z] at w; omega
  refine ⟨a1, s, a3, fun j u e lt => ?_, ?_⟩
  · have := vkL_g (B := B) (ks := ks) hn 0 r.1 s.1 a2 j u e (by omega)
    rw [Int.zero_add] at this
    exact this
  · by_cases c : isN B n r.2 3025044
    · exact Or.inl c
    · exact Or.inr ⟨s.2.2.resolve_left c, Classical.byContradiction fun z => a4 ⟨c, z⟩⟩
theorem nmL_g {B : Int → Int} {n : Int} (hn : n ≤ 2000) : ∀ (l0 l : List (Int × Int)), (∀ p, p ∈ l → (0 ≤ p.1 ∧ p.1 ≤ n) ∧ 0 ≤ p.2 ∧ p.2 ≤ 2) → 1000000 ≤ nmL B n l0 l → ∀ p, p ∈ l → 0 ≤ p.2 ∧ p.2 ≤ 1
  | _, [], _, _, p, m => by cases m
  | l0, u :: l, g, w, p, m => by
    have w : 1000000 ≤ min (nm1 B n l0 u) (nmL B n (l0 ++ [u]) l) := w
    have gu := g u List.mem_cons_self
    have S := tS_r (B := B) gu.1.2
    rcases List.mem_cons.mp m with z | z
    · rw [z]
      unfold nm1 at w
      have : u.2 ≠ 2 := fun y => by rw [if_pos y] at w; omega
      omega
    · exact nmL_g (B := B) hn (l0 ++ [u]) l (fun p m => g p (List.mem_cons_of_mem _ m)) (by omega) p z
def lwGd (B : Int → Int) (n : Int) (E : EV) (ks : List Int) (la : Int) (r : LWt) : Prop := (1 ≤ r.1.length ∧ r.1.length ≤ 2) ∧ (∀ p, p ∈ r.1 → 0 ≤ p.2 ∧ p.2 ≤ 1) ∧ (rdd B n r.2.1 ∧ keyE (EVA B n E ks la r.1) (-1) r.2.1 = 1000000) ∧ (rdd B n r.2.2 ∧ keyE (EVA B n E ks la r.1) (kdE (EVA B n E ks la r.1) r.2.1) r.2.2 = 1000000) ∧ ¬ lw6 ks la
theorem rdd_kb {B : Int → Int} {n w : Int} {E : EV} {t : TR} (hB : ∀ i, 0 ≤ i → i < n → 0 ≤ B i ∧ B i < 256) (hn : n ≤ 2000) (r : rdd B n t) : keyE E w t ≤ 1000000 := by
  obtain ⟨u, v, u0, un, o5, e⟩ := r
  have a := pT_wp hB 13 u t v u0 un o5 e
  have b := pT_ok hB hn 13 u t v u0 un o5 e
  exact (keyE_b b.1 a.1).2
theorem lwK_g {B : Int → Int} {n la i q : Int} {E : EV} {ks : List Int} {r : LWt} (hB : ∀ i, 0 ≤ i → i < n → 0 ≤ B i ∧ B i < 256) (hn : n ≤ 2000) (qr : 0 ≤ q ∧ q ≤ n) (s : lwSy B n r) (w : 1000000 ≤ lwK B n E ks la i q r) : i < 4 ∧ lwGd B n E ks la r := by
  have S := tS_r (B := B) qr.2
  have k1 := rdd_kb (E := EVA B n E ks la r.1) (w := -1) hB hn s.2.2.1
  have k2 := rdd_kb (E := EVA B n E ks la r.1) (w := kdE (EVA B n E ks la r.1) r.2.1) hB hn s.2.2.2
  unfold lwK at w
  have a1 : i < 4 := Classical.byContradiction fun z => by rw [if_pos (show 4 ≤ i by omega)] at w; omega
  have a2 : ¬ lw6 ks la := fun z => by rw [cif_p z] at w; omega
  rw [cif_n a2] at w
  exact ⟨a1, s.1, nmL_g (B := B) hn [] r.1 s.2.1 (by omega), ⟨s.2.2.1, by omega⟩, ⟨s.2.2.2, by omega⟩, a2⟩
theorem itK_g {B : Int → Int} {n la : Int} {E : EV} {ks : List Int} (hB : ∀ i, 0 ≤ i → i < n → 0 ≤ B i ∧ B i < 256) (hn : n ≤ 2000) : ∀ (i j : Int) (its : List ITt), (∀ x, x ∈ its → itS B n x) → 1000000 ≤ itK B n E ks la i j its → (∀ (k : Nat) r, (rwsO its)[k]? = some r → i + k < 12 ∧ rwGd B n ks la r) ∧ (∀ (k : Nat) r, (lwsO its)[k]? = some r → j + k < 4 ∧ lwGd B n E ks la r)
  | i, j, [], _, _ => ⟨fun k r e => (by cases e), fun k r e => by cases e⟩
  | i, j, (q, .inl s) :: l, g, w => by
    have w : 1000000 ≤ min (rwK B n ks la i q s) (itK B n E ks la (i + 1) j l) := w
    obtain ⟨i1, i2⟩ := itK_g (E := E) (ks := ks) (la := la) hB hn (i + 1) j l (fun x m => g x (List.mem_cons_of_mem _ m)) (by omega)
    have gu : itS B n (q, .inl s) := g _ List.mem_cons_self
    refine ⟨fun k r e => ?_, i2⟩
    have e : (s :: rwsO l)[k]? = some r := e
    cases k with
    | zero =>
      have es : s = r := Option.some.inj e
      rw [← es]
      have := rwK_g hn gu.1 gu.2 (show 1000000 ≤ rwK B n ks la i q s by omega)
      exact ⟨by omega, this.2⟩
    | succ k =>
      have y := i1 k r e
      exact ⟨by omega, y.2⟩
  | i, j, (q, .inr s) :: l, g, w => by
    have w : 1000000 ≤ min (lwK B n E ks la j q s) (itK B n E ks la i (j + 1) l) := w
    obtain ⟨i1, i2⟩ := itK_g (E := E) (ks := ks) (la := la) hB hn i (j + 1) l (fun x m => g x (List.mem_cons_of_mem _ m)) (by omega)
    have gu : itS B n (q, .inr s) := g _ List.mem_cons_self
    refine ⟨i1, fun k r e => ?_⟩
    have e : (s :: lwsO l)[k]? = some r := e
    cases k with
    | zero =>
      have es : s = r := Option.some.inj e
      rw [← es]
      have := lwK_g hB hn gu.1 gu.2 (show 1000000 ≤ lwK B n E ks la j q s by omega)
      exact ⟨by omega, this.2⟩
    | succ k =>
      have y := i2 k r e
      exact ⟨by omega, y.2⟩
theorem dupK_g {B : Int → Int} {n q : Int} {E : EV} (hn : n ≤ 2000) (qr : 0 ≤ q ∧ q ≤ n) : ∀ l : List (Int × Int), 1000000 ≤ dupK B n E q l → ∀ p, p ∈ l → ¬ pcS B n E q p.1
  | [], _, p, m => by cases m
  | u :: l, w, p, m => by
    have S := tS_r (B := B) qr.2
    have w : 1000000 ≤ min (cif (pcS B n E q u.1) (tS B n q * 8 + 3) 1000000) (dupK B n E q l) := w
    rcases List.mem_cons.mp m with z | z
    · rw [z]
      intro y
      rw [cif_p y] at w; omega
    · exact dupK_g (B := B) (E := E) hn qr l (by omega) p z
theorem pkL_g {B : Int → Int} {n : Int} {E : EV} (hn : n ≤ 2000) : ∀ (l0 l : List (Int × Int)), (∀ p, p ∈ l → pcGd B n p) → l0.length ≤ 12 → 1000000 ≤ pkL B n E l0 l → l0.length + l.length ≤ 12 ∧ ∀ (j : Nat) p, l[j]? = some p → (isVl B n p.1 ∨ 0 ≤ pcA B n E p.1) ∧ (∀ u, u ∈ l0 ++ l.take j → ¬ pcS B n E p.1 u.1)
  | l0, [], _, h0, _ => ⟨h0, fun j p e => by cases e⟩
  | l0, u :: l, g, h0, w => by
    have gu := g u List.mem_cons_self
    have S := tS_r (B := B) gu.1.2
    have w : 1000000 ≤ min (pk1 B n E l0 u.1) (pkL B n E (l0 ++ [u]) l) := w
    have w1 : 1000000 ≤ pk1 B n E l0 u.1 := by omega
    unfold pk1 at w1
    have LL : (l0 ++ [u]).length = l0.length + 1 := by rw [List.length_append]; rfl
    have a1 : l0.length < 12 := Classical.byContradiction fun z => by rw [if_pos (show 12 ≤ l0.length by omega)] at w1; omega
    have a2 : ¬ (¬ isVl B n u.1 ∧ pcA B n E u.1 = -1) := fun z => by rw [if_pos z] at w1; omega
    have a3 := dupK_g (B := B) (E := E) hn gu.1 (l0.take 12) (by omega)
    rw [List.take_of_length_le (by omega)] at a3
    obtain ⟨i1, i2⟩ := pkL_g (B := B) (E := E) hn (l0 ++ [u]) l (fun p m => g p (List.mem_cons_of_mem _ m)) (by omega) (by omega)
    refine ⟨by rw [LL] at i1; show l0.length + (l.length + 1) ≤ 12; omega, fun j p e => ?_⟩
    cases j with
    | zero =>
      have eu : u = p := Option.some.inj e
      rw [← eu]
      refine ⟨?_, fun v m => a3 v (by rw [List.take_zero, List.append_nil] at m; exact m)⟩
      by_cases c : isVl B n u.1
      · exact Or.inl c
      · right
        have := (pcA_r (B := B) (n := n) (E := E) (q := u.1)).1
        have : pcA B n E u.1 ≠ -1 := fun z => a2 ⟨c, z⟩
        omega
    | succ j =>
      have y := i2 j p e
      refine ⟨y.1, fun v m => y.2 v ?_⟩
      rw [show l0 ++ [u] ++ l.take j = l0 ++ (u :: l).take (j + 1) from List.append_assoc l0 [u] (l.take j)]
      exact m
/-- an ask without faults -/
def asG (B : Int → Int) (n : Int) (E : EV) (p : ASt) : Prop := (p.2.2.1.length ≤ 12 ∧ (∀ q, q ∈ p.2.2.1 → pcGd B n q) ∧ ∀ (j : Nat) q, p.2.2.1[j]? = some q → (isVl B n q.1 ∨ 0 ≤ pcA B n E q.1) ∧ (∀ u, u ∈ p.2.2.1.take j → ¬ pcS B n E q.1 u.1)) ∧ ((rwsO p.2.2.2).length ≤ 12 ∧ ∀ (k : Nat) r, (rwsO p.2.2.2)[k]? = some r → rwGd B n p.1 p.2.1 r) ∧ ((lwsO p.2.2.2).length ≤ 4 ∧ ∀ (k : Nat) r, (lwsO p.2.2.2)[k]? = some r → lwGd B n E p.1 p.2.1 r)
theorem asG_of {B : Int → Int} {n q : Int} {E : EV} {p : ASt} (hB : ∀ i, 0 ≤ i → i < n → 0 ≤ B i ∧ B i < 256) (hn : n ≤ 2000) (q0 : 0 ≤ q) (qn : q ≤ n) (o5 : tO B n q ≠ 5) (w : pAsk B n q = .inr p) (k : fkAs B n E p = 1000000) : asG B n E p := by
  unfold pAsk at w
  obtain ⟨q1, e1, w⟩ := bS_r w
  have n1 := (pN_s e1)
  have m1 := nx_r hB q0 qn o5 (by rw [n1.1.1]; decide) n1.2
  obtain ⟨x2, e2, w⟩ := bS_r w
  obtain ⟨ks, q2⟩ := x2
  have m2k := (pKK_ok hB 3 [] q1 ks q2 (by omega) m1.2.2.1 m1.2.2.2 (by decide) e2).2.2.2
  have m2 : 0 ≤ q2 ∧ q2 ≤ n ∧ tO B n q2 ≠ 5 := ⟨by have := m2k.1; omega, m2k.2⟩
  obtain ⟨q3, e3, w⟩ := bS_r w
  have m3 := pW_r hB m2.1 m2.2.1 m2.2.2 e3
  by_cases g : isKd B n q3
  · have w := (show (bS (nx B n q3) fun q4 => bS (pW B n 59 q4) fun q5 => bS (pN B n 15827 q5) fun q6 => bS (pPcs B n 2002 [] q6) fun x7 => bS (pW B n 59 x7.2) fun q8 => bS (pIts B n 2002 [] q8) fun its => (.inr (ks, kdv B n q3, x7.1, its) : Int ⊕ ASt)) = .inr p by rw [if_pos g] at w; exact w)
    obtain ⟨q4, e4, w⟩ := bS_r w
    have m4 := nx_r hB (by omega) m3.2.1 m3.2.2 (by rcases g with y | y | y <;> (rw [y.1]; decide)) e4
    obtain ⟨q5, e5, w⟩ := bS_r w
    have m5 := pW_r hB (by omega) m4.2.2.1 m4.2.2.2 e5
    obtain ⟨q6, e6, w⟩ := bS_r w
    have n6 := (pN_s e6)
    have m6 := nx_r hB (by omega) m5.2.1 m5.2.2 (by rw [n6.1.1]; decide) n6.2
    obtain ⟨x7, e7, w⟩ := bS_r w
    obtain ⟨ps, q7⟩ := x7
    have m7 := pPcs_s hB 2002 [] q6 ps q7 (by omega) m6.2.2.1 m6.2.2.2 (fun _ m => by cases m) e7
    obtain ⟨q8, e8, w⟩ := bS_r w
    have m8 := pW_r hB m7.2.1 m7.2.2.1 m7.2.2.2 e8
    obtain ⟨its, e9, w⟩ := bS_r w
    have m9 := pIts_s hB hn 2002 [] q8 its (by omega) m8.2.1 m8.2.2 (fun _ m => by cases m) e9
    cases w
    unfold fkAs at k
    have k : min (pkL B n E [] ps) (itK B n E ks (kdv B n q3) 0 0 its) = 1000000 := k
    obtain ⟨P1, P2⟩ := pkL_g (E := E) hn [] ps m7.1 (by decide) (by omega)
    obtain ⟨R1, L1⟩ := itK_g (E := E) (ks := ks) (la := kdv B n q3) hB hn 0 0 its m9 (by omega)
    refine ⟨⟨by show ps.length ≤ 12; have : ([] : List (Int × Int)).length + ps.length ≤ 12 := P1; simp only [List.length_nil] at this; omega, m7.1, fun j q e => ⟨(P2 j q e).1, fun u m => (P2 j q e).2 u m⟩⟩, ⟨?_, fun k r e => (R1 k r e).2⟩, ⟨?_, fun k r e => (L1 k r e).2⟩⟩
    · show (rwsO its).length ≤ 12
      refine Nat.le_of_not_lt (fun z => ?_)
      have := (R1 12 ((rwsO its)[12]'z) (List.getElem?_eq_getElem z)).1
      omega
    · show (lwsO its).length ≤ 4
      refine Nat.le_of_not_lt (fun z => ?_)
      have := (L1 4 ((lwsO its)[4]'z) (List.getElem?_eq_getElem z)).1
      omega
  · rw [if_neg g] at w; cases w

