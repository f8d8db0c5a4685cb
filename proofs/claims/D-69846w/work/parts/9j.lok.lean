/-! loops that were read are well formed -/
theorem tyT_E {E E' : EV} (e1 : E'.1 = E.1) (e2 : E'.2.2 = E.2.2) {np : Int} {kp : Int → Int} : ∀ {R : TR} {j : Int}, tyT E' np kp R j → tyT E np kp R j := by
  obtain ⟨a, b, c⟩ := E
  obtain ⟨a', b', c'⟩ := E'
  have f1 : a' = a := e1
  have f2 : c' = c := e2
  subst f1 f2
  intro R
  induction R with
  | leaf i => exact fun h => h
  | branch b s r ihs ihr => exact fun {j} h => ⟨ihs h.1, h.2.1, ihr h.2.2⟩
theorem acE_L {E : EV} {l : List Int} (a : acE E) : acE (EL E l) := a
theorem kL_in {l : List Int} {k : Int} (k0 : 0 ≤ k) (k1 : k < (l.length : Int)) : kL l k ∈ l := by
  unfold kL
  rw [List.getD_eq_getElem?_getD, List.getElem?_eq_getElem (by omega)]
  exact List.getElem_mem _
theorem pKs_all {B : Int → Int} {n : Int} (hB : ∀ i, 0 ≤ i → i < n → 0 ≤ B i ∧ B i < 256) (hn : n ≤ 2000) : ∀ (k : Nat) (l : List TR) (q : Int) (l' : List TR) (q1 : Int), 0 ≤ q → q ≤ n → tO B n q ≠ 5 → pKs B n (pT B n false 13) k l q = .inr (l', q1) → ∀ t, t ∈ l' → t ∈ l ∨ ∃ u v, 0 ≤ u ∧ u ≤ n ∧ tO B n u ≠ 5 ∧ pT B n false 13 u = .inr (t, v)
  | 0, l, q, l', q1, _, _, _, h => by cases h
  | k + 1, l, q, l', q1, q0, qn, o5, h => by
    cases e : pT B n false 13 q with
    | inl z => rw [pKs_l e] at h; cases h
    | inr x =>
      obtain ⟨t, q2⟩ := x
      obtain ⟨g1, g2, g3, g4, g5, g6⟩ := pT_wp hB 13 q t q2 q0 qn o5 e
      have st : ∀ u, u ∈ l ++ [t] → u ∈ l ∨ ∃ a b, 0 ≤ a ∧ a ≤ n ∧ tO B n a ≠ 5 ∧ pT B n false 13 a = .inr (u, b) := fun u hu => by
        rcases List.mem_append.mp hu with y | y
        · exact Or.inl y
        · have e1 : u = t := List.mem_singleton.mp y
          rw [e1]; exact Or.inr ⟨q, q2, q0, qn, o5, e⟩
      by_cases c : comma B n q2
      · rw [pKs_c e c] at h
        cases e2 : nx B n q2 with
        | inl z => rw [e2] at h; cases h
        | inr q3 =>
          rw [e2] at h
          have nr := nx_r hB (by omega) g4 g5 (by rw [c.1]; decide) e2
          intro u hu
          rcases pKs_all hB hn k (l ++ [t]) q3 l' q1 (by omega) nr.2.2.1 nr.2.2.2 h u hu with y | y
          · exact st u y
          · exact Or.inr y
      · rw [pKs_e e c] at h
        cases h
        exact st
/-- a term that was read -/
def rdd (B : Int → Int) (n : Int) (t : TR) : Prop := ∃ u v, 0 ≤ u ∧ u ≤ n ∧ tO B n u ≠ 5 ∧ pT B n false 13 u = .inr (t, v)
theorem pKK_ok {B : Int → Int} {n : Int} {b : Bool} (hB : ∀ i, 0 ≤ i → i < n → 0 ≤ B i ∧ B i < 256) : ∀ (k : Nat) (l : List Int) (q : Int) (l' : List Int) (q' : Int), 0 ≤ q → q ≤ n → tO B n q ≠ 5 → 0 < k → pKK B n b k l q = .inr (l', q') → l ≠ l' ∧ l.length < l'.length ∧ (∀ x, x ∈ l' → x ∈ l ∨ (0 ≤ x ∧ x ≤ 2 ∧ (b = false → x ≤ 1))) ∧ q < q' ∧ q' ≤ n ∧ tO B n q' ≠ 5
  | 0, l, q, l', q', _, _, _, k0, h => absurd k0 (by decide)
  | k + 1, l, q, l', q', q0, qn, o5, _, h => by
    by_cases c : isKd B n q ∧ (b = true ∨ ¬ isN B n q 19)
    · have e : pKK B n b (k + 1) l q = (match nx B n q with | .inl z => .inl z | .inr q1 => if k = 0 ∨ ¬ isKd B n q1 then .inr (l ++ [kdv B n q], q1) else pKK B n b k (l ++ [kdv B n q]) q1) := if_pos c
      rw [e] at h
      have kr := kdv_r B n q
      have k19 : b = false → kdv B n q ≤ 1 := fun z => by
        have g : ¬ isN B n q 19 := c.2.resolve_left (fun y => by rw [z] at y; cases y)
        unfold kdv
        rcases c.1 with y | y | y
        · rw [if_pos y]; decide
        · by_cases w : isN B n q 14
          · rw [if_pos w]; decide
          · rw [if_neg w, if_pos y]; decide
        · exact absurd y g
      have st : ∀ x, x ∈ l ++ [kdv B n q] → x ∈ l ∨ (0 ≤ x ∧ x ≤ 2 ∧ (b = false → x ≤ 1)) := fun x hx => by
        rcases List.mem_append.mp hx with y | y
        · exact Or.inl y
        · have e1 : x = kdv B n q := List.mem_singleton.mp y
          rw [e1]; exact Or.inr ⟨kr.1, kr.2, k19⟩
      cases e2 : nx B n q with
      | inl z => rw [e2] at h; cases h
      | inr q1 =>
        rw [e2] at h
        have nr := nx_r hB q0 qn o5 (by rcases c.1 with y | y | y <;> (rw [y.1]; decide)) e2
        have ll : (l ++ [kdv B n q]).length = l.length + 1 := by rw [List.length_append]; rfl
        by_cases y : k = 0 ∨ ¬ isKd B n q1
        · have h2 : (if k = 0 ∨ ¬ isKd B n q1 then (.inr (l ++ [kdv B n q], q1) : Int ⊕ (List Int × Int)) else pKK B n b k (l ++ [kdv B n q]) q1) = .inr (l', q') := h
          rw [if_pos y] at h2
          cases h2
          exact ⟨fun z => by have := congrArg List.length z; omega, by omega, st, by omega, nr.2.2.1, nr.2.2.2⟩
        · have h2 : (if k = 0 ∨ ¬ isKd B n q1 then (.inr (l ++ [kdv B n q], q1) : Int ⊕ (List Int × Int)) else pKK B n b k (l ++ [kdv B n q]) q1) = .inr (l', q') := h
          rw [if_neg y] at h2
          obtain ⟨r1, r2, r3, r4, r5, r6⟩ := pKK_ok hB k (l ++ [kdv B n q]) q1 l' q' (by omega) nr.2.2.1 nr.2.2.2 (by omega) h2
          exact ⟨fun z => by have := congrArg List.length z; omega, by omega, fun x hx => (r3 x hx).elim (st x) Or.inr, by omega, r5, r6⟩
    · have e : pKK B n b (k + 1) l q = .inl (tS B n q) := if_neg c
      rw [e] at h; cases h
theorem bS_r {α β : Type} {r : Int ⊕ α} {f : α → Int ⊕ β} {y : β} (h : bS r f = .inr y) : ∃ a, r = .inr a ∧ f a = .inr y := by
  cases r with
  | inl z => cases h
  | inr a => exact ⟨a, rfl, h⟩
theorem pN_r {B : Int → Int} {n w q q1 : Int} (hB : ∀ i, 0 ≤ i → i < n → 0 ≤ B i ∧ B i < 256) (q0 : 0 ≤ q) (qn : q ≤ n) (o5 : tO B n q ≠ 5) (h : pN B n w q = .inr q1) : q < q1 ∧ q1 ≤ n ∧ tO B n q1 ≠ 5 ∧ isN B n q w := by
  unfold pN at h
  by_cases c : isN B n q w
  · rw [if_pos c] at h
    have nr := nx_r hB q0 qn o5 (by rw [c.1]; decide) h
    exact ⟨nr.2.1, nr.2.2.1, nr.2.2.2, c⟩
  · rw [if_neg c] at h; cases h
theorem beg_r {B : Int → Int} {n q : Int} (h : beg B n = .inr q) : q = 0 ∧ tO B n q ≠ 5 := by
  unfold beg at h
  by_cases c : tO B n 0 = 5
  · rw [if_pos c] at h; cases h
  · rw [if_neg c] at h; cases h; exact ⟨rfl, c⟩
/-- a loop's text -/
theorem pLo_ok {B : Int → Int} {n : Int} {p : LPt} (hB : ∀ i, 0 ≤ i → i < n → 0 ≤ B i ∧ B i < 256) (n0 : 0 ≤ n) (hn : n ≤ 2000) (h : bS (beg B n) (pLo B n) = .inr p) : okLo p ∧ (0 < p.1.length ∧ p.1.length ≤ 2 ∧ ∀ x, x ∈ p.1 → 0 ≤ x ∧ x ≤ 1) ∧ (p.2.1 ≠ [] ∧ ∀ t, t ∈ p.2.1 → rdd B n t) ∧ rdd B n p.2.2.1 ∧ (p.2.2.2.2.1 ≠ [] ∧ ∀ t, t ∈ p.2.2.2.2.1 → rdd B n t) ∧ rdd B n p.2.2.2.2.2 := by
  obtain ⟨q, e0, h⟩ := bS_r h
  obtain ⟨z0, o0⟩ := beg_r e0
  subst z0
  obtain ⟨q1, e1, h⟩ := bS_r h
  obtain ⟨a1, b1, o1, _⟩ := pN_r hB (Int.le_refl _) n0 o0 e1
  obtain ⟨⟨l, q2⟩, e2, h⟩ := bS_r h
  obtain ⟨k1, k2, k3, k4, k5, k6⟩ := pKK_ok hB 2 [] q1 l q2 (by omega) b1 o1 (by decide) e2
  have k7 := pKK_len 2 [] q1 l q2 e2
  obtain ⟨q3, e3, h⟩ := bS_r h
  obtain ⟨a3, b3, o3, _⟩ := pN_r hB (by omega) k5 k6 e3
  obtain ⟨⟨ts, q4⟩, e4, h⟩ := bS_r h
  obtain ⟨t1, t2, t3, t4, t5, t6, t7⟩ := pTs_o hB hn (by omega) b3 o3 e4
  have t8 := pKs_all hB hn 2002 [] q3 ts q4 (by omega) b3 o3 e4
  obtain ⟨q5, e5, h⟩ := bS_r h
  obtain ⟨a5, b5, o5, _⟩ := pN_r hB (by omega) t6 t7 e5
  obtain ⟨⟨c, q6⟩, e6, h⟩ := bS_r h
  have c1 := pT_wp hB 13 q5 c q6 (by omega) b5 o5 e6
  have c2 := pT_ok hB hn 13 q5 c q6 (by omega) b5 o5 e6
  obtain ⟨q7, e7, h⟩ := bS_r h
  obtain ⟨a7, b7, o7, n7⟩ := pN_r hB (by omega) c1.2.2.2.1 c1.2.2.2.2.1 e7
  obtain ⟨⟨gs, q8⟩, e8, h⟩ := bS_r h
  obtain ⟨g1, g2, g3, g4, g5, g6, g7⟩ := pTs_o hB hn (by omega) b7 o7 e8
  have g8 := pKs_all hB hn 2002 [] q7 gs q8 (by omega) b7 o7 e8
  obtain ⟨q9, e9, h⟩ := bS_r h
  obtain ⟨a9, b9, o9, _⟩ := pN_r hB (by omega) g6 g7 e9
  obtain ⟨⟨g, q10⟩, e10, h⟩ := bS_r h
  have d1 := pT_wp hB 13 q9 g q10 (by omega) b9 o9 e10
  have d2 := pT_ok hB hn 13 q9 g q10 (by omega) b9 o9 e10
  obtain ⟨q11, e11, h⟩ := bS_r h
  cases h
  have pc := pT_pl e6
  have S6 := tS_r (B := B) c1.2.2.2.1
  have te := tE_r hB (by omega) c1.2.2.2.1 c1.2.2.2.2.1
  have te6 := te.2.2.2 (by rw [n7.1]; decide)
  refine ⟨⟨ordL_w (by omega) t2, fun t y => ?_, ⟨c2.1, c1.1⟩, ?_, ?_, ordL_w ?_ g2, d2.1, d1.1⟩, ⟨by have : ([] : List Int).length = 0 := rfl; omega, by have : ([] : List Int).length = 0 := rfl; omega, fun x hx => ?_⟩, ⟨t1, fun t y => (t8 t y).resolve_left (fun z => by cases z)⟩, ⟨q5, q6, by omega, b5, o5, e6⟩, ⟨g1, fun t y => (g8 t y).resolve_left (fun z => by cases z)⟩, ⟨q9, q10, by omega, b9, o9, e10⟩⟩
  · have y1 := (t3 t y).1
    have y2 := tS_r (B := B) b5
    show plT t < (inf c).2.2.2
    omega
  · have y1 : (inf c).2.2.2 < q6 := c1.2.2.2.2.2
    show (inf c).2.2.2 < tS B n q6
    omega
  · show tS B n q6 ≤ 2001
    omega
  · show tS B n q6 + 1 ≤ q7
    have := nx_r hB (by omega) c1.2.2.2.1 c1.2.2.2.2.1 (by rw [n7.1]; decide) (show nx B n q6 = .inr q7 by (unfold pN at e7; rw [if_pos n7] at e7; exact e7))
    omega
  · rcases k3 x hx with y | y
    · cases y
    · have := y.2.2 rfl; omega
def trN (l : List TR) (k : Int) : TR := l.getD k.toNat (.leaf (0, 0, 0, 0))
theorem trN_g {l : List TR} {k : Int} (k0 : 0 ≤ k) (k1 : k < (l.length : Int)) : l[k.toNat]? = some (trN l k) ∧ trN l k ∈ l := by
  have e : l[k.toNat]? = some (trN l k) := by
    unfold trN
    rw [List.getD_eq_getElem?_getD, List.getElem?_eq_getElem (show k.toNat < l.length by omega)]
    rfl
  exact ⟨e, List.mem_of_getElem? e⟩
/-- the loop that a text tells -/
def LEo (E : EV) (p : LPt) : LE := (((p.1.length : Int), fun k => kL p.1 k), (((skL (EL E p.1) p.2.1).length : Int), fun k => kL (skL (EL E p.1) p.2.1) k), (fun k => rsE (EL E p.1) (trN p.2.1 k) 0), rsE (EL E (skL (EL E p.1) p.2.1)) p.2.2.1 0, (fun k => rsE (EL E (skL (EL E p.1) p.2.1)) (trN p.2.2.2.2.1 k) 0), rsE (EL E (skL (EL E p.1) p.2.1)) p.2.2.2.2.2 0)
theorem fkF_1 {E : EV} : ∀ {l : List TR} {i : Int} {k : Nat} {t : TR}, fkF E l i = 1000000 → l[k]? = some t → ff1 E t (i + k) = 1000000 ∨ 1000000 < ff1 E t (i + k)
  | [], i, k, t, h, e => by cases e
  | u :: l, i, 0, t, h, e => by
    cases e
    have h2 : min (ff1 E u i) (fkF E l (i + 1)) = 1000000 := h
    have z : i + ((0 : Nat) : Int) = i := by omega
    rw [z]; omega
  | u :: l, i, k + 1, t, h, e => by
    have h2 : min (ff1 E u i) (fkF E l (i + 1)) = 1000000 := h
    have e2 : l[k]? = some t := e
    by_cases y : fkF E l (i + 1) = 1000000
    · have := fkF_1 (l := l) (i := i + 1) y e2
      rw [show i + ((k + 1 : Nat) : Int) = i + 1 + (k : Int) by omega]
      exact this
    · exfalso
      have b : fkF E l (i + 1) ≤ 1000000 := by
        clear h h2 e e2 y
        generalize i + 1 = j
        induction l generalizing j with
        | nil => exact Int.le_refl _
        | cons v l ih => have := ih (j + 1); show min (ff1 E v j) (fkF E l (j + 1)) ≤ 1000000; omega
      omega
theorem fkF_m {E : EV} {l : List TR} {i : Int} {k : Nat} {t : TR} (h : fkF E l i = 1000000) (e : l[k]? = some t) (g : gT t) (p : wpT t) : keyE E (-1) t = 1000000 ∧ kdE E t ≠ 2 ∧ i + k ≠ 3 := by
  have b := ff1_b (E := E) (i := i + k) g p
  have c := keyE_b (E := E) (w := -1) g p
  have z : ff1 E t (i + k) = 1000000 := by
    rcases fkF_1 h e with y | y
    · exact y
    · omega
  have q := (gT_i g).2.1
  have q0 := (gT_i g).1
  unfold ff1 at z
  dsimp only [plT] at *
  refine ⟨by omega, fun y => ?_, fun y => ?_⟩
  · rw [if_pos y] at z; omega
  · rw [if_pos y] at z; omega
theorem fkG_m {E : EV} {sk : List Int} : ∀ {l : List TR} {i : Int} {k : Nat} {t : TR}, fkG E sk l i = 1000000 → l[k]? = some t → 1000000 ≤ keyE E (wnG sk (i + k)) t
  | [], i, k, t, h, e => by cases e
  | u :: l, i, 0, t, h, e => by
    cases e
    have h2 : min (keyE E (wnG sk i) u) (fkG E sk l (i + 1)) = 1000000 := h
    have z : i + ((0 : Nat) : Int) = i := by omega
    rw [z]; omega
  | u :: l, i, k + 1, t, h, e => by
    have h2 : min (keyE E (wnG sk i) u) (fkG E sk l (i + 1)) = 1000000 := h
    have e2 : l[k]? = some t := e
    have b : fkG E sk l (i + 1) ≤ 1000000 := by
      clear h h2 e e2
      generalize i + 1 = j
      induction l generalizing j with
      | nil => exact Int.le_refl _
      | cons v l ih => have := ih (j + 1); show min (keyE E (wnG sk j) v) (fkG E sk l (j + 1)) ≤ 1000000; omega
    rw [show i + ((k + 1 : Nat) : Int) = i + 1 + (k : Int) by omega]
    exact fkG_m (l := l) (i := i + 1) (by omega) e2
theorem fkF_le {E : EV} : ∀ (l : List TR) (i : Int), fkF E l i ≤ 1000000
  | [], i => Int.le_refl _
  | t :: l, i => by have := fkF_le (E := E) l (i + 1); show min (ff1 E t i) (fkF E l (i + 1)) ≤ 1000000; omega
theorem fkG_le {E : EV} {sk : List Int} : ∀ (l : List TR) (i : Int), fkG E sk l i ≤ 1000000
  | [], i => Int.le_refl _
  | t :: l, i => by have := fkG_le (E := E) (sk := sk) l (i + 1); show min (keyE E (wnG sk i) t) (fkG E sk l (i + 1)) ≤ 1000000; omega
/-- a term that was read without a fault -/
theorem rdd_ok {B : Int → Int} {n : Int} {E : EV} {l : List Int} {t : TR} {w : Int} (ac : acE E) (l0 : E.2.2.1 = 0) (ew : ∀ a, 26 ≤ a → 0 ≤ E.1.2.2.2.1 a) (hB : ∀ i, 0 ≤ i → i < n → 0 ≤ B i ∧ B i < 256) (hn : n ≤ 2000) (kl : ∀ x, x ∈ l → 0 ≤ x ∧ x ≤ 2) (r : rdd B n t) (k : keyE (EL E l) w t = 1000000) : (∀ kd, kd = kdE (EL E l) t → tmW E (l.length : Int) (fun k => kL l k) (rsE (EL E l) t 0) kd ∧ 0 ≤ kd ∧ kd ≤ 2) ∧ (w ≠ -1 → kdE (EL E l) t = w) ∧ gT t ∧ wpT t ∧ fkE (EL E l) t 0 0 = 1000000 ∧ nhT (rsE (EL E l) t 0) ∧ hlT t = 0 := by
  obtain ⟨u, v, u0, un, u5, e⟩ := r
  have pa : paE (EL E l) := ⟨Int.natCast_nonneg _, fun k k0 k1 => kl _ (kL_in k0 k1)⟩
  obtain ⟨t1, t2, t3, t4, t5, t6⟩ := told_ok (E := EL E l) (W := w) (acE_L ac) pa ew hB hn u0 un u5 e k
  have wp := pT_wp hB 13 u t v u0 un u5 e
  have h0 := pT_h0 13 u t v e
  have nh : nhT (rsE (EL E l) t 0) := nhT_rs 0 h0 t4
  have ty : tyT E (l.length : Int) (fun k => kL l k) (rsE (EL E l) t 0) 0 := tyT_E (E := E) (E' := EL E l) rfl rfl t1
  refine ⟨fun kd ek => ?_, t5, t4, wp.1, t6, nh, h0⟩
  have ei := inf_rs (EL E l) t 0
  have tk : 0 ≤ (inf (rsE (EL E l) t 0)).2.2.1 ∧ (inf (rsE (EL E l) t 0)).2.2.1 ≤ 2 := ⟨(tyT_nd ty).1, (tyT_nd ty).2.1⟩
  refine ⟨⟨ty, by rw [ei, ek], ty_cg (by rw [l0]; decide) ty nh, by have : dpE E.1.2.2.2.1 (rsE (EL E l) t 0) ≤ 40 := t2; omega⟩, ?_⟩
  rw [ek, ← ei]; exact tk
theorem lo_vLE {B : Int → Int} {n : Int} {E : EV} {p : LPt} (ac : acE E) (l0 : E.2.2.1 = 0) (ew : ∀ a, 26 ≤ a → 0 ≤ E.1.2.2.2.1 a) (hB : ∀ i, 0 ≤ i → i < n → 0 ≤ B i ∧ B i < 256) (n0 : 0 ≤ n) (hn : n ≤ 2000) (e : bS (beg B n) (pLo B n) = .inr p) (k : fkLo E p = 1000000) : vLE E (LEo E p) ∧
    (∀ x, x ∈ skL (EL E p.1) p.2.1 → 0 ≤ x ∧ x ≤ 1) ∧ p.2.1.length ≤ 3 ∧ p.2.2.2.2.1.length = p.2.1.length ∧ (∀ t, t ∈ p.2.1 → gT t ∧ fkE (EL E p.1) t 0 0 = 1000000 ∧ nhT (rsE (EL E p.1) t 0)) ∧
    (∀ t, (t ∈ p.2.2.2.2.1 ∨ t = p.2.2.1 ∨ t = p.2.2.2.2.2) → gT t ∧ fkE (EL E (skL (EL E p.1) p.2.1)) t 0 0 = 1000000 ∧ nhT (rsE (EL E (skL (EL E p.1) p.2.1)) t 0)) := by
  obtain ⟨o, ⟨k1, k2, k3⟩, ⟨t1, t2⟩, c1, ⟨g1, g2⟩, v1⟩ := pLo_ok hB n0 hn e
  obtain ⟨ks, ts, c, dp, gs, g⟩ := p
  dsimp only at *
  obtain ⟨o1, o2, o3, o4, o5, o6, o7, o8⟩ := o
  dsimp only at *
  have a1 := fkF_le (E := EL E ks) ts 0
  have a2 := fkG_le (E := EL E (skL (EL E ks) ts)) (sk := skL (EL E ks) ts) gs 0
  have a3 := keyE_b (E := EL E (skL (EL E ks) ts)) (w := 1) o3.1 o3.2
  have a4 := keyE_b (E := EL E (skL (EL E ks) ts)) (w := -1) o7 o8
  have k' : min (min (fkF (EL E ks) ts 0) (min (keyE (EL E (skL (EL E ks) ts)) 1 c) (if gs.length = ts.length then 1000000 else dp * 8 + 4))) (min (fkG (EL E (skL (EL E ks) ts)) (skL (EL E ks) ts) gs 0) (keyE (EL E (skL (EL E ks) ts)) (-1) g)) = 1000000 := k
  have el : gs.length = ts.length := Classical.byContradiction fun z => by rw [if_neg z] at k'; omega
  rw [if_pos el] at k'
  have f1 : fkF (EL E ks) ts 0 = 1000000 := by omega
  have f2 : fkG (EL E (skL (EL E ks) ts)) (skL (EL E ks) ts) gs 0 = 1000000 := by omega
  have f3 : keyE (EL E (skL (EL E ks) ts)) 1 c = 1000000 := by omega
  have f4 : keyE (EL E (skL (EL E ks) ts)) (-1) g = 1000000 := by omega
  have kx : ∀ x, x ∈ ks → 0 ≤ x ∧ x ≤ 2 := fun x hx => by have := k3 x hx; omega
  have T1 : ∀ i : Nat, ∀ t, ts[i]? = some t → i ≠ 3 ∧ (tmW E (ks.length : Int) (fun k => kL ks k) (rsE (EL E ks) t 0) (kdE (EL E ks) t) ∧ 0 ≤ kdE (EL E ks) t ∧ kdE (EL E ks) t ≤ 1) ∧ gT t ∧ fkE (EL E ks) t 0 0 = 1000000 ∧ nhT (rsE (EL E ks) t 0) := fun i t et => by
    have m := List.mem_of_getElem? et
    have gw := ordL_m o1 t m
    obtain ⟨y1, y2, y3⟩ := fkF_m f1 et gw.1 gw.2
    obtain ⟨z1, z2, z3, z4, z5, z6, z7⟩ := rdd_ok ac l0 ew hB hn kx (t2 t m) y1
    have z := z1 _ rfl
    exact ⟨by omega, ⟨z.1, z.2.1, by omega⟩, z3, z5, z6⟩
  have len3 : ts.length ≤ 3 := by
    rcases Nat.lt_or_ge 3 ts.length with y | y
    · exact absurd rfl (T1 3 _ (List.getElem?_eq_getElem y)).1
    · exact y
  have SL := skL_len (E := EL E ks) (ts := ts)
  have sx : ∀ x, x ∈ skL (EL E ks) ts → 0 ≤ x ∧ x ≤ 1 := fun x hx => by
    unfold skL at hx
    have hx := List.mem_of_mem_take hx
    obtain ⟨t, m, rfl⟩ := List.mem_map.mp hx
    obtain ⟨i, ei⟩ := List.getElem?_of_mem m
    exact ⟨(T1 i t ei).2.1.2.1, (T1 i t ei).2.1.2.2⟩
  have sx2 : ∀ x, x ∈ skL (EL E ks) ts → 0 ≤ x ∧ x ≤ 2 := fun x hx => by have := sx x hx; omega
  have T2 : ∀ t w, rdd B n t → keyE (EL E (skL (EL E ks) ts)) w t = 1000000 → (tmW E ((skL (EL E ks) ts).length : Int) (fun k => kL (skL (EL E ks) ts) k) (rsE (EL E (skL (EL E ks) ts)) t 0) (kdE (EL E (skL (EL E ks) ts)) t)) ∧ (w ≠ -1 → kdE (EL E (skL (EL E ks) ts)) t = w) ∧ gT t ∧ fkE (EL E (skL (EL E ks) ts)) t 0 0 = 1000000 ∧ nhT (rsE (EL E (skL (EL E ks) ts)) t 0) := fun t w r y => by
    obtain ⟨z1, z2, z3, z4, z5, z6, z7⟩ := rdd_ok ac l0 ew hB hn sx2 r y
    exact ⟨(z1 _ rfl).1, z2, z3, z5, z6⟩
  have G1 : ∀ i : Nat, ∀ t, gs[i]? = some t → keyE (EL E (skL (EL E ks) ts)) (wnG (skL (EL E ks) ts) i) t = 1000000 := fun i t et => by
    have m := List.mem_of_getElem? et
    have gw := ordL_m o6 t m
    have y := fkG_m f2 et
    have z := keyE_b (E := EL E (skL (EL E ks) ts)) (w := wnG (skL (EL E ks) ts) i) gw.1 gw.2
    rw [Int.zero_add] at y
    omega
  have C1 := T2 c 1 c1 f3
  have V1 := T2 g (-1) v1 f4
  have t0 : 0 < ts.length := by
    rcases ts with _ | ⟨a, b⟩
    · exact absurd rfl t1
    · exact Nat.succ_pos _
  refine ⟨⟨⟨?_, ?_, fun k k0 k1 => k3 _ (kL_in k0 k1)⟩, ⟨?_, ?_, fun k k0 k1 => sx _ (kL_in k0 k1)⟩, fun k k0 k1 => ⟨?_, ?_⟩, ?_, ⟨_, V1.1⟩⟩, sx, len3, el, fun t m => ?_, fun t m => ?_⟩
  · show 1 ≤ (ks.length : Int); omega
  · show (ks.length : Int) ≤ 2; omega
  · show 1 ≤ ((skL (EL E ks) ts).length : Int); omega
  · show ((skL (EL E ks) ts).length : Int) ≤ 3; omega
  · have k1' : k < ((skL (EL E ks) ts).length : Int) := k1
    obtain ⟨e1, e2⟩ := trN_g (l := ts) k0 (by omega)
    obtain ⟨t, s1, s2, s3⟩ := skL_k (E := EL E ks) (ts := ts) k0 k1'
    rw [e1] at s1; cases s1
    have w := (T1 _ _ e1).2.1.1
    rw [← s3] at w
    exact w
  · have k1' : k < ((skL (EL E ks) ts).length : Int) := k1
    obtain ⟨e1, e2⟩ := trN_g (l := gs) k0 (by omega)
    have w := G1 _ _ e1
    have z := T2 _ _ (g2 _ e2) w
    have wn : wnG (skL (EL E ks) ts) ((k.toNat : Nat) : Int) = kL (skL (EL E ks) ts) k := by
      unfold wnG
      rw [show ((k.toNat : Nat) : Int) = k by omega, if_pos k1']
    rw [wn] at z
    have zk := z.2.1 (by have := (sx _ (kL_in k0 k1')).1; omega)
    have z1 := z.1
    rw [zk] at z1
    exact z1
  · have z := C1.1
    rw [C1.2.1 (by decide)] at z
    exact z
  · obtain ⟨i, ei⟩ := List.getElem?_of_mem m
    exact (T1 i t ei).2.2
  · rcases m with m | m | m
    · obtain ⟨i, ei⟩ := List.getElem?_of_mem m
      exact (T2 t _ (g2 t m) (G1 i t ei)).2.2
    · subst m; exact C1.2.2
    · subst m; exact V1.2.2

