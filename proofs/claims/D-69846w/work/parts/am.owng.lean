/-! an own act without faults: pure -/
theorem bnd_r {R : Int ⊕ Int} {f : Int → Int ⊕ Int} {y : Int} (h : bnd R f = .inr y) : ∃ a, R = .inr a ∧ f a = .inr y := by
  cases R with
  | inl z => cases h
  | inr a => exact ⟨a, rfl, h⟩
theorem dp_rs {P : Int} {nP kP rs oE : Int → Int} {kE : Int → Int → Int} : ∀ (t : TR) (hc : Int), dpT (rsT P nP kP rs oE kE t hc) = dpT t
  | .leaf _, _ => rfl
  | .branch _ s r, hc => by
    show max (dpT (rsT P nP kP rs oE kE s hc) + 1) (dpT (rsT P nP kP rs oE kE r (hc + hlT s))) = max (dpT s + 1) (dpT r)
    rw [dp_rs s, dp_rs r]
theorem lwI_01 {wA : Int → Int} (W : ∀ a, 26 ≤ a → 0 ≤ wA a) (i : NI) : 0 ≤ lwI wA i ∧ (i.1 = 2 ∨ i.1 = 4 → 1 ≤ lwI wA i) := by
  unfold lwI
  by_cases a : i.1 = 2
  · rw [if_pos a]
    by_cases b : 26 ≤ i.2.1
    · rw [if_pos b]; have := W _ b; exact ⟨by omega, fun _ => by omega⟩
    · rw [if_neg b]; exact ⟨by omega, fun _ => by omega⟩
  · rw [if_neg a]
    by_cases b : i.1 = 4
    · rw [if_pos b]; exact ⟨by omega, fun _ => by omega⟩
    · rw [if_neg b]; exact ⟨by omega, fun y => by omega⟩
theorem sz_wt {E : EV} (ac : acE E) (W : ∀ a, 26 ≤ a → 0 ≤ E.1.2.2.2.1 a) {np : Int} {kp : Int → Int} : ∀ {R : TR} {j : Int}, 0 ≤ j → tyT E np kp R j → sz R ≤ 1 + nk R + 3 * (wtR E.1.2.2.2.1 R - lwI E.1.2.2.2.1 (inf R))
  | .leaf i, j, _, _ => by
    show (1 : Int) ≤ 1 + 0 + 3 * (lwI E.1.2.2.2.1 i - lwI E.1.2.2.2.1 i)
    omega
  | .branch b s r, j, j0, t => by
    have a := sz_wt ac W (Int.le_refl _) t.1
    have c := sz_wt ac W (by omega) t.2.2
    have ns := tyI_n ac (tyT_nd t.1)
    have n0 := nk_0 s
    have l := lwI_01 W (inf s)
    have ls : nk s ≤ 3 * lwI E.1.2.2.2.1 (inf s) := by
      have l0 := l.1
      by_cases z : nk s = 0
      · omega
      · have l1 := l.2 (ns.2.1 (by omega))
        have := ns.1
        omega
    show sz s + sz r ≤ 1 + (nk r + 1) + 3 * (wtR E.1.2.2.2.1 s + wtR E.1.2.2.2.1 r - lwI E.1.2.2.2.1 (inf r))
    omega
theorem sz_121 {E : EV} (ac : acE E) (W : ∀ a, 26 ≤ a → 0 ≤ E.1.2.2.2.1 a) {np : Int} {kp : Int → Int} {R : TR} (t : tyT E np kp R 0) (w : wtR E.1.2.2.2.1 R ≤ 40) : sz R ≤ 121 := by
  have a := sz_wt ac W (Int.le_refl _) t
  have n := tyI_n ac (tyT_nd t)
  have n0 := nk_0 R
  have l := lwI_01 W (inf R)
  have l0 := l.1
  by_cases z : nk R = 0
  · omega
  · have l1 := l.2 (n.2.1 (by omega))
    have := n.1
    omega
def owGd (E : EV) (l : List Int) (kr : Int) (T : TR) : Prop := (1 ≤ l.length ∧ l.length ≤ 2) ∧ (∀ k, 0 ≤ k → k < (l.length : Int) → 0 ≤ kL l k ∧ kL l k ≤ 2) ∧ E.1.1 ≤ 35 ∧ tmW E (l.length : Int) (fun k => kL l k) (rsE (EL E l) T 0) kr ∧ (0 ≤ kr ∧ kr ≤ 2) ∧ (0 ≤ wtR E.1.2.2.2.1 (rsE (EL E l) T 0) ∧ wtR E.1.2.2.2.1 (rsE (EL E l) T 0) ≤ 40) ∧ sz T ≤ 121 ∧ dpT (rsE (EL E l) T 0) ≤ 12 ∧ hlT T = 0 ∧ acR E.1.1 (rsE (EL E l) T 0)
theorem owG_of {B : Int → Int} {n q q1 kr : Int} {l : List Int} {T : TR} {E : EV} (ac : acE E) (l0 : E.2.2.1 = 0) (ew : ∀ a, 26 ≤ a → 0 ≤ E.1.2.2.2.1 a) (hB : ∀ i, 0 ≤ i → i < n → 0 ≤ B i ∧ B i < 256) (hn : n ≤ 2000) (q0 : 0 ≤ q) (qn : q ≤ n) (o5 : tO B n q ≠ 5) (w : pOw B n q = .inr (q1, l, kr, T)) (k : min (nkE B n E q1) (keyE (EL E l) kr T) = 1000000) : owGd E l kr T ∧ ¬ tkN E (tV B n q1) ∧ tO B n q1 = 1 ∧ (0 < q1 ∧ q1 ≤ n) := by
  unfold pOw at w
  obtain ⟨a1, e1, w⟩ := bS_r w
  have n1 := pN_s e1
  have m1 := nx_r hB q0 qn o5 (by rw [n1.1.1]; decide) n1.2
  by_cases o1 : tO B n a1 = 1
  · have w := (show (bS (bS (bS (nx B n a1) (pKK B n true 2 [])) fun x => pO3 B n x.1 x.2) fun y => (.inr (a1, y) : Int ⊕ (Int × List Int × Int × TR))) = .inr (q1, l, kr, T) by rw [if_pos o1] at w; exact w)
    obtain ⟨y, e2, w⟩ := bS_r w
    obtain ⟨l', kr', T'⟩ := y
    cases w
    obtain ⟨x, e3, e4⟩ := bS_r e2
    obtain ⟨ls, q3⟩ := x
    obtain ⟨a2, e5, e6⟩ := bS_r e3
    have m2 := nx_r hB (by omega) m1.2.2.1 m1.2.2.2 (by rw [o1]; decide) e5
    have kk := pKK_ok hB 2 [] a2 ls q3 (by omega) m2.2.2.1 m2.2.2.2 (by decide) e6
    have kn := pKK_n hB 1 [] a2 ls q3 e6
    have e4 : pO3 B n ls q3 = .inr (l, kr, T) := e4
    unfold pO3 at e4
    obtain ⟨q4, f1, e4⟩ := bS_r e4
    obtain ⟨q4', f2, f3⟩ := bnd_r f1
    cases f3
    have m4 := pW_r hB (by omega) kk.2.2.2.2.1 kk.2.2.2.2.2 f2
    by_cases g : isKd B n q4
    · have e4 := (show (bS (bnd (nx B n q4) (pW B n 61)) fun q6 => bS (pT B n false 13 q6) fun x => bS (pE B n x.2) fun _ => (.inr (ls, kdv B n q4, x.1) : Int ⊕ (List Int × Int × TR))) = .inr (l, kr, T) by rw [if_pos g] at e4; exact e4)
      obtain ⟨q6, f4, e4⟩ := bS_r e4
      obtain ⟨q5, f5, f6⟩ := bnd_r f4
      have m5 := nx_r hB (by omega) m4.2.1 m4.2.2 (by rcases g with y | y | y <;> (rw [y.1]; decide)) f5
      have m6 := pW_r hB (by omega) m5.2.2.1 m5.2.2.2 f6
      obtain ⟨x, f7, e4⟩ := bS_r e4
      obtain ⟨t, q7⟩ := x
      obtain ⟨_, f8, e4⟩ := bS_r e4
      cases e4
      dsimp only at k ⊢
      have kl : ∀ x, x ∈ l → 0 ≤ x ∧ x ≤ 2 := fun x m => by
        rcases kk.2.2.1 x m with y | y
        · cases y
        · exact ⟨y.1, y.2.1⟩
      have kv := kdv_r B n q4
      have r : rdd B n t := ⟨q6, q7, by omega, m6.2.1, m6.2.2, f7⟩
      have kb := rdd_kb (E := EL E l) (w := kdv B n q4) hB hn r
      have S := tS_r (B := B) m1.2.2.1
      have k1 : 1000000 ≤ nkE B n E q1 := by omega
      have k2 : keyE (EL E l) (kdv B n q4) t = 1000000 := by omega
      unfold nkE at k1
      have n36 : E.1.1 ≠ 36 := fun z => by rw [if_pos z] at k1; omega
      have tk : ¬ tkN E (tV B n q1) := fun z => by rw [cif_p z] at k1; omega
      obtain ⟨R1, R2, R3, R4, R5, R6, R7⟩ := rdd_ok ac l0 ew hB hn kl r k2
      have kd := R2 (by omega)
      have pa : paE (EL E l) := ⟨by show 0 ≤ (l.length : Int); omega, fun k k0 k1 => by
        have k1 : k < (l.length : Int) := k1
        show 0 ≤ kL l k ∧ kL l k ≤ 2
        unfold kL
        rw [List.getD_eq_getElem?_getD, List.getElem?_eq_getElem (by omega)]
        exact kl _ (List.getElem_mem _)⟩
      have TO := told_ok (E := EL E l) ac pa ew hB hn (by omega) m6.2.1 m6.2.2 f7 k2
      have tw := (R1 _ rfl).1
      rw [kd] at tw
      have wt : wtR E.1.2.2.2.1 (rsE (EL E l) t 0) ≤ 40 := by
        have y := wtR_rs (E := EL E l) t 0
        have z := TO.2.2.1
        rw [← y] at z
        exact z
      have sz1 := sz_121 ac ew tw.1 wt
      have sz2 : sz (rsE (EL E l) t 0) = sz t := sz_rs _ _ _ _ _ _ t 0
      have dp : dpT (rsE (EL E l) t 0) = dpT t := dp_rs t 0
      have dk := (pT_ok hB hn 13 q6 t q7 (by omega) m6.2.1 m6.2.2 f7).2
      refine ⟨⟨⟨?_, ?_⟩, pa.2, by have := ac.2.1; omega, tw, kv, ⟨(wtR_0 ew _).1, wt⟩, by omega, by omega, R7, tyT_ac ac (Int.le_refl _) tw.1⟩, tk, o1, by omega, m1.2.2.1⟩
      · have := kn.1; simp only [List.length_nil] at this; omega
      · have := kn.2; simp only [List.length_nil] at this; omega
    · rw [if_neg g] at e4; cases e4
  · rw [if_neg o1] at w; cases w

