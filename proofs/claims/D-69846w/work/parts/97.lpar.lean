/-! loops: how they are read, pure -/
def pTs (B : Int → Int) (n q : Int) : Int ⊕ (List TR × Int) := pKs B n (pT B n false 13) 2002 [] q
abbrev LPt : Type := List Int × List TR × TR × Int × List TR × TR
def pLo6 (B : Int → Int) (n : Int) (ks : List Int) (ts : List TR) (c : TR) (dp : Int) (q : Int) : Int ⊕ LPt :=
  bS (pTs B n q) fun x8 => bS (pN B n 144941 x8.2) fun q9 => bS (pT B n false 13 q9) fun x10 => bS (pE B n x10.2) fun _ => .inr (ks, ts, c, dp, x8.1, x10.1)
def pLo4 (B : Int → Int) (n : Int) (ks : List Int) (ts : List TR) (q : Int) : Int ⊕ LPt :=
  bS (pN B n 12387497 q) fun q5 => bS (pT B n false 13 q5) fun x6 => bS (pN B n 123 x6.2) fun q7 => pLo6 B n ks ts x6.1 (tS B n x6.2) q7
def pLo2 (B : Int → Int) (n : Int) (ks : List Int) (q : Int) : Int ⊕ LPt :=
  bS (pN B n 131638 q) fun q3 => bS (pTs B n q3) fun x4 => pLo4 B n ks x4.1 x4.2
def pLo (B : Int → Int) (n q : Int) : Int ⊕ LPt :=
  bS (pN B n 247552 q) fun q1 => bS (pKK B n false 2 [] q1) fun x2 => pLo2 B n x2.1 x2.2
abbrev plT (t : TR) : Int := (inf t).2.2.2
def ff1 (E : EV) (t : TR) (i : Int) : Int := min (keyE E (-1) t) (min (if kdE E t = 2 then plT t * 8 + 3 else 1000000) (if i = 3 then plT t * 8 + 4 else 1000000))
def fkF (E : EV) : List TR → Int → Int
  | [], _ => 1000000
  | t :: l, i => min (ff1 E t i) (fkF E l (i + 1))
def wnG (sk : List Int) (i : Int) : Int := if i < (sk.length : Int) then kL sk i else -1
def fkG (E : EV) (sk : List Int) : List TR → Int → Int
  | [], _ => 1000000
  | t :: l, i => min (keyE E (wnG sk i) t) (fkG E sk l (i + 1))
/-- kinds of the state that a loop's first terms tell -/
def skL (E : EV) (ts : List TR) : List Int := (ts.map (kdE E)).take 3
def fkLo (E : EV) (p : LPt) : Int :=
  min (min (fkF (EL E p.1) p.2.1 0) (min (keyE (EL E (skL (EL E p.1) p.2.1)) 1 p.2.2.1) (if p.2.2.2.2.1.length = p.2.1.length then 1000000 else p.2.2.2.1 * 8 + 4))) (min (fkG (EL E (skL (EL E p.1) p.2.1)) (skL (EL E p.1) p.2.1) p.2.2.2.2.1 0) (keyE (EL E (skL (EL E p.1) p.2.1)) (-1) p.2.2.2.2.2))
def fkLoM (E : EV) (p : LPt) : Int :=
  min (min (fkF (EL E p.1) (p.2.1.take 4) 0) (min (keyE (EL E (skL (EL E p.1) p.2.1)) 1 p.2.2.1) (if p.2.2.2.2.1.length = p.2.1.length then 1000000 else p.2.2.2.1 * 8 + 4))) (min (fkG (EL E (skL (EL E p.1) p.2.1)) (skL (EL E p.1) p.2.1) (p.2.2.2.2.1.take (skL (EL E p.1) p.2.1).length) 0) (keyE (EL E (skL (EL E p.1) p.2.1)) (-1) p.2.2.2.2.2))
/-- terms one behind the other in a text -/
def ordL : Int → List TR → Prop
  | _, [] => True
  | lo, t :: r => lo ≤ plT t ∧ gT t ∧ wpT t ∧ ordL (plT t + 1) r
theorem ordL_w {a b : Int} : ∀ {l : List TR}, a ≤ b → ordL b l → ordL a l
  | [], _, _ => trivial
  | t :: r, e, h => ⟨by have := h.1; omega, h.2⟩
theorem ordL_take {a : Int} : ∀ {l : List TR} (k : Nat), ordL a l → ordL a (l.take k)
  | [], k, _ => by rw [List.take_nil]; trivial
  | t :: r, 0, _ => trivial
  | t :: r, k + 1, h => ⟨h.1, h.2.1, h.2.2.1, ordL_take k h.2.2.2⟩
theorem keyE_b {E : EV} {w : Int} {t : TR} (g : gT t) (p : wpT t) : plT t * 8 + 2 ≤ keyE E w t ∧ keyE E w t ≤ 1000000 := by
  have a := fkE_lo (E := E) g p 0 0
  have b := (gT_i g).1
  have c := (gT_i g).2.1
  unfold keyE toE
  dsimp only [plT] at *
  by_cases x : w ≠ -1 ∧ kdE E t ≠ -1 ∧ kdE E t ≠ w <;> by_cases y : 40 < wtE E t
  · rw [if_pos x, if_pos y]; omega
  · rw [if_pos x, if_neg y]; omega
  · rw [if_neg x, if_pos y]; omega
  · rw [if_neg x, if_neg y]; omega
theorem ff1_b {E : EV} {i : Int} {t : TR} (g : gT t) (p : wpT t) : plT t * 8 + 2 ≤ ff1 E t i ∧ ff1 E t i ≤ 1000000 ∧ (i = 3 → ff1 E t i ≤ plT t * 8 + 4) := by
  have a := keyE_b (E := E) (w := -1) g p
  have b := (gT_i g).1
  have c := (gT_i g).2.1
  unfold ff1
  dsimp only [plT] at *
  by_cases x : kdE E t = 2 <;> by_cases y : i = 3
  · rw [if_pos x, if_pos y]; omega
  · rw [if_pos x, if_neg y]; omega
  · rw [if_neg x, if_pos y]; omega
  · rw [if_neg x, if_neg y]; omega
theorem fkF_b {E : EV} : ∀ {l : List TR} {lo i : Int}, 0 ≤ lo → lo ≤ 2002 → ordL lo l → lo * 8 + 2 ≤ fkF E l i ∧ fkF E l i ≤ 1000000
  | [], lo, i, _, _, _ => by show _ ≤ (1000000 : Int) ∧ (1000000 : Int) ≤ 1000000; omega
  | t :: r, lo, i, l0, l1, h => by
    have a := ff1_b (E := E) (i := i) h.2.1 h.2.2.1
    have c : plT t ≤ 2001 := (gT_i h.2.1).2.1
    have d : lo ≤ plT t := h.1
    have b := fkF_b (E := E) (l := r) (i := i + 1) (by omega) (by omega) h.2.2.2
    show _ ≤ min (ff1 E t i) (fkF E r (i + 1)) ∧ _
    show _ ∧ min (ff1 E t i) (fkF E r (i + 1)) ≤ _
    omega
theorem fkG_b {E : EV} {sk : List Int} : ∀ {l : List TR} {lo i : Int}, 0 ≤ lo → lo ≤ 2002 → ordL lo l → lo * 8 + 2 ≤ fkG E sk l i ∧ fkG E sk l i ≤ 1000000
  | [], lo, i, _, _, _ => by show _ ≤ (1000000 : Int) ∧ (1000000 : Int) ≤ 1000000; omega
  | t :: r, lo, i, l0, l1, h => by
    have a := keyE_b (E := E) (w := wnG sk i) h.2.1 h.2.2.1
    have c : plT t ≤ 2001 := (gT_i h.2.1).2.1
    have d : lo ≤ plT t := h.1
    have b := fkG_b (E := E) (sk := sk) (l := r) (i := i + 1) (by omega) (by omega) h.2.2.2
    show _ ≤ min (keyE E (wnG sk i) t) (fkG E sk r (i + 1)) ∧ _
    show _ ∧ min (keyE E (wnG sk i) t) (fkG E sk r (i + 1)) ≤ _
    omega
theorem fkF_take {E : EV} {l : List TR} {lo : Int} (l0 : 0 ≤ lo) (l1 : lo ≤ 2002) (h : ordL lo l) : fkF E l 0 = fkF E (l.take 4) 0 ∧ (4 ≤ l.length → ∃ p, lo ≤ p ∧ p ≤ 2001 ∧ fkF E l 0 ≤ p * 8 + 4 ∧ ∀ q, (∀ t, t ∈ l → plT t < q) → p < q) := by
  match l, h with
  | [], _ => exact ⟨rfl, fun z => absurd z (by decide)⟩
  | [a], _ => exact ⟨rfl, fun z => absurd z (by show ¬ 4 ≤ 1; decide)⟩
  | [a, b], _ => exact ⟨rfl, fun z => absurd z (by show ¬ 4 ≤ 2; decide)⟩
  | [a, b, c], _ => exact ⟨rfl, fun z => absurd z (by show ¬ 4 ≤ 3; decide)⟩
  | a :: b :: c :: d :: r, h =>
    have hd := h.2.2.2.2.2.2.2.2.2
    have ha := h.1
    have hb := h.2.2.2.1
    have hc := h.2.2.2.2.2.2.1
    have hdd := hd.1
    have pd : 0 ≤ plT d ∧ plT d ≤ 2001 := ⟨(gT_i hd.2.1).1, (gT_i hd.2.1).2.1⟩
    have f := ff1_b (E := E) (i := 3) hd.2.1 hd.2.2.1
    have f3 := f.2.2 rfl
    have t := fkF_b (E := E) (l := r) (i := 4) (lo := plT d + 1) (by omega) (by omega) hd.2.2.2
    have e1 : fkF E (a :: b :: c :: d :: r) 0 = min (ff1 E a 0) (min (ff1 E b 1) (min (ff1 E c 2) (min (ff1 E d 3) (fkF E r 4)))) := rfl
    have e2 : fkF E ((a :: b :: c :: d :: r).take 4) 0 = min (ff1 E a 0) (min (ff1 E b 1) (min (ff1 E c 2) (min (ff1 E d 3) 1000000))) := rfl
    rw [e1, e2]
    refine ⟨by omega, fun _ => ⟨plT d, by omega, pd.2, by omega, fun q y => y d (List.mem_cons_of_mem _ (List.mem_cons_of_mem _ (List.mem_cons_of_mem _ List.mem_cons_self)))⟩⟩
theorem skL_len {E : EV} {ts : List TR} : (skL E ts).length = min 3 ts.length := by unfold skL; rw [List.length_take, List.length_map]
/-- what is known of a loop that was read -/
def okLo (p : LPt) : Prop := ordL 0 p.2.1 ∧ (∀ t, t ∈ p.2.1 → plT t < plT p.2.2.1) ∧ (gT p.2.2.1 ∧ wpT p.2.2.1) ∧ plT p.2.2.1 < p.2.2.2.1 ∧ p.2.2.2.1 ≤ 2001 ∧ ordL (p.2.2.2.1 + 1) p.2.2.2.2.1 ∧ gT p.2.2.2.2.2 ∧ wpT p.2.2.2.2.2
theorem fkLo_M {E : EV} {p : LPt} (o : okLo p) : fkLo E p = fkLoM E p := by
  obtain ⟨ks, ts, c, dp, ds, g⟩ := p
  obtain ⟨o1, o2, o3, o4, o5, o6, o7⟩ := o
  have o4' : plT c < dp := o4
  have o5' : dp ≤ 2001 := o5
  have o6' : ordL (dp + 1) ds := o6
  have c0 : 0 ≤ plT c := (gT_i o3.1).1
  have a := fkF_take (E := EL E ks) (by decide) (by decide) o1
  unfold fkLo fkLoM
  dsimp only at *
  rw [← a.1]
  by_cases y : ds.length ≤ (skL (EL E ks) ts).length
  · rw [List.take_of_length_le y]
  · have b1 := fkG_b (E := EL E (skL (EL E ks) ts)) (sk := skL (EL E ks) ts) (i := 0) (by omega) (by omega) o6'
    have b2 := fkG_b (E := EL E (skL (EL E ks) ts)) (sk := skL (EL E ks) ts) (i := 0) (by omega) (by omega) (ordL_take (skL (EL E ks) ts).length o6')
    have sl := skL_len (E := EL E ks) (ts := ts)
    by_cases z : ds.length = ts.length
    · obtain ⟨p, p0, p1, p2, p3⟩ := a.2 (by omega)
      have := p3 _ o2
      omega
    · rw [if_neg z]
      omega
theorem pKs_ord {B : Int → Int} {n : Int} (hB : ∀ i, 0 ≤ i → i < n → 0 ≤ B i ∧ B i < 256) (hn : n ≤ 2000) : ∀ (k : Nat) (l : List TR) (q : Int) (l' : List TR) (q1 : Int), 0 ≤ q → q ≤ n → tO B n q ≠ 5 → pKs B n (pT B n false 13) k l q = .inr (l', q1) → ∃ m, l' = l ++ m ∧ m ≠ [] ∧ ordL q m ∧ (∀ t, t ∈ m → plT t < q1 ∧ dpT t ≤ 12 ∧ hlT t = 0) ∧ q < q1 ∧ q1 ≤ n ∧ tO B n q1 ≠ 5
  | 0, l, q, l', q1, _, _, _, h => by cases h
  | k + 1, l, q, l', q1, q0, qn, o5, h => by
    cases e : pT B n false 13 q with
    | inl z => rw [pKs_l e] at h; cases h
    | inr x =>
      obtain ⟨t, q2⟩ := x
      obtain ⟨g1, g2, g3, g4, g5, g6⟩ := pT_wp hB 13 q t q2 q0 qn o5 e
      obtain ⟨k1, k2⟩ := pT_ok hB hn 13 q t q2 q0 qn o5 e
      have h0 := pT_h0 13 q t q2 e
      by_cases c : comma B n q2
      · rw [pKs_c e c] at h
        cases e2 : nx B n q2 with
        | inl z => rw [e2] at h; cases h
        | inr q3 =>
          rw [e2] at h
          have nr := nx_r hB (by omega) g4 g5 (by rw [c.1]; decide) e2
          obtain ⟨m, m1, m2, m3, m4, m5, m6, m7⟩ := pKs_ord hB hn k (l ++ [t]) q3 l' q1 (by omega) nr.2.2.1 nr.2.2.2 h
          refine ⟨t :: m, by rw [m1, List.append_assoc]; rfl, fun z => (by cases z), ⟨g2, k1, g1, ordL_w (by show (inf t).2.2.2 + 1 ≤ q3; omega) m3⟩, fun u hu => ?_, by omega, m6, m7⟩
          rcases List.mem_cons.mp hu with rfl | hu
          · exact ⟨by show (inf u).2.2.2 < q1; omega, by omega, h0⟩
          · exact m4 u hu
      · rw [pKs_e e c] at h
        cases h
        refine ⟨[t], rfl, fun z => (by cases z), ⟨g2, k1, g1, trivial⟩, fun u hu => ?_, g3, g4, g5⟩
        have e1 : u = t := List.mem_singleton.mp hu
        rw [e1]
        exact ⟨g6, by omega, h0⟩

