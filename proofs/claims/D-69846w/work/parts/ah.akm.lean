/-! m stands at what is asked -/
theorem acE_g {E E' : EV} (e1 : E'.1 = E.1) (a : acE E) (g : E'.2.2.1 = 1 → 1 ≤ eO E' (-2) ∧ eO E' (-2) ≤ 3 ∧ ∀ k, 0 ≤ k → k ≤ eO E' (-2) → 0 ≤ eK E' (-2) k ∧ eK E' (-2) k ≤ 2) : acE E' := by
  obtain ⟨a1, a2, a3, a4, _⟩ := a
  have O : ∀ a, 0 ≤ a → eO E' a = eO E a := fun a a0 => eO_c e1 (by omega)
  have Kk : ∀ a k, 0 ≤ a → eK E' a k = eK E a k := fun a k a0 => eK_c e1 (by omega)
  refine ⟨by rw [e1]; exact a1, by rw [e1]; exact a2, fun a a0 ha => ?_, fun a a0 ha => ?_, g⟩
  · rw [e1] at ha
    rw [O a a0]
    obtain ⟨b1, b2, b3, b4⟩ := a3 a a0 ha
    exact ⟨b1, b2, b3, fun k k0 k1 => by rw [Kk a k a0]; exact b4 k k0 k1⟩
  · rw [O a a0]
    obtain ⟨b1, b2⟩ := a4 a a0 ha
    exact ⟨b1, fun k k0 k1 => by rw [Kk a k a0]; exact b2 k k0 k1⟩
theorem eK_2 {E : EV} {k : Int} : eK E (-2) k = if k = E.2.2.2.1 then E.2.2.2.2.2 else E.2.2.2.2.1 k := if_pos rfl
theorem eO_2 {E : EV} : eO E (-2) = E.2.2.2.1 := if_pos rfl
theorem acE_A {B : Int → Int} {n la : Int} {E : EV} {ks : List Int} {ns : List (Int × Int)} (a : acE E) (g : ksG ks) (lr : 0 ≤ la ∧ la ≤ 2) : acE (EVA B n E ks la ns) := by
  refine acE_g (E := E) rfl a (fun _ => ?_)
  have e : eO (EVA B n E ks la ns) (-2) = (ks.length : Int) := eO_2
  rw [e]
  refine ⟨by have := g.1.1; omega, by have := g.1.2; omega, fun k k0 k1 => ?_⟩
  rw [eK_2]
  show 0 ≤ (if k = (ks.length : Int) then la else kL ks k) ∧ (if k = (ks.length : Int) then la else kL ks k) ≤ 2
  by_cases c : k = (ks.length : Int)
  · rw [if_pos c]; exact lr
  · rw [if_neg c]; exact g.2 k k0 (by omega)
theorem nmN_m {ns : List (Int × Int)} {k : Int} (k0 : 0 ≤ k) (k1 : k < (ns.length : Int)) : nmN ns k ∈ ns := List.mem_of_getElem? (nmN_g k0 k1)
/-- a law's term -/
theorem lw_tm {B : Int → Int} {n la w : Int} {E : EV} {ks : List Int} {ns : List (Int × Int)} {t : TR} (hB : ∀ i, 0 ≤ i → i < n → 0 ≤ B i ∧ B i < 256) (hn : n ≤ 2000) (a : acE E) (ew : ∀ a, 26 ≤ a → 0 ≤ E.1.2.2.2.1 a) (g : ksG ks) (lr : 0 ≤ la ∧ la ≤ 2) (nr : ∀ p, p ∈ ns → 0 ≤ p.2 ∧ p.2 ≤ 1) (r : rdd B n t) (k : keyE (EVA B n E ks la ns) w t = 1000000) : tyT (EVA B n E ks la ns) (ns.length : Int) (fun k => (nmN ns k).2) (rsE (EVA B n E ks la ns) t 0) 0 ∧ dpE E.1.2.2.2.1 (rsE (EVA B n E ks la ns) t 0) ≤ 40 ∧ fkE (EVA B n E ks la ns) t 0 0 = 1000000 ∧ nhT (rsE (EVA B n E ks la ns) t 0) ∧ gT t := by
  obtain ⟨u, v, u0, un, u5, e⟩ := r
  have pa : paE (EVA B n E ks la ns) := ⟨Int.natCast_nonneg _, fun k k0 k1 => by have := nr _ (nmN_m k0 k1); exact ⟨this.1, by show (nmN ns k).2 ≤ 2; omega⟩⟩
  obtain ⟨t1, t2, _, t4, _, t6⟩ := told_ok (E := EVA B n E ks la ns) (W := w) (acE_A a g lr) pa ew hB hn u0 un u5 e k
  exact ⟨t1, t2, t6, nhT_rs 0 (pT_h0 13 u t v e) t4, t4⟩
theorem evF_A {B : Int → Int} {n : Int} {E : EV} {p : ASt} {rv hl : Int → Int} {ns : List (Int × Int)} (l : 0 < (lwsO p.2.2.2).length) : (EVA B n E p.1 p.2.1 ns).2.2 = (evF E (akO B n E p rv hl)).2.2 := by
  show ((1 : Int), ((p.1.length : Int), (fun k => kL p.1 k), p.2.1)) = ((if ((lwsO p.2.2.2).length : Int) = 0 then (0 : Int) else 1), ((p.1.length : Int), (fun k => kL p.1 k), p.2.1))
  rw [if_neg (by omega)]
theorem sdM_of {B : Int → Int} {n w d : Int} {E : EV} {p : ASt} {rv hl : Int → Int} {ns : List (Int × Int)} {t : TR} {h hh : AH} (hB : ∀ i, 0 ≤ i → i < n → 0 ≤ B i ∧ B i < 256) (hn : n ≤ 2000) (a : acE E) (ew : ∀ a, 26 ≤ a → 0 ≤ E.1.2.2.2.1 a) (g : ksG p.1) (lr : 0 ≤ p.2.1 ∧ p.2.1 ≤ 2) (l : 0 < (lwsO p.2.2.2).length) (nr : ∀ p, p ∈ ns → 0 ≤ p.2 ∧ p.2 ≤ 1) (r : rdd B n t) (k : keyE (EVA B n E p.1 p.2.1 ns) w t = 1000000) (dn : dnM h (EVA B n E p.1 p.2.1 ns) t d) (ag : agR d (d + sz t) h hh) : sdM hh (evF E (akO B n E p rv hl)) (ns.length : Int) (fun k => (nmN ns k).2) (rsE (EVA B n E p.1 p.2.1 ns) t 0) d := by
  obtain ⟨t1, t2, t3, t4, _⟩ := lw_tm hB hn a ew g lr nr r k
  exact ⟨fun z => resM_vw (dn t3 hh ag) t4 (by decide), tyT_E (E := evF E (akO B n E p rv hl)) (E' := EVA B n E p.1 p.2.1 ns) rfl (evF_A l) t1, (by have h99 : dpE E.1.2.2.2.1 (rsE (EVA B n E p.1 p.2.1 ns) t 0) ≤ 99 := (by omega); exact h99)⟩
/-- values of rows, as they stand at x -/
def rvG (B : Int → Int) (n : Int) (p : ASt) (rv : Int → Int) : Prop := ∀ r k, 0 ≤ r → r < ((rwsO p.2.2.2).length : Int) → 0 ≤ k → k < (p.1.length : Int) → rv (3 * r + k) = vlV B n (kL (rwN (rwsO p.2.2.2) r).1 k)
theorem kL_g {l : List Int} {k : Int} (k0 : 0 ≤ k) (k1 : k < (l.length : Int)) : l[k.toNat]? = some (kL l k) := by
  unfold kL
  rw [List.getD_eq_getElem?_getD, List.getElem?_eq_getElem (by omega)]; rfl
/-- a value of a row: its place in the text -/
theorem rw_v {B : Int → Int} {n r k : Int} {E : EV} {p : ASt} (hB : ∀ i, 0 ≤ i → i < n → 0 ≤ B i ∧ B i < 256) (G : asG B n E p) (r0 : 0 ≤ r) (r1 : r < ((rwsO p.2.2.2).length : Int)) (k0 : 0 ≤ k) (k1 : k < (p.1.length : Int)) : (rwN (rwsO p.2.2.2) r).1[k.toNat]? = some (kL (rwN (rwsO p.2.2.2) r).1 k) ∧ vlR (kL p.1 k) (vlV B n (kL (rwN (rwsO p.2.2.2) r).1 k)) := by
  obtain ⟨s, le, kk, _⟩ := G.2.1.2 r.toNat _ (rwN_g r0 r1)
  have e := kL_g (l := (rwN (rwsO p.2.2.2) r).1) k0 (by omega)
  refine ⟨e, ?_⟩
  have m := s.1 _ (List.mem_of_getElem? e)
  have z := kk k.toNat _ e (by omega)
  rw [show ((k.toNat : Nat) : Int) = k by omega] at z
  rw [← z]
  exact vl_ok hB m.1 m.2.2
theorem pvO_r {B : Int → Int} {n i k : Int} {E : EV} {p : ASt} {rv : Int → Int} (hB : ∀ i, 0 ≤ i → i < n → 0 ≤ B i ∧ B i < 256) (g : ksG p.1) (G : asG B n E p) (R : rvG B n p rv) (i0 : 0 ≤ i) (i1 : i < ptO p) (k0 : 0 ≤ k) (k1 : k < (p.1.length : Int)) : vlR (kL p.1 k) (pvA (p.1.length : Int) (fun k => kL p.1 k) (whO p) rv i k) := by
  unfold pvA whO
  unfold ptO at i1
  by_cases c : 256 < apN p.1
  · rw [if_pos c] at i1
    rw [if_pos c, if_pos rfl, R i k i0 i1 k0 k1]
    exact (rw_v hB G i0 i1 k0 k1).2
  · rw [if_neg c] at i1
    rw [if_neg c, if_neg (by decide)]
    have z := k01_of g ((ap_rw g).2 c).2.1 k k0 k1
    have d := (dvT_r (kf := fun k => kL p.1 k) (n := (p.1.length : Int)) (p := i) i0 ((p.1.length : Int) - 1 - k).toNat).1
    generalize dvT (fun k => kL p.1 k) (p.1.length : Int) i ((p.1.length : Int) - 1 - k).toNat = D at d
    show vlR (kL p.1 k) (D % bsK (kL p.1 k))
    unfold vlR
    rcases z with z | z
    · rw [z]
      have e : bsK 0 = 16 := rfl
      rw [e]
      omega
    · rw [z]
      have e : bsK 1 = 2 := rfl
      rw [e]
      omega
theorem vlR_b {k v : Int} (h : vlR k v) (z : k = 0 ∨ k = 1) : 0 ≤ v ∧ v < bsK k := vl_bs h (by omega) (by omega)
/-- whole asks: a row's point -/
theorem rp_r {B : Int → Int} {n r : Int} {E : EV} {p : ASt} {rv : Int → Int} (hB : ∀ i, 0 ≤ i → i < n → 0 ≤ B i ∧ B i < 256) (g : ksG p.1) (G : asG B n E p) (R : rvG B n p rv) (r0 : 0 ≤ r) (r1 : r < ((rwsO p.2.2.2).length : Int)) : 0 ≤ rpA (p.1.length : Int) (fun k => kL p.1 k) (whO p) rv r ∧ rpA (p.1.length : Int) (fun k => kL p.1 k) (whO p) rv r < ptO p := by
  unfold rpA whO ptO
  by_cases c : 256 < apN p.1
  · rw [if_pos c, if_pos rfl, if_pos c]; exact ⟨r0, r1⟩
  · rw [if_neg c, if_neg (by decide), if_neg c]
    obtain ⟨_, m, e⟩ := (ap_rw g).2 c
    have k := k01_of g m
    have b := pt_b (vf := fun k => rv (3 * r + k)) g k (fun k k0 k1 => by
      show 0 ≤ rv (3 * r + k) ∧ rv (3 * r + k) < bsK (kL p.1 k)
      rw [R r k r0 r1 k0 k1]
      exact vlR_b (rw_v hB G r0 r1 k0 k1).2 (k01_of g m k k0 k1))
    rw [show (p.1.length : Int).toNat = p.1.length by omega, e]
    exact b
theorem ptE_r {B : Int → Int} {n : Int} {E : EV} {p : ASt} {rv hl : Int → Int} (g : ksG p.1) (c : ¬ 256 < apN p.1) : (∀ k, 0 ≤ k → k < eO (evF E (akO B n E p rv hl)) (-2) → eK (evF E (akO B n E p rv hl)) (-2) k = kL p.1 k ∧ kL p.1 k ≤ 1) ∧ ∀ x y z, vlR (eK (evF E (akO B n E p rv hl)) (-2) 0) x → (2 ≤ eO (evF E (akO B n E p rv hl)) (-2) → vlR (eK (evF E (akO B n E p rv hl)) (-2) 1) y) → (3 ≤ eO (evF E (akO B n E p rv hl)) (-2) → vlR (eK (evF E (akO B n E p rv hl)) (-2) 2) z) → ptE (evF E (akO B n E p rv hl)) x y z < ptO p := by
  obtain ⟨_, m, e⟩ := (ap_rw g).2 c
  have k01 := k01_of g m
  have O : eO (evF E (akO B n E p rv hl)) (-2) = (p.1.length : Int) := eO_2
  have Kk : ∀ k, k < (p.1.length : Int) → eK (evF E (akO B n E p rv hl)) (-2) k = kL p.1 k := fun k k1 => by
    rw [eK_2]
    exact if_neg (show ¬ k = (p.1.length : Int) by omega)
  refine ⟨fun k k0 k1 => ?_, fun x y z hx hy hz => ?_⟩
  · rw [O] at k1
    exact ⟨Kk k k1, by have := k01 k k0 k1; omega⟩
  · unfold ptE
    rw [O] at hy hz ⊢
    have P : ptO p = ptN p.1 := by unfold ptO; rw [if_neg c, e]
    rw [P]
    have l1 := g.1.1
    rw [Kk 0 (by omega)] at hx
    have bx := vlR_b hx (k01 0 (by decide) (by omega))
    by_cases c1 : (p.1.length : Int) ≤ 1
    · rw [if_pos c1]
      have b := (pt_b (vf := fun k => x) g k01 (fun k k0 k1 => by rw [show k = 0 by omega]; exact bx)).2
      rw [show p.1.length = 1 by omega] at b
      have b : (0 : Int) * bsK (kL p.1 ((0 : Nat) : Int)) + x < ptN p.1 := b
      omega
    · rw [if_neg c1]
      have hy := hy (by omega)
      rw [Kk 1 (by omega)] at hy ⊢
      have by_ := vlR_b hy (k01 1 (by decide) (by omega))
      by_cases c2 : (p.1.length : Int) ≤ 2
      · rw [if_pos c2]
        have b := (pt_b (vf := fun k => if k = 0 then x else y) g k01 (fun k k0 k1 => by
          rcases (by omega : k = 0 ∨ k = 1) with z | z
          · rw [z, if_pos rfl]; exact bx
          · rw [z, if_neg (by decide)]; exact by_)).2
        rw [show p.1.length = 2 by omega] at b
        have b : ((0 : Int) * bsK (kL p.1 0) + x) * bsK (kL p.1 1) + y < ptN p.1 := b
        rw [Int.zero_mul, Int.zero_add] at b
        exact b
      · rw [if_neg c2]
        have hz := hz (by omega)
        rw [Kk 2 (by omega)] at hz ⊢
        have bz := vlR_b hz (k01 2 (by decide) (by omega))
        have b := (pt_b (vf := fun k => if k = 0 then x else if k = 1 then y else z) g k01 (fun k k0 k1 => by
          rcases (by have := g.1.2; omega : k = 0 ∨ k = 1 ∨ k = 2) with w | w | w
          · rw [w, if_pos rfl]; exact bx
          · rw [w, if_neg (by decide), if_pos rfl]; exact by_
          · rw [w, if_neg (by decide), if_neg (by decide)]; exact bz)).2
        rw [show p.1.length = 3 by have := g.1.2; omega] at b
        have b : (((0 : Int) * bsK (kL p.1 0) + x) * bsK (kL p.1 1) + y) * bsK (kL p.1 2) + z < ptN p.1 := b
        rw [Int.zero_mul, Int.zero_add] at b
        exact b
/-- laws stand in whole asks alone -/
theorem lw_wh {B : Int → Int} {n : Int} {E : EV} {p : ASt} (g : ksG p.1) (G : asG B n E p) (l : 0 < (lwsO p.2.2.2).length) : ¬ 256 < apN p.1 := by
  have z := (G.2.2.2 0 _ (List.getElem?_eq_getElem l)).2.2.2.2
  have m : ¬ 2 ∈ p.1 := fun y => z (Or.inr (Or.inl y))
  intro c
  rw [apN_pt m] at c
  exact z (Or.inr (Or.inr c))
theorem pcS_no {B : Int → Int} {n : Int} {E : EV} {p : ASt} {rv hl : Int → Int} (G : asG B n E p) : dpA (kA (akO B n E p rv hl)) := by
  intro i j i0 ij jn
  have jn : j < (p.2.2.1.length : Int) := jn
  have ej := nmN_g (ns := p.2.2.1) (k := j) (by omega) jn
  have ei := nmN_g (ns := p.2.2.1) (k := i) i0 (by omega)
  obtain ⟨vj, dj⟩ := G.1.2.2 j.toNat _ ej
  obtain ⟨vi, _⟩ := G.1.2.2 i.toNat _ ei
  have mi : nmN p.2.2.1 i ∈ p.2.2.1.take j.toNat := List.mem_of_getElem? (i := i.toNat) (by rw [List.getElem?_take_of_lt (by omega)]; exact ei)
  have no := dj _ mi
  show ¬ (pcA B n E (nmN p.2.2.1 i).1 = pcA B n E (nmN p.2.2.1 j).1 ∧ (pcA B n E (nmN p.2.2.1 i).1 = -1 → pcK B n E (nmN p.2.2.1 i).1 = pcK B n E (nmN p.2.2.1 j).1 ∧ pcV B n (nmN p.2.2.1 i).1 = pcV B n (nmN p.2.2.1 j).1))
  rintro ⟨ea, ev⟩
  by_cases ci : isVl B n (nmN p.2.2.1 i).1
  · have ai : pcA B n E (nmN p.2.2.1 i).1 = -1 := if_pos ci
    have cj : isVl B n (nmN p.2.2.1 j).1 := vj.resolve_right (by omega)
    obtain ⟨e1, e2⟩ := ev ai
    have k1 : pcK B n E (nmN p.2.2.1 i).1 = vlK B n (nmN p.2.2.1 i).1 := if_pos ci
    have k2 : pcK B n E (nmN p.2.2.1 j).1 = vlK B n (nmN p.2.2.1 j).1 := if_pos cj
    have w1 : pcV B n (nmN p.2.2.1 i).1 = vlV B n (nmN p.2.2.1 i).1 := if_pos ci
    have w2 : pcV B n (nmN p.2.2.1 j).1 = vlV B n (nmN p.2.2.1 j).1 := if_pos cj
    exact no (Or.inl ⟨cj, ci, by rw [← k1, ← k2, e1], by rw [← w1, ← w2, e2]⟩)
  · have pi := vi.resolve_left ci
    by_cases cj : isVl B n (nmN p.2.2.1 j).1
    · have aj : pcA B n E (nmN p.2.2.1 j).1 = -1 := if_pos cj
      omega
    · exact no (Or.inr ⟨cj, ci, by omega, ea.symm⟩)
theorem VA_of {B : Int → Int} {n : Int} {E : EV} {p : ASt} {rv hl : Int → Int} (hB : ∀ i, 0 ≤ i → i < n → 0 ≤ B i ∧ B i < 256) (ac : acE E) (g : ksG p.1) (G : asG B n E p) (R : rvG B n p rv) : VA E (kA (akO B n E p rv hl)) (kP (akO B n E p rv hl)) := by
  refine ⟨fun k k0 k1 => g.2 k k0 k1, fun i k i0 i1 k0 k1 => pvO_r hB g G R i0 i1 k0 k1, fun k k0 k1 => ?_⟩
  have k1 : k < (p.2.2.1.length : Int) := k1
  have e := nmN_g (ns := p.2.2.1) k0 k1
  have m := G.1.2.1 _ (List.mem_of_getElem? e)
  obtain ⟨v, _⟩ := G.1.2.2 k.toNat _ e
  refine ⟨m.2, ?_⟩
  by_cases c : isVl B n (nmN p.2.2.1 k).1
  · left
    have a1 : pcA B n E (nmN p.2.2.1 k).1 = -1 := if_pos c
    have k1 : pcK B n E (nmN p.2.2.1 k).1 = vlK B n (nmN p.2.2.1 k).1 := if_pos c
    have v1 : pcV B n (nmN p.2.2.1 k).1 = vlV B n (nmN p.2.2.1 k).1 := if_pos c
    have r := vlK_r B n (nmN p.2.2.1 k).1
    have z : 0 ≤ vlK B n (nmN p.2.2.1 k).1 := by unfold vlK; split <;> (try split) <;> omega
    exact ⟨a1, ⟨by show 0 ≤ pcK B n E (nmN p.2.2.1 k).1; omega, by show pcK B n E (nmN p.2.2.1 k).1 ≤ 2; omega⟩, by show vlR (pcK B n E (nmN p.2.2.1 k).1) (pcV B n (nmN p.2.2.1 k).1); rw [k1, v1]; exact vl_ok hB m.1.1 c⟩
  · right
    have p0 := v.resolve_left c
    have pr := (pcA_r (B := B) (n := n) (E := E) (q := (nmN p.2.2.1 k).1)).2 (by have := ac.1; omega)
    exact ⟨p0, by show pcA B n E (nmN p.2.2.1 k).1 < E.1.1; omega⟩
theorem ksG_of {ks : List Int} (l1 : 1 ≤ ks.length) (l3 : ks.length ≤ 3) (r : ∀ k, 0 ≤ k → k < (ks.length : Int) → 0 ≤ kL ks k ∧ kL ks k ≤ 2) : ksG ks := ⟨⟨l1, l3⟩, r⟩
theorem akM_of {B : Int → Int} {n a D tp : Int} {E : EV} {Rf : Int → TR} {W : Int → Int → Int → VW} {p : ASt} {rv hl : Int → Int} {h : AH} (hB : ∀ i, 0 ≤ i → i < n → 0 ≤ B i ∧ B i < 256) (hn : n ≤ 2000) (ap : apM B n a D E p h) (D0 : 0 ≤ D ∧ D ≤ 1100) (G : asG B n E p) (R : rvG B n p rv) (om : ownsM h E Rf) (wk : wOK E Rf W) (l0 : E.2.2.1 = 0) (a38 : h 454 38 = a) (tpe : h a 1 = tp ∧ (tp = 8500 ∨ tp = 8650)) (ar : ∀ i, 0 ≤ i → i ≤ 121 → h (a + 17 + i) (-2) = 101 ∧ h (a + 17 + i) (-1) = 256) (ar8 : h (a + 8) (-2) = 101 ∧ h (a + 8) (-1) = 8) (hlr : ∀ c, 0 ≤ c → c ≤ 2 → 0 ≤ hl c ∧ hl c ≤ 15) (b21 : h 454 21 = -1) (b2 : b20 h) : akM h E Rf W (akO B n E p rv hl) tp := by
  refine ⟨fun hh ag => ?_, b21, b2⟩
  obtain ⟨⟨x1, x2, x3, x4, x5⟩, ⟨y1, y2⟩, ⟨z1, z2⟩, ⟨r1, r2, r3⟩, ⟨l1, l2, l3⟩, ⟨p1, p2, p3, p4, p5⟩, _, tt⟩ := ap
  have LA : a = 476 ∨ a = 615 := x1
  have g : ksG p.1 := ⟨⟨x3, x4⟩, fun k k0 k1 => (x5 k k0 k1).2⟩
  have F : ∀ b s, mA b s → hh b s = h b s := ag
  have AW := alT_wh (p := p) g
  have e38 : hh 454 38 = a := (F _ _ (by unfold mA; omega)).trans a38
  have OM : ownsM hh E Rf := ownsM_fr om (F _ _ (by unfold mA; omega)) (fun b s b0 b1 => F _ _ (by unfold mA; omega)) ⟨fun b s b0 b1 b2 s0 s1 => F _ _ (by unfold mA; omega), fun s s0 s1 => F _ _ (by unfold mA; omega)⟩
  have KC : ∀ k, 0 ≤ k → k < (p.1.length : Int) → hh (a + 1) k = kch (kL p.1 k) := fun k k0 k1 => by rw [F _ _ (by unfold mA; omega)]; exact (x5 k k0 k1).1
  have ew := OM.2.2.2.2.2.1
  unfold akC
  rw [e38]
  refine ⟨⟨x1, OM, wk, l0⟩, ⟨?_, KC, ?_, pcS_no G⟩, ⟨by rw [F _ _ (by unfold mA; omega)]; exact tpe.1, tpe.2⟩, ?_, by rw [F _ _ (by unfold mA; omega)]; exact y1, fun i i0 i1 => by rw [F _ _ (by unfold mA; omega), F _ _ (by unfold mA; omega)]; exact ar i i0 i1, VA_of hB om.2.1 g G R, y2⟩
  · unfold pkM
    rw [e38]
    refine ⟨x1, by rw [F _ _ (by unfold mA; omega)]; exact x2, by show 1 ≤ (p.1.length : Int); omega, by show (p.1.length : Int) ≤ 3; omega, by rw [F _ _ (by unfold mA; omega), p2]; exact AW.2, by show 0 ≤ ptO p; rw [← AW.2]; exact p3, by show ptO p ≤ 256; rw [← AW.2]; exact p4, fun i k i0 i1 k0 k1 => ?_⟩
    have i1 : i < ptO p := i1
    have k1 : k < (p.1.length : Int) := k1
    refine ⟨?_, pvO_r hB g G R i0 i1 k0 k1⟩
    rw [F _ _ (by unfold mA; omega), p5 i k i0 (by rw [AW.2]; exact i1) k0 (by omega), AW.1]
    show _ = pvA (p.1.length : Int) (fun k => kL p.1 k) (whO p) rv i k
    unfold pvA
    by_cases c : whO p = 0
    · rw [if_pos c, if_pos c]
      have rr : i < ((rwsO p.2.2.2).length : Int) := by
        unfold ptO at i1
        unfold whO at c
        by_cases z : 256 < apN p.1
        · rw [if_pos z] at i1; exact i1
        · rw [if_neg z] at c; cases c
      rw [R i k i0 rr k0 k1]
      have e := (rw_v hB G i0 rr k0 k1).1
      have w := (r3 i.toNat (by omega) _ (rwN_g i0 rr)).2 k.toNat (by omega) _ e
      rw [show ((i.toNat : Nat) : Int) = i by omega, show ((k.toNat : Nat) : Int) = k by omega] at w
      exact w
    · rw [if_neg c, if_neg c]
      unfold vaT
      rw [if_neg (by omega)]
  · unfold pcM
    rw [e38]
    refine ⟨by rw [F _ _ (by unfold mA; omega)]; exact z2, by show 0 ≤ (p.2.2.1.length : Int); omega, by show (p.2.2.1.length : Int) ≤ 12; have := G.1.1; omega, fun k k0 k1 => ?_⟩
    have k1 : k < (p.2.2.1.length : Int) := k1
    have G1 := G.1.1
    have e := nmN_g (ns := p.2.2.1) k0 k1
    have w := z1 k.toNat (by omega) _ e
    rw [show ((k.toNat : Nat) : Int) = k by omega] at w
    obtain ⟨w1, w2, w3⟩ := w
    rw [F (a + 3) _ (by unfold mA; omega), F (a + 4) _ (by unfold mA; omega), F (a + 2) _ (by unfold mA; omega)]
    refine ⟨w1, w2, ?_⟩
    rcases w3 with w3 | w3
    · left
      obtain ⟨vl, v1, v2, v3, v4, v5, v6⟩ := w3
      have a1 : pcA B n E (nmN p.2.2.1 k).1 = -1 := if_pos vl
      have kk : pcK B n E (nmN p.2.2.1 k).1 = vlK B n (nmN p.2.2.1 k).1 := if_pos vl
      have vv : pcV B n (nmN p.2.2.1 k).1 = vlV B n (nmN p.2.2.1 k).1 := if_pos vl
      have rk := vlK_r B n (nmN p.2.2.1 k).1
      have zk : 0 ≤ vlK B n (nmN p.2.2.1 k).1 := by unfold vlK; split <;> (try split) <;> omega
      rw [F 460 _ (by unfold mA; omega), F 461 _ (by unfold mA; omega), F 462 _ (by unfold mA; omega), F 465 _ (by unfold mA; omega), F 466 _ (by unfold mA; omega)]
      exact ⟨a1, by omega, by omega, v2, by rw [v3]; exact congrArg kch kk.symm, by rw [v4]; exact vv.symm, v5, by show 0 ≤ pcK B n E (nmN p.2.2.1 k).1; omega, by show pcK B n E (nmN p.2.2.1 k).1 ≤ 2; omega, v6⟩
    · right
      obtain ⟨v, _⟩ := G.1.2.2 k.toNat _ e
      exact ⟨v.resolve_left w3.1, w3.2⟩
  · have AC : acE (evF E (akO B n E p rv hl)) := acE_c om.2.1 ⟨by show 1 ≤ (p.1.length : Int); omega, by show (p.1.length : Int) ≤ 3; omega, fun k k0 k1 => g.2 k k0 k1, y2⟩
    unfold mtM
    rw [e38]
    refine ⟨⟨x1, fun f ft => enuM_of OM.1 AC (wOK_c (E := E) (E' := evF E (akO B n E p rv hl)) rfl wk) ft OM.2.2.1 (owT_c (E := E) (E' := evF E (akO B n E p rv hl)) rfl OM.2.2.2.1) ew (Or.inl (by decide)), hlr⟩, ⟨by rw [F _ _ (by unfold mA; omega)]; exact x2, by show 1 ≤ (p.1.length : Int); omega, by show (p.1.length : Int) ≤ 3; omega, KC, by rw [F _ _ (by unfold mA; omega), p1]; exact AW.1, fun c r k r0 r1' k0 k1 => ?_⟩, ⟨by rw [F _ _ (by unfold mA; omega)]; exact r1, by show 0 ≤ ((rwsO p.2.2.2).length : Int); omega, by show ((rwsO p.2.2.2).length : Int) ≤ 12; omega, fun r r0 r1' => ?_, by show ptO p ≤ 256; rw [← AW.2]; exact p4⟩, ⟨by rw [F _ _ (by unfold mA; omega)]; exact l1, by show 0 ≤ ((lwsO p.2.2.2).length : Int); omega, by show ((lwsO p.2.2.2).length : Int) ≤ 4; omega, by rw [F _ _ (by unfold mA; omega)]; exact ar8.1, by rw [F _ _ (by unfold mA; omega)]; exact ar8.2, fun l q0 q1 => ?_⟩, fun lp => ?_⟩
    · have r1' : r < ((rwsO p.2.2.2).length : Int) := r1'
      have k1 : k < (p.1.length : Int) := k1
      have wh : ¬ 256 < apN p.1 := fun z => c (show whO p = 0 from if_pos z)
      obtain ⟨e, v⟩ := rw_v hB G r0 r1' k0 k1
      have w := (r3 r.toNat (by omega) _ (rwN_g r0 r1')).2 k.toNat (by omega) _ e
      rw [show ((r.toNat : Nat) : Int) = r by omega, show ((k.toNat : Nat) : Int) = k by omega] at w
      have RV := R r k r0 r1' k0 k1
      have RV : rv (3 * r + k) = vlV B n (kL (rwN (rwsO p.2.2.2) r).1 k) := RV
      have b := vlR_b v (k01_of g ((ap_rw g).2 wh).2.1 k k0 k1)
      refine ⟨by rw [F _ _ (by unfold mA; omega)]; exact w.trans RV.symm, ?_, ?_⟩
      · show 0 ≤ rv (3 * r + k); rw [RV]; exact b.1
      · show rv (3 * r + k) < bsK (kL p.1 k); rw [RV]; exact b.2
    · have r1' : r < ((rwsO p.2.2.2).length : Int) := r1'
      have w := (r3 r.toNat (by omega) _ (rwN_g r0 r1')).1
      rw [show ((r.toNat : Nat) : Int) = r by omega] at w
      exact ⟨by rw [F _ _ (by unfold mA; omega)]; exact w, rp_r hB g G R r0 r1'⟩
    · have q1 : l < ((lwsO p.2.2.2).length : Int) := q1
      have e := lwN_g q0 q1
      obtain ⟨⟨w1, w2⟩, w3, ⟨v1, v2, v3⟩, u1, u2, u3⟩ := l3 l.toNat (by omega) _ e
      obtain ⟨d1, d2, d3, d4, _⟩ := G.2.2.2 l.toNat _ e
      rw [show ((l.toNat : Nat) : Int) = l by omega] at w1 w3 v1 v2 v3 u1 u2 u3
      unfold lwM
      rw [e38]
      refine ⟨by show 1 ≤ ((lwN (lwsO p.2.2.2) l).1.length : Int); omega, by show ((lwN (lwsO p.2.2.2) l).1.length : Int) ≤ 2; omega, by rw [F _ _ (by unfold mA; omega)]; exact w1, fun k k0 k1 => ?_, ?_, ?_⟩
      · have k1 : k < ((lwN (lwsO p.2.2.2) l).1.length : Int) := k1
        have y := w3 k k0 k1
        have yy := d2 _ (nmN_m k0 k1)
        exact ⟨by rw [F _ _ (by unfold mA; omega)]; exact y.1, yy.1, yy.2⟩
      · rw [F _ _ (by unfold mA; omega)]
        exact sdM_of hB hn om.2.1 ew g y2 (by omega) d2 d3.1 d3.2 v3 ⟨fun b s b0 b1 b2 s0 s1 => F _ _ (by unfold mA; omega), fun s s0 s1 => F _ _ (by unfold mA; omega)⟩
      · rw [F _ _ (by unfold mA; omega)]
        exact sdM_of hB hn om.2.1 ew g y2 (by omega) d2 d4.1 d4.2 u3 ⟨fun b s b0 b1 b2 s0 s1 => F _ _ (by unfold mA; omega), fun s s0 s1 => F _ _ (by unfold mA; omega)⟩
    · have lp : 0 < ((lwsO p.2.2.2).length : Int) := lp
      have wh := lw_wh g G (by omega)
      obtain ⟨pe1, pe2⟩ := ptE_r (B := B) (n := n) (E := E) (p := p) (rv := rv) (hl := hl) g wh
      refine ⟨if_neg (show ¬ ((lwsO p.2.2.2).length : Int) = 0 by omega), fun k k0 k1 => ?_, pe2⟩
      obtain ⟨e, le⟩ := pe1 k k0 k1
      rw [e]
      have k1 : k < (p.1.length : Int) := by have := k1; rw [eO_2] at this; exact this
      exact ⟨KC k k0 k1, le⟩

