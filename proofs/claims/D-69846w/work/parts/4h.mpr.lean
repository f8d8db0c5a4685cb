/-! m: what the names of a term are; the pure part -/
def evM (h : AH) (x : Int) (E : EV) : Prop := actM h E ∧ parM h E ∧ askM h x E
def frN (d z : Int) (h h' : AH) : Prop := ∀ a s, ¬ (a = 454 ∧ (s = 30 ∨ s = 31 ∨ s = 35)) → ¬ ((a = 461 ∨ a = 462 ∨ a = 463) ∧ d ≤ s ∧ s < d + z) → h' a s = h a s
theorem evM_fr {h h' : AH} {x : Int} {E : EV} (e : evM h x E) (f : ∀ a s, ¬ (a = 454 ∧ (s = 30 ∨ s = 31 ∨ s = 35)) → ¬ (a = 461 ∨ a = 462 ∨ a = 463) → h' a s = h a s) : evM h' x E := by
  obtain ⟨⟨a1, a2, a3, a4⟩, ⟨b1, b2, b3, b4⟩, c⟩ := e
  refine ⟨⟨by rw [f _ _ (by omega) (by omega)]; exact a1, a2, a3, fun a x0 x1 => ?_⟩, ⟨by rw [f _ _ (by omega) (by omega)]; exact b1, b2, b3, fun k k0 k1 => ?_⟩, ?_⟩
  · rw [f 455 a (by omega) (by omega), f 456 a (by omega) (by omega), f 458 a (by omega) (by omega)]
    have y := a4 a x0 x1
    exact ⟨y.1, y.2.1, y.2.2.1, y.2.2.2.1, fun k k0 k1 => by rw [f _ _ (by omega) (by omega)]; exact y.2.2.2.2.1 k k0 k1, y.2.2.2.2.2⟩
  · rw [f 474 k (by omega) (by omega), f 475 k (by omega) (by omega)]
    exact b4 k k0 k1
  · rcases c with c | ⟨c1, c2, c3, c4, c5, c6, c7, c8, c9⟩
    · exact Or.inl c
    · refine Or.inr ⟨c1, c2, ?_, ?_, c5, c6, c7, c8, fun k k0 k1 => ?_⟩
      · rw [f _ _ (by omega) (by omega)]; exact c3
      · rw [f _ _ (by omega) (by omega)]; exact c4
      · rw [f _ _ (by omega) (by omega)]; exact c9 k k0 k1
def okN (h : AH) (T : TR) (d k : Int) : Prop := rawM h T d 0 (d + 1) (-1) ∧ gT T ∧ wpT T ∧ 0 ≤ d ∧ d + sz T ≤ 8800 ∧ dpT T ≤ k
def posN (E : EV) (T : TR) (d : Int) (h : AH) (v : Int) (h' : AH) : Prop := v = kch (kdE E T) ∧ MI h' ∧ MK h' = min (MK h) (fkE E T 0 (h 454 35)) ∧ h' 454 35 = h 454 35 + hlT T ∧ actT h' E T d (d + 1) ∧ (fkE E T 0 (h 454 35) = 1000000 → resM h' (rsE E T (h 454 35)) d 0) ∧ frN d (sz T) h h'
def CMN (F : Int → Int → AH → Option (Int × AH)) (E : EV) (x k : Int) : Prop := ∀ (d : Int) (h : AH) (T : TR), evM h x E → MI h → (0 ≤ h 454 35 ∧ h 454 35 + hlT T ≤ 4000) → okN h T d k → OK (F d x h) (fun r => jt2 r fun v h' => posN E T d h v h')
theorem kdE_r {h : AH} {x : Int} {E : EV} (e : evM h x E) {T : TR} (o : gT T) : -1 ≤ kdE E T ∧ kdE E T ≤ 2 := by
  have oi := gT_i o
  unfold kdE kdT kdI
  by_cases a : (inf T).1 = 0
  · rw [if_pos a]; have := oi.2.2.1 a; omega
  rw [if_neg a]
  by_cases b : (inf T).1 = 1
  · rw [if_pos b]
    by_cases c : mky E.2.1.1 E.2.1.2.1 (inf T).2.2.1 < 0
    · rw [if_pos c]; omega
    · rw [if_neg c]
      have m : mky E.2.1.1 E.2.1.2.1 (inf T).2.2.1 < E.2.1.1 := by
        have := fA_0 (c := E.2.1.2.1) (w := (inf T).2.2.1) (n := E.2.1.1)
        unfold mky at c ⊢
        omega
      have := e.2.1.2.2.2 _ (by omega) m
      exact this.2.2
  rw [if_neg b]
  by_cases c : (inf T).1 = 2
  · rw [if_pos c]
    by_cases d : eRs E (inf T).2.2.1 = -1
    · rw [if_pos d]; omega
    · rw [if_neg d]
      rcases eRs_r (E := E) (inf T).2.2.1 with r | r | r
      · rw [r]
        have l : E.2.2.1 = 1 := Classical.byContradiction fun y => by
          unfold eRs at r; rw [if_neg (fun z => y z.1)] at r
          have := fA_0 (c := E.1.2.1) (w := (inf T).2.2.1) (n := E.1.1); omega
        rcases e.2.2 with z | z
        · omega
        · unfold eK; rw [if_pos rfl, if_pos (show eO E (-2) = E.2.2.2.1 from rfl)]; omega
      · exact absurd r d
      · have y := (e.1.2.2.2 _ r.1 r.2)
        unfold eK eO
        rw [if_neg (by omega), if_neg (by omega), if_neg (by omega)]
        have := y.2.2.2.2.2.2 (E.1.2.2.1 (eRs E (inf T).2.2.1)) (by omega) (Int.le_refl _)
        omega
  · rw [if_neg c]; omega
/-- cells of resolved nodes -/
def agR (lo hi : Int) (h hh : AH) : Prop := (∀ a s, 460 ≤ a → a ≤ 466 → a ≠ 464 → lo ≤ s → s < hi → hh a s = h a s) ∧ (∀ s, 3 * lo ≤ s → s < 3 * hi → hh 464 s = h 464 s)
theorem resM_ag {E : EV} {h hh : AH} {lo hi : Int} (f : agR lo hi h hh) : ∀ {t : TR} {d j p pv hc : Int}, 0 ≤ j → lo ≤ d → d < hi → lo < p → p + (sz t - 1) ≤ hi → rawS h t d j p pv → resM h (rsE E t hc) d j → resM hh (rsE E t hc) d j
  | .leaf i, d, j, p, pv, hc, hj, d0, d1, p0, p1, s, r => by
    have e : rsE E (.leaf i) hc = .leaf (riE E i hc) := rfl
    rw [e] at r ⊢
    unfold resM at *
    rw [f.1 465 d (by decide) (by decide) (by decide) d0 d1, f.1 466 d (by decide) (by decide) (by decide) d0 d1, f.1 461 d (by decide) (by decide) (by decide) d0 d1, f.1 460 d (by decide) (by decide) (by decide) d0 d1, f.1 462 d (by decide) (by decide) (by decide) d0 d1, f.1 463 d (by decide) (by decide) (by decide) d0 d1]
    exact r
  | .branch b s t, d, j, p, pv, hc, hj, d0, d1, p0, p1, q, r => by
    have z1 := sz_pos s
    have z2 := sz_pos t
    have e : sz (.branch b s t) = sz s + sz t := rfl
    rw [e] at p1
    obtain ⟨q1, q2, q3, q4⟩ := q
    obtain ⟨r1, r2, r3⟩ := r
    have c1 := q1 r1
    refine ⟨r1, ?_, resM_ag f (by omega) d0 d1 (by omega) (by omega) q4 r3⟩
    rw [f.2 _ (by omega) (by omega), c1]
    rw [c1] at r2
    exact resM_ag f (Int.le_refl _) (by omega) (by omega) (by omega) (by omega) q2 r2
theorem actT_ag {E : EV} {h hh : AH} {lo hi : Int} (f : ∀ s, lo ≤ s → s < hi → hh 463 s = h 463 s) : ∀ {t : TR} {d p : Int}, lo ≤ d → d < hi → lo ≤ p → p + (sz t - 1) ≤ hi → actT h E t d p → actT hh E t d p
  | .leaf i, d, p, d0, d1, _, _, a => fun z => by rw [f d d0 d1]; exact a z
  | .branch b s t, d, p, d0, d1, p0, p1, a => by
    have z1 := sz_pos s
    have z2 := sz_pos t
    have e : sz (.branch b s t) = sz s + sz t := rfl
    rw [e] at p1
    exact ⟨actT_ag f p0 (by omega) (by omega) (by omega) a.1, actT_ag f d0 d1 (by omega) (by omega) a.2⟩
/-- on the way through the first three operands -/
def ivN (E : EV) (T : TR) (k d : Int) (h0 : AH) (j : Int) (h : AH) (r : TR) (p : Int) : Prop := rawM h r d j p (-1) ∧ gT r ∧ wpT r ∧ inf r = inf T ∧ 0 ≤ j ∧ j ≤ 3 ∧ d < p ∧ p + (sz r - 1) = d + sz T ∧ dpT r ≤ k + 1 ∧ MI h ∧ min (MK h) (fkE E r j (h 454 35)) = min (MK h0) (fkE E T 0 (h0 454 35)) ∧ MK h ≤ MK h0 ∧ h 454 35 + hlT r = h0 454 35 + hlT T ∧ h0 454 35 ≤ h 454 35 ∧ (∀ a s, ¬ (a = 454 ∧ (s = 30 ∨ s = 31 ∨ s = 35)) → ¬ ((a = 461 ∨ a = 462 ∨ a = 463) ∧ d < s ∧ s < p) → h a s = h0 a s) ∧ (∀ hh : AH, (∀ s, d < s → s < p → hh 463 s = h 463 s) → actT hh E r d p → actT hh E T d (d + 1)) ∧ (fkE E T 0 (h0 454 35) = 1000000 → fkE E r j (h 454 35) = 1000000) ∧ (fkE E T 0 (h0 454 35) = 1000000 → ∀ hh : AH, agR (d + 1) p h hh → (∀ s, 3 * d ≤ s → s < 3 * d + 3 → hh 464 s = h 464 s) → resM hh (rsE E r (h 454 35)) d j → resM hh (rsE E T (h0 454 35)) d 0)
theorem ivN_0 {E : EV} {T : TR} {k d : Int} {h : AH} (q : okN h T d (k + 1)) (m : MI h) : ivN E T k d h 0 h T (d + 1) := ⟨q.1, q.2.1, q.2.2.1, rfl, Int.le_refl _, by omega, by omega, by omega, q.2.2.2.2.2, m, rfl, Int.le_refl _, rfl, Int.le_refl _, fun _ _ _ _ => rfl, fun _ _ a => a, fun z => z, fun _ _ _ _ r => r⟩
theorem ivN_s {E : EV} {T s r : TR} {k d j p v : Int} {b : Nat} {h0 h h48 h' : AH} (hd : 0 ≤ d) (i : ivN E T k d h0 j h (.branch b s r) p) (lt : j < 3) (po : posN E s p h v h48) (m' : MI h') (k' : MK h' = min (MK h48) (miE E (inf T) j s)) (f' : ∀ a s, ¬ (a = 454 ∧ (s = 30 ∨ s = 31)) → h' a s = h48 a s) : ivN E T k d h0 (j + 1) h' r (p + sz s) := by
  obtain ⟨i1, i2, i3, i4, i5, i6, i7, i8, i9, i10, i11, i12, i13, i14, i15, i16, i18, i17⟩ := i
  obtain ⟨p1, p2, p3, p4, p5, p6, p7⟩ := po
  have z1 := sz_pos s
  have z2 := sz_pos r
  have se : sz (.branch b s r) = sz s + sz r := rfl
  have de : dpT (.branch b s r) = max (dpT s + 1) (dpT r) := rfl
  have he : hlT (.branch b s r) = hlT s + hlT r := rfl
  have ie : inf (.branch b s r) = inf r := rfl
  have fe : fkE E (.branch b s r) j (h 454 35) = min (fkE E s 0 (h 454 35)) (min (miE E (inf r) j s) (fkE E r (j + 1) (h 454 35 + hlT s))) := rfl
  have h0s := hlT_0 s
  rw [se] at i8
  rw [de] at i9
  rw [he] at i13
  obtain ⟨a1, a2, a3, a4⟩ := i1
  rw [if_pos lt] at a4
  have c35 : h' 454 35 = h 454 35 + hlT s := by rw [f' _ _ (by omega)]; exact p4
  have FF : ∀ a x, ¬ (a = 454 ∧ (x = 30 ∨ x = 31 ∨ x = 35)) → ¬ ((a = 461 ∨ a = 462 ∨ a = 463) ∧ p ≤ x ∧ x < p + sz s) → h' a x = h a x := fun a x y1 y2 => by rw [f' a x (by omega)]; exact p7 a x y1 y2
  have ir : inf r = inf T := by rw [← ie]; exact i4
  refine ⟨?_, i2.2.2, i3.2.2.2, ir, by omega, by omega, by omega, by omega, by omega, m', ?_, by omega, by omega, by omega, fun a x y1 y2 => ?_, fun hh g a => ?_, fun big => ?_, fun big hh g g4 rr => ?_⟩
  · have g : rawM h' r d (j + 1) (p + sz s) (-1) := by
      have dcell : ∀ a, a ≠ 454 → h' a d = h a d := fun a y => FF a d (by omega) (by omega)
      have key : ∀ {r : TR} {j p' pv : Int}, p + sz s ≤ p' → rawM h r d j p' pv → rawM h' r d j p' pv := by
        intro r
        induction r with
        | leaf i =>
          intro j p' pv _ q
          refine ⟨?_, by rw [dcell 465 (by decide)]; exact q.2.1, by rw [dcell 466 (by decide)]; exact q.2.2⟩
          have n := q.1
          unfold ndM at *
          rw [dcell 460 (by decide), dcell 461 (by decide), dcell 462 (by decide), dcell 468 (by decide), dcell 470 (by decide)]
          exact n
        | branch b2 s2 r2 _ ih2 =>
          intro j p' pv le q
          have y1 := sz_pos s2
          refine ⟨fun j3 => by rw [FF _ _ (by omega) (by omega)]; exact q.1 j3, ?_, fun j3 => by rw [FF _ _ (by omega) (by omega)]; exact q.2.2.1 j3, ih2 (by omega) q.2.2.2⟩
          exact rawM_ag (lo := p') (hi := p' + sz s2) ⟨fun a x _ _ _ _ x0 x1 => FF _ _ (by omega) (by omega), fun x _ _ => FF _ _ (by omega) (by omega), fun x _ _ => FF _ _ (by omega) (by omega)⟩ (Int.le_refl _) (Int.le_refl _) (by omega) (by omega) (by omega) q.2.1
      exact key (Int.le_refl _) a4
    exact g
  · rw [← i11, fe, k', p3, c35, ir]; omega
  · rw [FF a x y1 (by omega)]
    exact i15 a x y1 (by omega)
  · refine i16 hh (fun x x0 x1 => by rw [g x x0 (by omega), FF _ _ (by omega) (by omega)]) ⟨?_, a⟩
    refine actT_ag (h := h48) (lo := p) (hi := p + sz s) (fun x x0 x1 => by rw [g x (by omega) x1, f' _ _ (by omega)]) (Int.le_refl _) (by omega) (by omega) (by omega) p5
  · have l1 := fkE_lo (E := E) i2.2.2 i3.2.2.2 (j + 1) (h 454 35 + hlT s)
    have l2 := i18 big
    rw [fe] at l2
    rw [c35]
    omega
  · have b1 : fkE E s 0 (h 454 35) = 1000000 := by
      have l1 := fkE_lo (E := E) i2.2.1 i3.2.2.1 0 (h 454 35)
      have l2 := i18 big
      rw [fe] at l2
      omega
    refine i17 big hh ⟨fun a x x0 x1 x2 x3 x4 => by rw [g.1 a x x0 x1 x2 x3 (by omega), FF _ _ (by omega) (by omega)], fun x x0 x1 => by rw [g.2 x x0 (by omega), FF _ _ (by omega) (by omega)]⟩ (fun x x0 x1 => by rw [g4 x x0 x1, FF _ _ (by omega) (by omega)]) ?_
    have e1 : rsE E (.branch b s r) (h 454 35) = .branch b (rsE E s (h 454 35)) (rsE E r (h 454 35 + hlT s)) := rfl
    rw [e1]
    have e2 : hh 464 (3 * d + j) = p := by rw [g4 _ (by omega) (by omega), FF _ _ (by omega) (by omega)]; exact a1 lt
    rw [c35] at rr
    refine ⟨lt, ?_, rr⟩
    rw [e2]
    have rS : rawS h48 s p 0 (p + 1) (-1) := rawS_fr (h := h) (fun x => p7 _ _ (by omega) (by omega)) (fun x => p7 _ _ (by omega) (by omega)) (fun x => p7 _ _ (by omega) (by omega)) (fun x => p7 _ _ (by omega) (by omega)) (fun x => p7 _ _ (by omega) (by omega)) (rawM_S a2)
    exact resM_ag (h := h48) (lo := p) (hi := p + sz s) ⟨fun a x x0 x1 x2 x3 x4 => by rw [g.1 a x x0 x1 x2 (by omega) x4, f' _ _ (by omega)], fun x x0 x1 => by rw [g.2 x (by omega) x1, f' _ _ (by omega)]⟩ (Int.le_refl _) (Int.le_refl _) (by omega) (by omega) (by omega) rS (p6 b1)
theorem miE_k {E : EV} {i : NI} {j K pl : Int} {s : TR} (h2 : i.1 = 2) (r : eRs E i.2.2.1 ≠ -1) (lt : j < eO E (eRs E i.2.2.1)) (hK : K = eK E (eRs E i.2.2.1) j) (rK : 0 ≤ K ∧ K ≤ 2) (rs : -1 ≤ kdE E s ∧ kdE E s ≤ 2) (hp : (inf s).2.2.2 = pl) : (if kch K ≠ 32 ∧ kch (kdE E s) ≠ 32 ∧ kch (kdE E s) ≠ kch K then pl * 8 + 3 else 1000000) = miE E i j s := by
  subst hK hp
  have a := kch_32 (a := eK E (eRs E i.2.2.1) j) (by omega)
  have b := kch_32 rs
  have c := kch_inj rs (b := eK E (eRs E i.2.2.1) j) (by omega)
  unfold miE misK
  by_cases g : kdE E s ≠ -1 ∧ kdE E s ≠ eK E (eRs E i.2.2.1) j
  · rw [if_pos ⟨fun z => by have := a.mp z; omega, fun z => g.1 (b.mp z), fun z => g.2 (c.mp z)⟩, if_pos ⟨h2, r, lt, g⟩]
  · rw [if_neg (fun z => g ⟨fun y => z.2.1 (b.mpr y), fun y => z.2.2 (c.mpr y)⟩), if_neg (fun z => g z.2.2.2)]
theorem miE_z {E : EV} {i : NI} {j : Int} {s : TR} (h : eRs E i.2.2.1 = -1 ∨ eO E (eRs E i.2.2.1) ≤ j) : miE E i j s = 1000000 := by
  unfold miE misK
  exact if_neg (fun z => by have h1 := z.2.1; have h2 := z.2.2.1; omega)
theorem rawM_n {h : AH} : ∀ {r : TR} {d j p pv : Int}, rawM h r d j p pv → ndM h d (inf r)
  | .leaf i, d, j, p, pv, q => q.1
  | .branch b s r, d, j, p, pv, q => rawM_n (r := r) q.2.2.2

