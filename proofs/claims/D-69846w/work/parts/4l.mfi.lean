/-! m: what a call is, after its operands -/
theorem ch_n {E : EV} {T r : TR} {k d j p : Int} {h0 h : AH} (hd : 0 ≤ d) (h8 : d + sz T ≤ 8800) (i : ivN E T k d h0 j h r p) (ex : nk r = 0 ∨ j = 3) : chM h k (h 466 d) (d + sz T) (exL r p).reverse := by
  obtain ⟨i1, i2, i3, i4, i5, i6, i7, i8, i9, _⟩ := i
  by_cases n : nk r = 0
  · obtain ⟨i', rfl⟩ := lf_inf n
    exact i1.2.2
  · have j3 : j = 3 := ex.resolve_left n
    have c := chM_ex (h := h) (k := k) (d := d) (r := r) (j := j) (p := p) (pv := -1) (L := []) (by omega) i1 i2 i3 (by omega) (by omega) i9 rfl
    rw [List.append_nil, i8] at c
    exact c
theorem fkE_le {E : EV} : ∀ {T : TR} {j hc : Int}, gT T → wpT T → (inf T).1 = 2 → fkE E T j hc ≤ fiE E (inf T) (j + nk T) 0
  | .leaf i, j, hc, _, _, h2 => by
    show fiE E i j hc ≤ fiE E i (j + 0) 0
    have h2' : i.1 = 2 := h2
    rw [show j + 0 = j by omega]
    unfold fiE fkI; rw [if_neg (show ¬ i.1 = 1 by omega), if_pos h2', if_neg (show ¬ i.1 = 1 by omega), if_pos h2']
    omega
  | .branch b s r, j, hc, g, w, h2 => by
    have ih := fkE_le (E := E) (T := r) (j := j + 1) (hc := hc + hlT s) g.2.2 w.2.2.2 h2
    have f : fkE E (.branch b s r) j hc = min (fkE E s 0 hc) (min (miE E (inf r) j s) (fkE E r (j + 1) (hc + hlT s))) := rfl
    have n : nk (.branch b s r) = nk r + 1 := rfl
    have e : inf (.branch b s r) = inf r := rfl
    rw [f, n, e, show j + (nk r + 1) = j + 1 + nk r by omega]
    omega
theorem rawM_63 {h h' : AH} (f : ∀ a s, a ≠ 463 → h' a s = h a s) : ∀ {t : TR} {d j p pv : Int}, rawM h t d j p pv → rawM h' t d j p pv
  | .leaf i, d, j, p, pv, q => by
    refine ⟨?_, by rw [f _ _ (by decide)]; exact q.2.1, by rw [f _ _ (by decide)]; exact q.2.2⟩
    have n := q.1
    unfold ndM at *
    rw [f 460 d (by decide), f 461 d (by decide), f 462 d (by decide), f 468 d (by decide), f 470 d (by decide)]
    exact n
  | .branch b s r, d, j, p, pv, q => ⟨by rw [f _ _ (by decide)]; exact q.1, rawM_63 f q.2.1, by rw [f _ _ (by decide)]; exact q.2.2.1, rawM_63 f q.2.2.2⟩
theorem okN_63 {h h' : AH} {T : TR} {d k : Int} (f : ∀ a s, a ≠ 463 → h' a s = h a s) (q : okN h T d k) : okN h' T d k := ⟨rawM_63 f q.1, q.2⟩
theorem okN_35 {h h' : AH} {T : TR} {d k : Int} (f : ∀ a s, 460 ≤ a → h' a s = h a s) (q : okN h T d k) : okN h' T d k :=
  ⟨rawM_ag (lo := d) (hi := d + sz T) ⟨fun a s x0 _ _ _ _ _ => f a s x0, fun s _ _ => f _ _ (by decide), fun s _ _ => f _ _ (by decide)⟩ (Int.le_refl _) (Int.le_refl _) (by have := sz_pos T; omega) (by omega) (by omega) q.1, q.2⟩
theorem mean_fin {E : EV} {T r : TR} {k d j p v : Int} {h hN hX h' : AH} (q : okN h T d (k + 1)) (i : ivN E T k d h j hN r p) (ex : nk r = 0 ∨ j = 3) (h2 : (inf T).1 = 2) (mh : MI h)
    (fu : eRs E (inf T).2.2.1 = -1 → MK h ≤ 8 * (inf T).2.2.2 + 2) (fn : eRs E (inf T).2.2.1 ≠ -1 → nk T ≠ eO E (eRs E (inf T).2.2.1) → MK h ≤ 8 * (inf T).2.2.2 + 4) (o3 : eRs E (inf T).2.2.1 ≠ -1 → eO E (eRs E (inf T).2.2.1) ≤ 3) (jn : j + nk r = nk T)
    (ac : h 463 d = (if eRs E (inf T).2.2.1 = -2 then -1 else eRs E (inf T).2.2.1))
    (X : MI hX ∧ MK hX = MK hN ∧ hX 454 35 = hN 454 35 + hsL (exL r p).reverse ∧ (∀ y, y ∈ (exL r p).reverse → actT hX E y.2 y.1 (y.1 + 1)) ∧ ∀ a s, ¬ (a = 454 ∧ (s = 30 ∨ s = 31 ∨ s = 35)) → ¬ ((a = 461 ∨ a = 462 ∨ a = 463) ∧ p - 1 < s ∧ s < d + sz T) → hX a s = hN a s)
    (hv : v = kch (kdE E T)) (e : h' = jst hX 461 d v) : posN E T d h v h' := by
  have N0 := i.1
  obtain ⟨i1, i2, i3, i4, i5, i6, i7, i8, i9, i10, i11, i12, i13, i14, i15, i16, i18, i17⟩ := i
  obtain ⟨x1, x2, x3, x4, x5⟩ := X
  have hd := q.2.2.2.1
  have h8 := q.2.2.2.2.1
  have zr := sz_pos r
  have fr : ∀ a s, a ≠ 461 ∨ s ≠ d → h' a s = hX a s := fun a s y => by rw [e]; exact jst_o (by omega)
  have M := keyN (E := E) (r := r) (j := j) (hc := hN 454 35) (M := MK hN) (K := min (MK h) (fkE E T 0 (h 454 35))) (i := inf T) i2 i3 i4 h2 (MK_r i10).2 (fun y => by have := fu y; omega) (fun y z => by have := fn y (by omega); omega) ex o3 i11
  have c463 : hX 463 d = h 463 d := by rw [x5 _ _ (by omega) (by omega), i15 _ _ (by omega) (by omega)]
  refine ⟨hv, MI_fr (fr _ _ (by omega)) (fr _ _ (by omega)) x1, ?_, ?_, ?_, fun big => ?_, fun a s y1 y2 => ?_⟩
  · rw [MK_fr (fr _ _ (by omega)) (fr _ _ (by omega)), x2]; exact M
  · have hr : hlT r = hsL (exL r p) := hsL_ex r p (by rw [i4]; omega)
    rw [fr _ _ (by omega), x3, hsL_rev]
    omega
  · refine i16 h' (fun s s0 s1 => by rw [fr _ _ (by omega), x5 _ _ (by omega) (by omega)]) ?_
    refine actT_ex (fun y hy => ?_) (fun _ => by rw [fr _ _ (by omega), c463, i4]; exact ac)
    have A := x4 y (List.mem_reverse.mpr hy)
    have zy := sz_pos y.2
    exact actT_ag (lo := y.1) (hi := y.1 + sz y.2) (fun s _ _ => fr _ _ (by omega)) (Int.le_refl _) (by omega) (by omega) (by omega) A
  · have b1 := i18 big
    -- no operands are left
    have kk := keyN (E := E) (r := r) (j := j) (hc := hN 454 35) (M := 1000000) (K := fkE E r j (hN 454 35)) (i := inf T) i2 i3 i4 h2 (Int.le_refl _)
    have fl := fkE_le (E := E) (T := r) (j := j) (hc := hN 454 35) i2 i3 (by rw [i4]; exact h2)
    rw [i4, b1] at fl
    have okT := gT_i i2
    rw [i4] at okT
    have pl := okT.2.1
    have fv : fiE E (inf T) (j + nk r) 0 = if eRs E (inf T).2.2.1 = -1 then (inf T).2.2.2 * 8 + 2 else if j + nk r ≠ eO E (eRs E (inf T).2.2.1) then (inf T).2.2.2 * 8 + 4 else 1000000 := by
      unfold fiE fkI; rw [if_neg (show ¬ (inf T).1 = 1 by omega), if_pos h2]
    rw [fv] at fl
    have n1 : eRs E (inf T).2.2.1 ≠ -1 := fun y => by rw [if_pos y] at fl; omega
    rw [if_neg n1] at fl
    have n2 : j + nk r = eO E (eRs E (inf T).2.2.1) := Classical.byContradiction fun y => by rw [if_pos y] at fl; omega
    have n0 := nk_0 r
    have o4 := o3 n1
    have nz : nk r = 0 := by omega
    obtain ⟨ii, rfl⟩ := lf_inf nz
    have ei : ii = inf T := i4
    refine i17 big h' ⟨fun a s a0 a1 a2 s0 s1 => by rw [fr _ _ (by omega), x5 _ _ (by omega) (by omega)], fun s s0 s1 => by rw [fr _ _ (by omega), x5 _ _ (by omega) (by omega)]⟩ (fun s s0 s1 => by rw [fr _ _ (by omega), x5 _ _ (by omega) (by omega)]) ?_
    have g : ∀ a, a ≠ 454 → a ≠ 461 → a ≠ 462 → a ≠ 463 → h' a d = hN a d := fun a y1 y2 y3 y4 => by rw [fr _ _ (by omega), x5 _ _ (by omega) (by omega)]
    obtain ⟨r1, r2, r3⟩ := i1
    rw [ei] at r1
    show resM h' (.leaf (riE E ii (hN 454 35))) d j
    rw [ei]
    have k1 : (riE E (inf T) (hN 454 35)).2.2.1 = kdE E T := by
      show _ = kdI E.2.1.1 E.2.1.2.1 E.2.1.2.2 (eRs E) (eO E) (eK E) (inf T)
      unfold riE rsI
      rw [if_neg (show ¬ (inf T).1 = 0 by omega), if_neg (show ¬ (inf T).1 = 1 by omega), if_pos h2]
      by_cases y : eRs E (inf T).2.2.1 = -2
      · rw [if_pos y]
      · rw [if_neg y]
    have k2 : ((riE E (inf T) (hN 454 35)).1 = 4 ∧ eRs E (inf T).2.2.1 = -2) ∨ ((riE E (inf T) (hN 454 35)).1 = 2 ∧ (riE E (inf T) (hN 454 35)).2.1 = eRs E (inf T).2.2.1 ∧ eRs E (inf T).2.2.1 ≠ -2) := by
      unfold riE rsI
      rw [if_neg (show ¬ (inf T).1 = 0 by omega), if_neg (show ¬ (inf T).1 = 1 by omega), if_pos h2]
      by_cases y : eRs E (inf T).2.2.1 = -2
      · rw [if_pos y]; exact Or.inl ⟨rfl, y⟩
      · rw [if_neg y]
        refine Or.inr ⟨rfl, ?_, y⟩
        have := eRs_r (E := E) (inf T).2.2.1
        show max 0 (eRs E (inf T).2.2.1) = _
        omega
    have k463 : h' 463 d = (if eRs E (inf T).2.2.1 = -2 then -1 else eRs E (inf T).2.2.1) := by rw [fr _ _ (by omega), c463]; exact ac
    have k460 : h' 460 d = 2 := by rw [g _ (by omega) (by omega) (by omega) (by omega)]; exact (r1.2.2.1 h2).1
    have k461 : h' 461 d = v := by rw [e, jst_eq]
    refine ⟨hd, by have := sz_pos T; omega, by rw [g _ (by omega) (by omega) (by omega) (by omega)]; exact r2, by rw [g _ (by omega) (by omega) (by omega) (by omega)]; exact r3, by rw [k461, hv, k1], ?_, ?_, ?_, ?_, ?_, ?_, ?_⟩
    · intro y; rcases k2 with z | z <;> omega
    · intro y; rcases k2 with z | z <;> omega
    · intro y; rcases k2 with z | z
      · omega
      · exact ⟨k460, by rw [k463, z.2.1, if_neg z.2.2]⟩
    · intro y; rcases k2 with z | z
      · exact ⟨k460, by rw [k463, if_pos z.2]⟩
      · omega
    · intro y; rcases k2 with z | z <;> omega
    · rcases k2 with z | z <;> omega
    · rcases k2 with z | z <;> omega
  · have := sz_pos T
    rw [fr a s (by omega), x5 a s y1 (by omega)]
    exact i15 a s y1 (by omega)

