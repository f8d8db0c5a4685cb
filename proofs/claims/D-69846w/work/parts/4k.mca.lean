/-! m: what the names of a call are -/
theorem exL_in {E : EV} {d : Int} : ∀ {r : TR} {p : Int} {y : Int × TR}, d < p → y ∈ exL r p → d < y.1
  | .leaf i, p, y, _, h => absurd h (List.not_mem_nil)
  | .branch b s r, p, y, lt, h => by
    have z := sz_pos s
    rcases List.mem_cons.mp h with m | m
    · subst m; exact lt
    · exact exL_in (E := E) (r := r) (by omega) m
theorem exL_pl {pl : Int} : ∀ {r : TR} {p : Int} {y : Int × TR}, wpT r → (inf r).2.2.2 = pl → y ∈ exL r p → pl < (inf y.2).2.2.2
  | .leaf i, p, y, _, _, h => absurd h (List.not_mem_nil)
  | .branch b s r, p, y, w, e, h => by
    rcases List.mem_cons.mp h with m | m
    · subst m; have := w.2.1; have e' : (inf r).2.2.2 = pl := e; show pl < (inf s).2.2.2; omega
    · exact exL_pl (r := r) w.2.2.2 e m
theorem hsL_ex : ∀ (r : TR) (p : Int), (inf r).1 ≠ 3 → hlT r = hsL (exL r p)
  | .leaf i, p, h => if_neg h
  | .branch b s r, p, h => by
    have := hsL_ex r (p + sz s) h
    show hlT s + hlT r = hlT s + hsL (exL r (p + sz s))
    omega
theorem actT_ex {h : AH} {E : EV} {d : Int} : ∀ {r : TR} {p : Int}, (∀ y, y ∈ exL r p → actT h E y.2 y.1 (y.1 + 1)) → ((inf r).1 = 2 → h 463 d = (if eRs E (inf r).2.2.1 = -2 then -1 else eRs E (inf r).2.2.1)) → actT h E r d p
  | .leaf i, p, _, a => a
  | .branch b s r, p, f, a => ⟨f (p, s) List.mem_cons_self, actT_ex (r := r) (fun y hy => f y (List.mem_cons_of_mem _ hy)) a⟩
theorem lf_inf {r : TR} (n : nk r = 0) : ∃ i, r = .leaf i := by
  cases r with
  | leaf i => exact ⟨i, rfl⟩
  | branch b s r => have := nk_0 r; have e : nk (.branch b s r) = nk r + 1 := rfl; omega
/-- behind the first three operands and those that are too many: what stands of the faults -/
theorem keyN {E : EV} {r : TR} {j hc M K : Int} {i : NI} (g : gT r) (w : wpT r) (ir : inf r = i) (h2 : i.1 = 2) (hM : M ≤ 1000000) (fu : eRs E i.2.2.1 = -1 → M ≤ 8 * i.2.2.2 + 2) (fn : eRs E i.2.2.1 ≠ -1 → j + nk r ≠ eO E (eRs E i.2.2.1) → M ≤ 8 * i.2.2.2 + 4) (ex : nk r = 0 ∨ j = 3) (o3 : eRs E i.2.2.1 ≠ -1 → eO E (eRs E i.2.2.1) ≤ 3) (e : min M (fkE E r j hc) = K) : M = K := by
  have key : ∀ {r : TR} {j hc : Int}, gT r → wpT r → inf r = i → min (8 * (i.2.2.2 + 1)) (fiE E i (j + nk r) 0) ≤ fkE E r j hc := by
    intro r
    induction r with
    | leaf i' =>
      intro j hc _ _ e'
      have e2 : i' = i := e'
      subst e2
      show min _ (fiE E i' (j + 0) 0) ≤ fiE E i' j hc
      rw [show j + 0 = j by omega]
      have e3 : fiE E i' j hc = fiE E i' j 0 := by
        unfold fiE fkI; rw [if_neg (show ¬ i'.1 = 1 by omega), if_pos h2, if_neg (show ¬ i'.1 = 1 by omega), if_pos h2]
      rw [e3]; omega
    | branch b s r2 _ ih =>
      intro j hc g w e'
      have e2 : inf r2 = i := e'
      have a := fkE_lo (E := E) g.2.1 w.2.2.1 0 hc
      have m := miE_r (E := E) (i := inf r2) (j := j) (k := s)
      have p : (inf r2).2.2.2 < (inf s).2.2.2 := w.2.1
      rw [e2] at p
      have c := ih (j := j + 1) (hc := hc + hlT s) g.2.2 w.2.2.2 e2
      have f : fkE E (.branch b s r2) j hc = min (fkE E s 0 hc) (min (miE E (inf r2) j s) (fkE E r2 (j + 1) (hc + hlT s))) := rfl
      have n : nk (.branch b s r2) = nk r2 + 1 := rfl
      have o := (gT_i g.2.2)
      rw [e2] at o
      have fl := fiE_lo (E := E) o (j + (nk r2 + 1)) 0
      rw [show j + 1 + nk r2 = j + (nk r2 + 1) by omega] at c
      rw [f, n]
      have o1 := o.2.1
      omega
  have k := key g w ir (j := j) (hc := hc)
  have v : fiE E i (j + nk r) 0 = if eRs E i.2.2.1 = -1 then i.2.2.2 * 8 + 2 else if j + nk r ≠ eO E (eRs E i.2.2.1) then i.2.2.2 * 8 + 4 else 1000000 := by
    unfold fiE fkI; rw [if_neg (show ¬ i.1 = 1 by omega), if_pos h2]
  rw [v] at k
  by_cases a : eRs E i.2.2.1 = -1
  · rw [if_pos a] at k; have := fu a; omega
  · rw [if_neg a] at k
    by_cases b : j + nk r ≠ eO E (eRs E i.2.2.1)
    · rw [if_pos b] at k; have := fn a b; omega
    · rw [if_neg b] at k
      have n0 := nk_0 r
      have := o3 a
      -- no operands are left
      have nz : nk r = 0 := by omega
      obtain ⟨i', rfl⟩ := lf_inf nz
      have e2 : i' = i := ir
      subst e2
      have e3 : fkE E (.leaf i') j hc = fiE E i' (j + nk (.leaf i')) 0 := by
        show fiE E i' j hc = fiE E i' (j + 0) 0
        rw [show j + 0 = j by omega]
        unfold fiE fkI; rw [if_neg (show ¬ i'.1 = 1 by omega), if_pos h2, if_neg (show ¬ i'.1 = 1 by omega), if_pos h2]
      rw [e3, v, if_neg a, if_neg b] at e
      omega

