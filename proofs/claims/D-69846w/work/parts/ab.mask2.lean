/-! m: an ask is read: its rows and laws -/
theorem agR_s {lo hi lo' hi' : Int} {h h' : AH} (f : agR lo hi h h') (a : lo ≤ lo') (b : hi' ≤ hi) : agR lo' hi' h h' := ⟨fun x s x0 x1 x2 s0 s1 => f.1 x s x0 x1 x2 (by omega) (by omega), fun s s0 s1 => f.2 s (by omega) (by omega)⟩
theorem rwkM_f {B : Int → Int} {n a i : Int} {ks : List Int} {r : RWt} {h h' : AH} (x : rwkM B n a i ks r h) (l3 : ks.length ≤ 3) (f5 : ∀ s, 3 * i ≤ s → s < 3 * i + 3 → h' (a + 5) s = h (a + 5) s) (f6 : h' (a + 6) i = h (a + 6) i) : rwkM B n a i ks r h' :=
  ⟨f6.trans x.1, fun j jl q e => by rw [f5 _ (by omega) (by omega)]; exact x.2 j jl q e⟩
theorem lwkM_f {B : Int → Int} {n a i N N' la : Int} {E : EV} {ks : List Int} {r : LWt} {h h' : AH} (x : lwkM B n a N E ks la i r h) (NN : N' ≤ N) (f : ∀ b s, (((b = a + 7 ∨ b = a + 9 ∨ b = a + 10) ∧ s = i) ∨ (b = a + 8 ∧ 2 * i ≤ s ∧ s ≤ 2 * i + 1)) → h' b s = h b s) (t : h 454 17 ≤ h' 454 17) (g : agR N (h 454 17) h h') : lwkM B n a N' E ks la i r h' := by
  obtain ⟨⟨x1, x2⟩, x3, ⟨y1, y2, y3⟩, z1, z2, z3⟩ := x
  have e9 : h' (a + 9) i = h (a + 9) i := f _ _ (by omega)
  have e10 : h' (a + 10) i = h (a + 10) i := f _ _ (by omega)
  refine ⟨⟨(f _ _ (by omega)).trans x1, x2⟩, fun k k0 k1 => by rw [f _ _ (by omega)]; exact x3 k k0 k1, ⟨by omega, by omega, ?_⟩, ⟨by omega, by omega, ?_⟩⟩
  · rw [e9]; exact dnM_f y3 (agR_s g y1 y2)
  · rw [e10]; exact dnM_f z3 (agR_s g z1 z2)
def aiM (B : Int → Int) (n a D : Int) (E : EV) (Rf : Int → TR) (ks : List Int) (la : Int) (its : List ITt) (h : AH) : Prop := lmR B n a ks la (rwsO its).length (lwsO its).length E Rf h ∧ (h (a + 1) (-2) = 101 ∧ h (a + 1) (-1) = 3) ∧ (∀ i : Nat, i < 12 → ∀ r, (rwsO its)[i]? = some r → rwkM B n a i ks r h) ∧ (∀ i : Nat, i < 4 → ∀ r, (lwsO its)[i]? = some r → lwkM B n a D E ks la i r h)
theorem aiM_r {B : Int → Int} {n a D N la q q' t : Int} {E : EV} {Rf : Int → TR} {ks : List Int} {its : List ITt} {r : RWt} {K : RWt → Int} {h h' : AH} (x : aiM B n a D E Rf ks la its h) (dd : 0 ≤ D ∧ D ≤ 1100 ∧ D ≤ N ∧ N < D + 1100 ∧ h 454 17 = N ∧ (rwsO its).length ≤ 4000) (W : pRow B n q = .inr (r, q')) (o : rwG B n a la (rwsO its).length (if ((rwsO its).length : Int) < 12 then 1 else 0) N K ks (pRow B n q) t h') (f : frRr a (rwsO its).length N h h') : aiM B n a D E Rf ks la (its ++ [(q, .inl r)]) h' ∧ t = 0 ∧ MK h' = K r ∧ MS B n q' h' ∧ h' 454 17 = N := by
  obtain ⟨x1, x2, x3, x4⟩ := x
  rw [W] at o
  obtain ⟨o1, o2, o3, o4, o5, o6⟩ := o
  have LA : a = 476 ∨ a = 615 := x1.1.2.2.1
  have l3 := x1.1.2.2.2.1.2.2.1
  obtain ⟨e1, e2⟩ := rwsO_a (q := q) (r := r) its
  refine ⟨⟨?_, ?_, ?_, ?_⟩, o1, o4, o2, o6⟩
  · rw [e1, e2]
    have L : ((rwsO its ++ [r]).length : Int) = ((rwsO its).length : Int) + 1 := by rw [List.length_append]; rfl
    rw [L]
    refine lmR_f x1 (fun b s y => by (unfold lmC at y; exact f b s (by omega) (by omega) (by omega) (by omega) (by omega) (by omega))) o3.2.1 o3.2.2.2.2.2.1 ⟨(f _ _ (by omega) (by omega) (by omega) (by omega) (by omega) (by omega)).trans x1.2.1.1, x1.2.1.2⟩ o3.2.2.2.2.2.2
  · rw [f _ _ (by omega) (by omega) (by omega) (by omega) (by omega) (by omega), f _ _ (by omega) (by omega) (by omega) (by omega) (by omega) (by omega)]; exact x2
  · rw [e1]
    intro i i12 u eu
    rcases app_ixg eu with ⟨y1, y2⟩ | ⟨y1, y2⟩
    · exact rwkM_f (x3 i i12 u y2) l3 (fun s s0 s1 => f _ _ (by omega) (by omega) (by omega) (by omega) (by omega) (by omega)) (f _ _ (by omega) (by omega) (by omega) (by omega) (by omega) (by omega))
    · rw [y2, y1]
      exact o5 (if_pos (by omega))
  · rw [e2]
    intro i i4 u eu
    exact lwkM_f (x4 i i4 u eu) (Int.le_refl _) (fun b s y => f b s (by omega) (by omega) (by omega) (by omega) (by omega) (by omega)) (by omega) ⟨fun b s b0 b1 b2 s0 s1 => f b s (by omega) (by omega) (by omega) (by omega) (by omega) (by omega), fun s _ _ => f _ _ (by omega) (by omega) (by omega) (by omega) (by omega) (by omega)⟩
theorem aiM_l {B : Int → Int} {n a D N la q q' t : Int} {E : EV} {Rf : Int → TR} {ks : List Int} {its : List ITt} {r : LWt} {K : LWt → Int} {h h' : AH} (x : aiM B n a D E Rf ks la its h) (dd : 0 ≤ D ∧ D ≤ 1100 ∧ D ≤ N ∧ N < D + 1100 ∧ h 454 17 = N ∧ (lwsO its).length ≤ 4000) (W : pLaw B n q = .inr (r, q')) (o : lmG B n a ks la (rwsO its).length (lwsO its).length E Rf (if ((lwsO its).length : Int) < 4 then 1 else 0) N D K (pLaw B n q) t h') (f : frLW a (lwsO its).length N D h h') : aiM B n a D E Rf ks la (its ++ [(q, .inr r)]) h' ∧ t = 0 ∧ MK h' = K r ∧ MS B n q' h' ∧ N ≤ h' 454 17 ∧ 2 * (h' 454 17 - D) ≤ q' := by
  obtain ⟨x1, x2, x3, x4⟩ := x
  rw [W] at o
  obtain ⟨o1, o2, o3, o4, o5, o6, o7⟩ := o
  have LA : a = 476 ∨ a = 615 := x1.1.2.2.1
  have l3 := x1.1.2.2.2.1.2.2.1
  obtain ⟨e1, e2⟩ := lwsO_a (q := q) (r := r) its
  refine ⟨⟨?_, ?_, ?_, ?_⟩, o1, o4, o2, o6, o7⟩
  · rw [e1, e2]
    have L : ((lwsO its ++ [r]).length : Int) = ((lwsO its).length : Int) + 1 := by rw [List.length_append]; rfl
    rw [L]
    exact o3
  · rw [f _ _ (by omega) (by omega) (by omega) (by omega) (by omega) (by omega) (by omega) (by omega), f _ _ (by omega) (by omega) (by omega) (by omega) (by omega) (by omega) (by omega) (by omega)]; exact x2
  · rw [e1]
    intro i i12 u eu
    exact rwkM_f (x3 i i12 u eu) l3 (fun s s0 s1 => f _ _ (by omega) (by omega) (by omega) (by omega) (by omega) (by omega) (by omega) (by omega)) (f _ _ (by omega) (by omega) (by omega) (by omega) (by omega) (by omega) (by omega) (by omega))
  · rw [e2]
    intro i i4 u eu
    rcases app_ixg eu with ⟨y1, y2⟩ | ⟨y1, y2⟩
    · exact lwkM_f (x4 i i4 u y2) (Int.le_refl _) (fun b s y => f b s (by omega) (by omega) (by omega) (by omega) (by omega) (by omega) (by omega) (by omega)) (by omega) ⟨fun b s b0 b1 b2 s0 s1 => f b s (by omega) (by omega) (by omega) (by omega) (by omega) (by omega) (by omega) (by omega), fun s _ _ => f _ _ (by omega) (by omega) (by omega) (by omega) (by omega) (by omega) (by omega) (by omega)⟩
    · rw [y2, y1]
      exact lwkM_f (o5 (if_pos (by omega))) dd.2.2.1 (fun _ _ _ => rfl) (Int.le_refl _) ⟨fun _ _ _ _ _ _ _ => rfl, fun _ _ _ => rfl⟩
def frIm (a N D : Int) (h h' : AH) : Prop := ∀ b s, ¬ (b = 454 ∧ (s = 17 ∨ (26 ≤ s ∧ s ≤ 31) ∨ s = 34)) → ¬ (b = 472 ∧ (s = 6 ∨ s = 7)) → ¬ (460 ≤ b ∧ b ≤ 470 ∧ b ≠ 464 ∧ N ≤ s ∧ s < D + 1100) → ¬ (b = 464 ∧ 3 * N ≤ s ∧ s < 3 * D + 3300) → ¬ ((b = 474 ∨ b = 475) ∧ 0 ≤ s ∧ s < 3) → ¬ (b = a ∧ (s = 9 ∨ s = 12)) → ¬ (a + 5 ≤ b ∧ b ≤ a + 10 ∧ 0 ≤ s) → h' b s = h b s
theorem frIm_t {a N D : Int} {h h1 h2 : AH} (x : frIm a N D h h1) (y : frIm a N D h1 h2) : frIm a N D h h2 := fun b s y1 y2 y3 y4 y5 y6 y7 => (y b s y1 y2 y3 y4 y5 y6 y7).trans (x b s y1 y2 y3 y4 y5 y6 y7)
theorem frIm_r {a D N N' m : Int} {h h' : AH} (d : 0 ≤ m ∧ N ≤ N' ∧ N' < D + 1100) (f : frRr a m N' h h') : frIm a N D h h' := fun b s y1 y2 y3 y4 y5 y6 y7 => f b s (by omega) y2 (by omega) (by omega) (by omega) (by omega)
theorem frIm_l {a D N N' m : Int} {h h' : AH} (d : 0 ≤ m ∧ N ≤ N') (f : frLW a m N' D h h') : frIm a N D h h' := fun b s y1 y2 y3 y4 y5 y6 y7 => f b s (by omega) y2 (by omega) (by omega) y5 (by omega) (by omega) (by omega)
/-- in the middle of rows and laws -/
def itN (B : Int → Int) (n a D K : Int) (E : EV) (Rf : Int → TR) (ks : List Int) (la : Int) (WV : Int ⊕ List ITt) (its : List ITt) (q : Int) (h : AH) : Prop := aiM B n a D E Rf ks la its h ∧ MS B n q h ∧ (∃ k : Nat, WV = pIts B n k its q ∧ 2002 ≤ (k : Int) + q) ∧ MK h = min K (itK B n E ks la 0 0 its) ∧ (D ≤ h 454 17 ∧ 2 * (h 454 17 - D) ≤ q) ∧ ((rwsO its).length : Int) + ((lwsO its).length : Int) ≤ q ∧ (12 < (rwsO its).length → MK h ≤ tS B n q * 8 + 5) ∧ (4 < (lwsO its).length → MK h ≤ tS B n q * 8 + 5)
theorem rwK_le {B : Int → Int} {n la q i : Int} {ks : List Int} {r : RWt} (z : 12 ≤ i) : rwK B n ks la i q r ≤ tS B n q * 8 + 5 := by
  unfold rwK
  rw [if_pos z]
  omega
theorem lwK_le {B : Int → Int} {n la q i : Int} {E : EV} {ks : List Int} {r : LWt} (z : 4 ≤ i) : lwK B n E ks la i q r ≤ tS B n q * 8 + 5 := by
  unfold lwK
  rw [if_pos z]
  omega
theorem vX14_readAsk_l92 (i1 : Int) {h0 : AH} {B : Int → Int} {n D K q0 la N : Int} {E : EV} {Rf : Int → TR} {ks : List Int} {WV : Int ⊕ List ITt} (hB : ∀ i, 0 ≤ i → i < n → 0 ≤ B i ∧ B i < 256) (ni : itN B n i1 D K E Rf ks la WV [] q0 h0) (dd : 0 ≤ D ∧ D ≤ 1100 ∧ h0 454 17 = N) : OK (gX14_readAsk_l92 i1 h0) (Sum.elim (fun h' => (∃ q, WV = .inl (tS B n q) ∧ MS B n q h') ∧ (frIm i1 N D h0 h')) (Sum.elim (fun h' => (∃ its q, WV = .inr its ∧ aiM B n i1 D E Rf ks la its h' ∧ MS B n q h' ∧ MK h' = min K (itK B n E ks la 0 0 its) ∧ (D ≤ h' 454 17 ∧ 2 * (h' 454 17 - D) ≤ q) ∧ tO B n q = 0 ∧ (12 < (rwsO its).length → MK h' ≤ 20000) ∧ (4 < (lwsO its).length → MK h' ≤ 20000)) ∧ (N ≤ h' 454 17) ∧ (frIm i1 N D h0 h')) (fun r => jt2 r fun t h' => (∃ z, WV = .inl z ∧ t = 472 ∧ MF z h') ∧ (frIm i1 N D h0 h')))) := by
  unfold gX14_readAsk_l92
  refine OK_jit (I := (fun (h : AH) => (∃ its q, itN B n i1 D K E Rf ks la WV its q h) ∧ (N ≤ h 454 17) ∧ (frIm i1 N D h0 h))) (m := (fun (h : AH) => (3000 - (h i1 9 + h i1 12)).toNat)) ?_ ?_
  · intro h hs
    try dsimp only at hs
    obtain ⟨q1, tn, fr⟩ := hs
    unfold gX14_readAsk_b92
    obtain ⟨its, q, IT, M1, ⟨k, W1, k1⟩, K1, R1, L1, U1, U2⟩ := q1
    have LA : i1 = 476 ∨ i1 = 615 := IT.1.1.2.2.1
    have n2 := IT.1.1.1.2.2.1
    have qb := M1.2
    have N8 := IT.1.1.2.2.2.2.2.2
    obtain ⟨k', rfl⟩ : ∃ m : Nat, k = m + 1 := ⟨k - 1, by omega⟩
    have H27 : h 454 27 = tO B n q := M1.1.2.1
    have X9 : h i1 9 = ((rwsO its).length : Int) := IT.1.1.2.2.2.2.2.1.1
    have X12 : h i1 12 = ((lwsO its).length : Int) := IT.1.2.1.1
    have SQ := tS_r (B := B) qb.2.2
    refine OK_if (fun c1 => ?_) (fun c1 => ?_)
    · skip
      try simp (disch := omega) only [jst_eq, jst_ne, jst_ni, jI_i, jcmp_lt, jcmp_gt, w32_id, jcpy_out, Sum.elim_inl, Sum.elim_inr, jt2, jt3, jt4, jt5, jt6, jt7, jt8] at c1
      refine OK_ir ?_
      try dsimp only [Sum.elim_inl, Sum.elim_inr, jt2, jt3, jt4, jt5, jt6, jt7, jt8]
      refine ⟨?_, ?_, ?_⟩
      · exact ⟨its, q, W1.trans (pIts_0 (H27.symm.trans c1)), IT, M1, K1, R1, H27.symm.trans c1, fun z => by (have := U1 z; omega), fun z => by (have := U2 z; omega)⟩ -- o1 e1.1
      · exact tn -- o2 e1.2
      · exact fr -- o3 e1.3
    · skip
      try simp (disch := omega) only [jst_eq, jst_ne, jst_ni, jI_i, jcmp_lt, jcmp_gt, w32_id, jcpy_out, Sum.elim_inl, Sum.elim_inr, jt2, jt3, jt4, jt5, jt6, jt7, jt8] at c1
      have o0 : tO B n q ≠ 0 := fun z => c1 (H27.trans z)
      refine OK_jb (vX14_isName (B := B) (n := n) (q := q) _ (by exact M1)) (fun v98 r1 => ?_)
      try dsimp only [Sum.elim_inl, Sum.elim_inr, jt2, jt3, jt4, jt5, jt6, jt7, jt8] at r1
      have v1 := r1
      clear r1
      try simp (disch := omega) only [jst_eq, jst_ne, jst_ni, jI_i, jcmp_lt, jcmp_gt, w32_id, jcpy_out, Sum.elim_inl, Sum.elim_inr, jt2, jt3, jt4, jt5, jt6, jt7, jt8] at v1
      refine OK_if (fun c2 => ?_) (fun c2 => ?_)
      · skip
        try simp (disch := omega) only [jst_eq, jst_ne, jst_ni, jI_i, jcmp_lt, jcmp_gt, w32_id, jcpy_out, Sum.elim_inl, Sum.elim_inr, jt2, jt3, jt4, jt5, jt6, jt7, jt8] at c2
        have g1 : ¬ isN B n q 13550 := fun z => by { rw [if_pos z] at v1; omega }
        refine OK_jb (vX14_isName (B := B) (n := n) (q := q) _ (by exact M1)) (fun v101 r2 => ?_)
        try dsimp only [Sum.elim_inl, Sum.elim_inr, jt2, jt3, jt4, jt5, jt6, jt7, jt8] at r2
        have v2 := r2
        clear r2
        try simp (disch := omega) only [jst_eq, jst_ne, jst_ni, jI_i, jcmp_lt, jcmp_gt, w32_id, jcpy_out, Sum.elim_inl, Sum.elim_inr, jt2, jt3, jt4, jt5, jt6, jt7, jt8] at v2
        refine OK_if (fun c3 => ?_) (fun c3 => ?_)
        · skip
          try simp (disch := omega) only [jst_eq, jst_ne, jst_ni, jI_i, jcmp_lt, jcmp_gt, w32_id, jcpy_out, Sum.elim_inl, Sum.elim_inr, jt2, jt3, jt4, jt5, jt6, jt7, jt8] at c3
          have g2 : ¬ isN B n q 8798 := fun z => by { rw [if_pos z] at v2; omega }
          refine OK_ir ?_
          try dsimp only [Sum.elim_inl, Sum.elim_inr, jt2, jt3, jt4, jt5, jt6, jt7, jt8]
          refine ⟨?_, ?_⟩
          · exact ⟨q, W1.trans (pIts_n o0 g1 g2), M1⟩ -- o6 e2.1
          · exact fr -- o7 e2.2
        · skip
          try simp (disch := omega) only [jst_eq, jst_ne, jst_ni, jI_i, jcmp_lt, jcmp_gt, w32_id, jcpy_out, Sum.elim_inl, Sum.elim_inr, jt2, jt3, jt4, jt5, jt6, jt7, jt8] at c3
          have g2 : isN B n q 8798 := Classical.byContradiction fun z => by { rw [if_neg z] at v2; omega }
          have WL := pIts_l (k := k') (l := its) o0 g1 g2
          refine OK_jb2 (vX14_law (B := B) (n := n) (q := q) (la := la) (i := ((rwsO its).length : Int)) (m := ((lwsO its).length : Int)) (N := h 454 17) (D := D) (ks := ks) (E := E) (Rf := Rf) _ (by exact hB) (by exact IT.1) (by exact M1) (by exact ⟨rfl, dd.1, dd.2.1, R1.1, R1.2, by omega, o0⟩) (by exact IT.2.1) (by exact fun z => U2 (by omega))) (fun t104 h106 r3 => ?_)
          try dsimp only [Sum.elim_inl, Sum.elim_inr, jt2, jt3, jt4, jt5, jt6, jt7, jt8] at r3
          obtain ⟨ok3, fr3⟩ := r3
          try simp (disch := omega) only [jst_eq, jst_ne, jst_ni, jI_i, jcmp_lt, jcmp_gt, w32_id, jcpy_out, Sum.elim_inl, Sum.elim_inr, jt2, jt3, jt4, jt5, jt6, jt7, jt8] at ok3
          try simp (disch := omega) only [jst_eq, jst_ne, jst_ni, jI_i, jcmp_lt, jcmp_gt, w32_id, jcpy_out, Sum.elim_inl, Sum.elim_inr, jt2, jt3, jt4, jt5, jt6, jt7, jt8] at fr3
          refine OK_jq (fun c4 => ?_) (fun c4 => ?_)
          · skip
            refine OK_ir ?_
            try dsimp only [Sum.elim_inl, Sum.elim_inr, jt2, jt3, jt4, jt5, jt6, jt7, jt8]
            refine ⟨?_, ?_⟩
            · (cases e : pLaw B n q with | inl z => (rw [e] at ok3; exact ⟨z, W1.trans (WL.trans (by rw [e]; rfl)), ok3⟩) | inr x => (obtain ⟨p, q1⟩ := x; rw [e] at ok3; exact absurd ok3.1 c4)) -- o14 e3.1
            · exact frIm_t fr (frIm_l ⟨by omega, tn⟩ fr3) -- o15 e3.2
          · skip
            obtain ⟨r, q1, e1⟩ : ∃ p q1, pLaw B n q = .inr (p, q1) := by { cases e : pLaw B n q with | inl z => (rw [e] at ok3; have := ok3.1; omega) | inr x => exact ⟨x.1, x.2, rfl⟩ }
            obtain ⟨IT2, _, mk2, ms2, t2, t3⟩ := aiM_l IT ⟨dd.1, dd.2.1, R1.1, by omega, rfl, by omega⟩ e1 ok3 fr3
            have PL := pLaw_le hB qb.2.1 qb.2.2 qb.1 o0 e1
            have TE := tE_r hB qb.2.1 qb.2.2 qb.1
            have SQ2 := tS_r (B := B) PL.2.1
            have TE3 := TE.2.2.2 o0
            obtain ⟨ea, eb⟩ := lwsO_a (q := q) (r := r) its
            have LB : (lwsO its ++ [r]).length = (lwsO its).length + 1 := by { rw [List.length_append]; rfl }
            have K2 : MK h106 = min K (itK B n E ks la 0 0 (its ++ [(q, .inr r)])) := by { rw [itK_l, Int.zero_add]; omega }
            have K3 : MK h106 ≤ MK h ∧ (4 ≤ (lwsO its).length → MK h106 ≤ tS B n q * 8 + 5) := ⟨by (omega), fun z => by (have := lwK_le (B := B) (n := n) (la := la) (q := q) (E := E) (ks := ks) (r := r) (i := ((lwsO its).length : Int)) (by omega); omega)⟩
            have Y9 : h106 i1 9 = ((rwsO its).length : Int) := by { have z := IT2.1.1.2.2.2.2.2.1.1; rw [ea] at z; exact z }
            have Y12 : h106 i1 12 = ((lwsO its).length : Int) + 1 := by { have z := IT2.1.2.1.1; rw [eb, LB] at z; exact z }
            refine OK_il ?_ ?_
            · try dsimp only [Sum.elim_inl, Sum.elim_inr, jt2, jt3, jt4, jt5, jt6, jt7, jt8]
              refine ⟨?_, ?_, ?_⟩
              · exact ⟨_, q1, IT2, ms2, ⟨k', W1.trans (WL.trans (by rw [e1]; rfl)), by omega⟩, K2, ⟨by omega, t3⟩, by rw [ea, eb, LB]; omega, fun z => by (rw [ea] at z; have := U1 z; omega), fun z => by (rw [eb, LB] at z; have := K3.2 (by omega); omega)⟩ -- o16 e4i.1
              · omega -- o17 e4i.2
              · exact frIm_t fr (frIm_l ⟨by omega, tn⟩ fr3) -- o18 e4i.3
            · (rw [Y9, Y12, X9, X12]; omega) -- o19 e4m
      · skip
        try simp (disch := omega) only [jst_eq, jst_ne, jst_ni, jI_i, jcmp_lt, jcmp_gt, w32_id, jcpy_out, Sum.elim_inl, Sum.elim_inr, jt2, jt3, jt4, jt5, jt6, jt7, jt8] at c2
        have g1 : isN B n q 13550 := Classical.byContradiction fun z => by { rw [if_neg z] at v1; omega }
        have WL := pIts_r (k := k') (l := its) o0 g1
        refine OK_jb2 (vX14_row (B := B) (n := n) (q := q) (la := la) (m := ((rwsO its).length : Int)) (N := h 454 17) (ks := ks) _ (by exact hB) (by exact IT.1.1) (by exact M1) (by exact ⟨rfl, by omega, fun z => U1 (by omega)⟩)) (fun t109 h111 r4 => ?_)
        try dsimp only [Sum.elim_inl, Sum.elim_inr, jt2, jt3, jt4, jt5, jt6, jt7, jt8] at r4
        obtain ⟨ok4, fr4⟩ := r4
        try simp (disch := omega) only [jst_eq, jst_ne, jst_ni, jI_i, jcmp_lt, jcmp_gt, w32_id, jcpy_out, Sum.elim_inl, Sum.elim_inr, jt2, jt3, jt4, jt5, jt6, jt7, jt8] at ok4
        try simp (disch := omega) only [jst_eq, jst_ne, jst_ni, jI_i, jcmp_lt, jcmp_gt, w32_id, jcpy_out, Sum.elim_inl, Sum.elim_inr, jt2, jt3, jt4, jt5, jt6, jt7, jt8] at fr4
        refine OK_jq (fun c5 => ?_) (fun c5 => ?_)
        · skip
          refine OK_ir ?_
          try dsimp only [Sum.elim_inl, Sum.elim_inr, jt2, jt3, jt4, jt5, jt6, jt7, jt8]
          refine ⟨?_, ?_⟩
          · (cases e : pRow B n q with | inl z => (rw [e] at ok4; exact ⟨z, W1.trans (WL.trans (by rw [e]; rfl)), ok4⟩) | inr x => (obtain ⟨p, q1⟩ := x; rw [e] at ok4; exact absurd ok4.1 c5)) -- o24 e5.1
          · exact frIm_t fr (frIm_r ⟨by omega, tn, by omega⟩ fr4) -- o25 e5.2
        · skip
          obtain ⟨r, q1, e1⟩ : ∃ p q1, pRow B n q = .inr (p, q1) := by { cases e : pRow B n q with | inl z => (rw [e] at ok4; have := ok4.1; omega) | inr x => exact ⟨x.1, x.2, rfl⟩ }
          obtain ⟨IT2, _, mk2, ms2, t2⟩ := aiM_r IT ⟨dd.1, dd.2.1, R1.1, by omega, rfl, by omega⟩ e1 ok4 fr4
          have PL := pRow_le hB qb.2.1 qb.2.2 qb.1 o0 e1
          have TE := tE_r hB qb.2.1 qb.2.2 qb.1
          have SQ2 := tS_r (B := B) PL.2.1
          have TE3 := TE.2.2.2 o0
          obtain ⟨ea, eb⟩ := rwsO_a (q := q) (r := r) its
          have LB : (rwsO its ++ [r]).length = (rwsO its).length + 1 := by { rw [List.length_append]; rfl }
          have K2 : MK h111 = min K (itK B n E ks la 0 0 (its ++ [(q, .inl r)])) := by { rw [itK_r, Int.zero_add]; omega }
          have K3 : MK h111 ≤ MK h ∧ (12 ≤ (rwsO its).length → MK h111 ≤ tS B n q * 8 + 5) := ⟨by (omega), fun z => by (have := rwK_le (B := B) (n := n) (la := la) (q := q) (ks := ks) (r := r) (i := ((rwsO its).length : Int)) (by omega); omega)⟩
          have Y9 : h111 i1 9 = ((rwsO its).length : Int) + 1 := by { have z := IT2.1.1.2.2.2.2.2.1.1; rw [ea, LB] at z; exact z }
          have Y12 : h111 i1 12 = ((lwsO its).length : Int) := by { have z := IT2.1.2.1.1; rw [eb] at z; exact z }
          refine OK_il ?_ ?_
          · try dsimp only [Sum.elim_inl, Sum.elim_inr, jt2, jt3, jt4, jt5, jt6, jt7, jt8]
            refine ⟨?_, ?_, ?_⟩
            · exact ⟨_, q1, IT2, ms2, ⟨k', W1.trans (WL.trans (by rw [e1]; rfl)), by omega⟩, K2, ⟨by omega, by omega⟩, by rw [ea, eb, LB]; omega, fun z => by (rw [ea, LB] at z; have := K3.2 (by omega); omega), fun z => by (rw [eb] at z; have := U2 z; omega)⟩ -- o26 e6i.1
            · omega -- o27 e6i.2
            · exact frIm_t fr (frIm_r ⟨by omega, tn, by omega⟩ fr4) -- o28 e6i.3
          · (rw [Y9, Y12, X9, X12]; omega) -- o29 e6m
  · try dsimp only [Sum.elim_inl, Sum.elim_inr, jt2, jt3, jt4, jt5, jt6, jt7, jt8]
    refine ⟨?_, ?_, ?_⟩
    · exact ⟨_, _, ni⟩ -- o30 init.1
    · omega -- o31 init.2
    · exact fun _ _ _ _ _ _ _ _ _ => rfl -- o32 init.3

