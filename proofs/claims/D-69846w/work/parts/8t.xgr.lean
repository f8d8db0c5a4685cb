/-! x: a run's middle -/
/-- marks of a run's states -/
def mkX (h h0 : AH) (W : Int → Int → Int → VW) (L : LE) (i : Int) (j : Nat) : Prop := (∀ r, r < j → h 404 (nuS L (trS W L i r) L.2.1.1.toNat) = i + 1) ∧ (∀ p, 0 ≤ p → p < 4096 → h 404 p = i + 1 → ∃ r, r < j ∧ nuS L (trS W L i r) L.2.1.1.toNat = p) ∧ ∀ p, h 404 p = i + 1 ∨ h 404 p = h0 404 p
/-- what is kept of meetings -/
def mdX (h h0 : AH) (W : Int → Int → Int → VW) (L : LE) (H : List (Int → Int)) (T : TR) (i k : Int) (j : Nat) : Prop := (k = 0 ∧ snX h L (mtL W L i j ++ H)) ∨ (k = 324 ∧ NF W L T i j (h 200 48) ∧ ∀ a s, (a = 405 ∨ (a = h0 200 39 ∧ s = 10) ∨ a = h0 200 39 + 11 ∨ a = h0 200 39 + 12) → h a s = h0 a s)
theorem mtL_len (W : Int → Int → Int → VW) (L : LE) (i : Int) : ∀ j : Nat, (mtL W L i j).length = j
  | 0 => rfl
  | j + 1 => by show (mtL W L i j).length + 1 = _; rw [mtL_len W L i j]
theorem NF_s {W : Int → Int → Int → VW} {L : LE} {T : TR} {i ff ff' : Int} {j : Nat} (n : NF W L T i j ff) (c : (ff = -1 ∧ evL W T (trS W L i j) = 1 ∧ ff' = -1) ∨ (ff = -1 ∧ evL W T (trS W L i j) ≠ 1 ∧ ff' = j) ∨ (ff ≠ -1 ∧ ff' = ff)) : NF W L T i ((j + 1 : Nat) : Int) ff' := by
  rcases n with n | n
  · rcases c with c | c | c
    · left
      refine ⟨c.2.2, fun q l => ?_⟩
      by_cases y : q = j
      · rw [y]; exact c.2.1
      · exact n.2 q (by omega)
    · right
      rw [c.2.2]
      exact ⟨by omega, by omega, by rw [show ((j : Int)).toNat = j by omega]; exact c.2.1, fun q l => n.2 q l⟩
    · exact absurd n.1 c.1
  · rcases c with c | c | c
    · omega
    · omega
    · right
      rw [c.2]
      exact ⟨n.1, by omega, n.2.2.1, n.2.2.2⟩
/-- how far a run is -/
def liX (h h0 : AH) (W : Int → Int → Int → VW) (L : LE) (H : List (Int → Int)) (T : TR) (i k a5 : Int) : Prop := (∃ j : Nat, psI W L i j ∧ h 200 46 = j ∧ mkX h h0 W L i j ∧ mdX h h0 W L H T i k j ∧ ((a5 = 1 ∧ gdS L (trS W L i j) ∧ ∀ k, 0 ≤ k → k < L.2.1.1 → h 406 k = trS W L i j k) ∨ (a5 = 0 ∧ ¬ gdS L (trS W L i j)))) ∨ ∃ j : Nat, psI W L i j ∧ gdS L (trS W L i j) ∧ (∀ r, r < j → trS W L i r ≠ trS W L i j) ∧ cdS W L (trS W L i j) = -1 ∧ h 200 46 = j + 1 ∧ mkX h h0 W L i (j + 1) ∧ mdX h h0 W L H T i k (j + 1) ∧ a5 = 0
theorem mkX_f {h h' h0 : AH} {W : Int → Int → Int → VW} {L : LE} {i : Int} {j : Nat} (c : mkX h h0 W L i j) (g : ∀ s, h' 404 s = h 404 s) : mkX h' h0 W L i j := by
  unfold mkX
  rw [show h' 404 = h 404 from funext g]
  exact c
theorem mkX_s {h h0 : AH} {W : Int → Int → Int → VW} {L : LE} {i : Int} {j : Nat} (c : mkX h h0 W L i j) : mkX (jst h 404 (nuS L (trS W L i j) L.2.1.1.toNat) (i + 1)) h0 W L i (j + 1) := by
  obtain ⟨m1, m2, m3⟩ := c
  refine ⟨fun r l => ?_, fun p p0 p1 pe => ?_, fun p => ?_⟩
  · rw [jst_at]
    by_cases y : nuS L (trS W L i r) L.2.1.1.toNat = nuS L (trS W L i j) L.2.1.1.toNat
    · rw [if_pos y]
    · rw [if_neg y]
      by_cases z : r = j
      · rw [z] at y; exact absurd rfl y
      · exact m1 r (by omega)
  · rw [jst_at] at pe
    by_cases y : p = nuS L (trS W L i j) L.2.1.1.toNat
    · exact ⟨j, by omega, y.symm⟩
    · rw [if_neg y] at pe
      obtain ⟨r, r1, r2⟩ := m2 p p0 p1 pe
      exact ⟨r, by omega, r2⟩
  · rw [jst_at]
    by_cases y : p = nuS L (trS W L i j) L.2.1.1.toNat
    · rw [if_pos y]; exact Or.inl rfl
    · rw [if_neg y]; exact m3 p
theorem mdX_f {h h' h0 : AH} {W : Int → Int → Int → VW} {L : LE} {H : List (Int → Int)} {T : TR} {i k : Int} {j : Nat} (x : h 200 39 = 378 ∨ h 200 39 = 391) (v : ∃ E, vLE E L) (c : mdX h h0 W L H T i k j) (x0 : h0 200 39 = h 200 39) (g : ∀ a s, (a = 200 ∧ (s = 39 ∨ s = 48)) ∨ a = 405 ∨ ((a = 378 ∨ a = 391) ∧ s = 10) ∨ a = 389 ∨ a = 390 ∨ a = 402 ∨ a = 403 → h' a s = h a s) : mdX h' h0 W L H T i k j := by
  rcases c with c | c
  · exact Or.inl ⟨c.1, snX_f x c.2 (fun a s q => g a s (by omega)) v⟩
  · refine Or.inr ⟨c.1, by rw [g _ _ (by omega)]; exact c.2.1, fun a s q => ?_⟩
    rw [x0] at q
    rw [g a s (by omega)]
    exact c.2.2 a s (by rw [x0]; exact q)
theorem mdX_s {h h' h0 : AH} {W : Int → Int → Int → VW} {L : LE} {H : List (Int → Int)} {T : TR} {i k : Int} {j : Nat} (x : h 200 39 = 378 ∨ h 200 39 = 391) (c : mdX h h0 W L H T i k j) (x0 : h0 200 39 = h 200 39) (e : h 200 46 = j) (se : k = 0 → snX h' L (trS W L i j :: (mtL W L i j ++ H)) ∧ h' 200 48 = h 200 48) (nt : k ≠ 0 → (h 200 48 = -1 ∧ evL W T (trS W L i j) = 1 ∧ h' 200 48 = -1) ∨ (h 200 48 = -1 ∧ evL W T (trS W L i j) ≠ 1 ∧ h' 200 48 = h 200 46) ∨ (h 200 48 ≠ -1 ∧ h' 200 48 = h 200 48)) (f1 : k ≠ 0 → ∀ a s, ¬ (a = 200 ∧ (s = 9 ∨ s = 10 ∨ s = 48)) → ¬ (a = 269 ∧ 0 ≤ s) → h' a s = h a s) : mdX h' h0 W L H T i k (j + 1) := by
  rcases c with c | c
  · exact Or.inl ⟨c.1, (se c.1).1⟩
  · have k0 : k ≠ 0 := by have := c.1; omega
    have q := nt k0
    rw [e] at q
    refine Or.inr ⟨c.1, NF_s c.2.1 q, fun a s y => ?_⟩
    rw [x0] at y
    rw [f1 k0 a s (by omega) (by omega)]
    exact c.2.2 a s (by rw [x0]; exact y)
def fRq (h h' : AH) : Prop := ∀ a s, ¬ (a = 200 ∧ (s = 9 ∨ s = 10 ∨ s = 46 ∨ s = 48)) → ¬ ((a = 269 ∨ (404 ≤ a ∧ a ≤ 407)) ∧ 0 ≤ s) → ¬ ((a = 389 ∨ a = 390 ∨ a = 402 ∨ a = 403) ∧ 0 ≤ s) → ¬ ((a = 378 ∨ a = 391) ∧ s = 10) → h' a s = h a s
theorem fRq_r {h : AH} : fRq h h := fun _ _ _ _ _ _ => rfl
theorem fRq_t {h h1 h2 : AH} (a : fRq h h1) (b : fRq h1 h2) : fRq h h2 := fun x s y1 y2 y3 y4 => (b x s y1 y2 y3 y4).trans (a x s y1 y2 y3 y4)
theorem fRq_G {h h' : AH} (f : fRq h h') : frG h h' := fun a s y1 y2 y3 y4 => f a s (by omega) y2 y3 y4
theorem fRq_9 {h h' : AH} (f : f269 h h') : fRq h h' := fun a s y1 y2 _ _ => f a s (by omega) (by omega)
theorem fRq_m {h h' : AH} {x k : Int} (hx : x = 378 ∨ x = 391) {c : Int} (f0 : k = 0 → ∀ a k, ¬ (a = x ∧ k = 10) → ¬ (a = 405 ∧ k = c) → ¬ ((a = x + 11 ∨ a = x + 12) ∧ 0 ≤ k) → h' a k = h a k) (c0 : 0 ≤ c) (f1 : k ≠ 0 → ∀ a s, ¬ (a = 200 ∧ (s = 9 ∨ s = 10 ∨ s = 48)) → ¬ (a = 269 ∧ 0 ≤ s) → h' a s = h a s) : (∀ a s, ¬ (a = 200 ∧ (s = 9 ∨ s = 10 ∨ s = 48)) → ¬ ((a = 269 ∨ a = 405) ∧ 0 ≤ s) → ¬ ((a = 389 ∨ a = 390 ∨ a = 402 ∨ a = 403) ∧ 0 ≤ s) → ¬ ((a = 378 ∨ a = 391) ∧ s = 10) → h' a s = h a s) := fun a s y1 y2 y3 y4 => by
  by_cases z : k = 0
  · exact f0 z a s (by omega) (by omega) (by omega)
  · exact f1 z a s y1 (by omega)
theorem vX1_goThrough_l163 (i1 : Int) (i2 : Int) (i3 : Int) (a50 : Int) {h0 : AH} {E : EV} {Rf : Int → TR} {W : Int → Int → Int → VW} {hl : Int → Int} {L : LE} {H : List (Int → Int)} {T : TR} {hz : AH} (rn : rnX h0 E Rf W hl L) (hi : 0 ≤ i1 ∧ i1 ≤ 1000) (h2 : (i2 = 0 ∧ H.length ≤ 1990000) ∨ (i2 = 324 ∧ vwX h0 324 2200 (-1) 0 T i3 0 ∧ capX h0 324 2200 ∧ tmW E L.2.1.1 L.2.1.2 T 1)) (li : liX h0 hz W L H T i1 i2 a50) (e0 : h0 200 39 = hz 200 39) : OK (gX1_goThrough_l163 i1 i2 i3 a50 h0) (Sum.elim (fun h' => (∃ j : Nat, psI W L i1 j ∧ gdS L (trS W L i1 j) ∧ (∃ r, r < j ∧ trS W L i1 r = trS W L i1 j) ∧ h' 200 46 = j ∧ mkX h' hz W L i1 j ∧ mdX h' hz W L H T i1 i2 j) ∧ (fRq h0 h' ∧ bd10 h')) (Sum.elim (fun h' => (∃ j : Nat, psI W L i1 j ∧ gdS L (trS W L i1 j) ∧ (∀ r, r < j → trS W L i1 r ≠ trS W L i1 j) ∧ cdS W L (trS W L i1 j) = 0 ∧ h' 200 46 = j + 1 ∧ mkX h' hz W L i1 (j + 1) ∧ mdX h' hz W L H T i1 i2 (j + 1) ∧ ∀ k, 0 ≤ k → k < L.2.1.1 → h' 406 k = trS W L i1 j k) ∧ (fRq h0 h' ∧ bd10 h')) (fun h' => (∃ met : Nat, (∃ j, psI W L i1 j ∧ enI W L i1 j 2 met (-1)) ∧ h' 200 46 = met ∧ mkX h' hz W L i1 met ∧ mdX h' hz W L H T i1 i2 met) ∧ (fRq h0 h' ∧ bd10 h')))) := by
  have v := rn.2.2.2
  have n3 := v.2.1
  obtain ⟨ac, wt⟩ := rnX_a rn
  unfold gX1_goThrough_l163
  refine OK_jit (I := (fun (s : Int × AH) => jt2 s fun a5 h => (liX h hz W L H T i1 i2 a5) ∧ (fRq h0 h) ∧ (bd10 h))) (m := (fun (s : Int × AH) => jt2 s fun a5 h => (4098 - h 200 46).toNat)) ?_ ?_
  · intro s hs
    obtain ⟨a5, h⟩ := s
    dsimp only [Sum.elim_inl, Sum.elim_inr, jt2, jt3, jt4, jt5, jt6, jt7, jt8] at hs
    obtain ⟨q1, fr, bb⟩ := hs
    unfold gX1_goThrough_b163
    refine OK_jt2 ?_
    have RN2 : rnX h E Rf W hl L := rnX_f rn bb (fRq_G fr)
    have LX := rnX_x RN2
    have LO := RN2.2.1
    have X0 : hz 200 39 = h 200 39 := by rw [fr 200 39 (by decide) (by decide) (by decide) (by decide)]; exact e0.symm
    have I1 : w32 (i1 + 1) = i1 + 1 := w32_id (by omega) (by omega)
    rw [I1]
    refine OK_if (fun c1 => ?_) (fun c1 => ?_)
    · skip
      try simp (disch := omega) only [jst_eq, jst_ne, jst_ni, jI_i, jcmp_lt, jcmp_gt, w32_id, jcpy_out, Sum.elim_inl, Sum.elim_inr, jt2, jt3, jt4, jt5, jt6, jt7, jt8] at c1
      refine OK_ir ?_
      try dsimp only [Sum.elim_inl, Sum.elim_inr, jt2, jt3, jt4, jt5, jt6, jt7, jt8]
      refine ⟨?_, ?_⟩
      · (rcases q1 with ⟨j, j1, j2, j3, j4, j5⟩ | ⟨j, j1, j2, j3, j4, j5, j6, j7, j8⟩; { rcases j5 with z | z; { omega }; { exact ⟨j, ⟨j, j1, Or.inl ⟨z.2, rfl, rfl, rfl⟩⟩, j2, j3, j4⟩ } }; { exact ⟨j + 1, ⟨j, j1, Or.inr (Or.inr (Or.inl ⟨j2, j3, j4, rfl, by omega, rfl⟩))⟩, by omega, j6, j7⟩ }) -- o1 e1.1
      · exact ⟨fr, bb⟩ -- o2 e1.2
    · skip
      try simp (disch := omega) only [jst_eq, jst_ne, jst_ni, jI_i, jcmp_lt, jcmp_gt, w32_id, jcpy_out, Sum.elim_inl, Sum.elim_inr, jt2, jt3, jt4, jt5, jt6, jt7, jt8] at c1
      obtain ⟨j, j1, j2, j3, j4, j5⟩ : ∃ j : Nat, psI W L i1 j ∧ h 200 46 = j ∧ mkX h hz W L i1 j ∧ mdX h hz W L H T i1 i2 j ∧ (gdS L (trS W L i1 j) ∧ ∀ k, 0 ≤ k → k < L.2.1.1 → h 406 k = trS W L i1 j k) := by { rcases q1 with ⟨j, j1, j2, j3, j4, j5⟩ | ⟨j, j1, j2, j3, j4, j5, j6, j7, j8⟩; { rcases j5 with z | z; { exact ⟨j, j1, j2, j3, j4, z.2⟩ }; { exact absurd z.1 c1 } }; { exact absurd j8 c1 } }
      have VJ := psI_v2 ac wt v hi.1 j1 j5.1
      have ZJ : ∀ k, ¬ (0 ≤ k ∧ k < L.2.1.1) → trS W L i1 j k = 0 := fun k y => trS_z j y
      have A4 := nuS_4 v VJ
      refine OK_jb (vX1_stateNumber (E := E) (L := L) (s9 := trS W L i1 j) (by exact LO) (by exact v) (by exact ⟨VJ, j5.2⟩)) (fun v43 r1 => ?_)
      try dsimp only [Sum.elim_inl, Sum.elim_inr, jt2, jt3, jt4, jt5, jt6, jt7, jt8] at r1
      have nu1 := r1
      clear r1
      try simp (disch := omega) only [jst_eq, jst_ne, jst_ni, jI_i, jcmp_lt, jcmp_gt, w32_id, jcpy_out, Sum.elim_inl, Sum.elim_inr, jt2, jt3, jt4, jt5, jt6, jt7, jt8] at nu1
      have V43 : v43 = nuS L (trS W L i1 j) L.2.1.1.toNat := by assumption
      rw [V43]
      refine OK_jg (by exact A4) ?_ -- o6
      refine OK_if (fun c2 => ?_) (fun c2 => ?_)
      · skip
        try simp (disch := omega) only [jst_eq, jst_ne, jst_ni, jI_i, jcmp_lt, jcmp_gt, w32_id, jcpy_out, Sum.elim_inl, Sum.elim_inr, jt2, jt3, jt4, jt5, jt6, jt7, jt8] at c2
        refine OK_ir ?_
        try dsimp only [Sum.elim_inl, Sum.elim_inr, jt2, jt3, jt4, jt5, jt6, jt7, jt8]
        refine ⟨?_, ?_⟩
        · (obtain ⟨r, r1, r2⟩ := j3.2.1 _ A4.1 A4.2 c2; exact ⟨j, j1, j5.1, ⟨r, r1, trS_i v (psI_v ac wt v hi.1 j1 r r1) VJ r2⟩, j2, j3, j4⟩) -- o7 e2.1
        · exact ⟨fr, bb⟩ -- o8 e2.2
      · skip
        try simp (disch := omega) only [jst_eq, jst_ne, jst_ni, jI_i, jcmp_lt, jcmp_gt, w32_id, jcpy_out, Sum.elim_inl, Sum.elim_inr, jt2, jt3, jt4, jt5, jt6, jt7, jt8] at c2
        have DJ : ∀ r, r < j → trS W L i1 r ≠ trS W L i1 j := fun r l e => by { have := j3.1 r l; rw [e] at this; exact c2 this }
        have J4 := ps_lt ac wt v hi.1 j1 j5.1 DJ
        refine OK_jl ?_
        have F45 : ∀ a s, ¬ (a = 404 ∧ s = nuS L (trS W L i1 j) L.2.1.1.toNat) → jst h 404 (nuS L (trS W L i1 j) L.2.1.1.toNat) (i1 + 1) a s = h a s := fun a s y => jst_o y
        have M45 := mkX_s j3
        generalize jst h 404 (nuS L (trS W L i1 j) L.2.1.1.toNat) (i1 + 1) = g5 at *
        have N45 : ∀ a s, a ≠ 404 → g5 a s = h a s := fun a s y => F45 a s (fun z => y z.1)
        have Q45 : fRq h g5 := fun a s y1 y2 y3 y4 => F45 a s (fun z => y2 ⟨Or.inr (by omega), by rw [z.2]; exact A4.1⟩)
        have RN45 : rnX g5 E Rf W hl L := rnX_f RN2 (by { unfold bd10; rw [N45 _ _ (by decide)]; exact bb }) (fRq_G Q45)
        have E5 : g5 200 39 = h 200 39 := N45 _ _ (by decide)
        have D45 : mdX g5 hz W L H T i1 i2 j := mdX_f LX ⟨E, v⟩ j4 X0 (fun a s q => N45 a s (by omega))
        have LN5 : (mtL W L i1 j ++ H).length = j + H.length := by { rw [List.length_append, mtL_len] }
        refine OK_jb (vX1_meet_2 (E := E) (Rf := Rf) (W := W) (hl := hl) (L := L) (l := mtL W L i1 j ++ H) (s9 := trS W L i1 j) (T := T) _ _ _ (by exact RN45) (by exact ⟨⟨VJ, ZJ⟩, fun k k0 k1 => by rw [N45 _ _ (by decide)]; exact j5.2 k k0 k1⟩) (by rfl) (by (rcases h2 with z | z; { exact Or.inl ⟨z.1, (D45.resolve_right (fun y => by have := y.1; omega)).2, by omega⟩ }; { right; refine ⟨z.1, vwX_fr (fun a s q => ?_) z.2.1, capX_fr z.2.2.1 (fun a a0 a1 => ?_), z.2.2.2⟩; { rw [N45 _ _ (by omega)]; exact fr _ _ (by omega) (by omega) (by omega) (by omega) }; { rw [N45 _ _ (by omega)]; exact fr _ _ (by omega) (by omega) (by omega) (by omega) } }))) (fun h47 r2 => ?_)
        try dsimp only [Sum.elim_inl, Sum.elim_inr, jt2, jt3, jt4, jt5, jt6, jt7, jt8] at r2
        obtain ⟨se2, nt2, f02, f12, bb2⟩ := r2
        try simp (disch := omega) only [jst_eq, jst_ne, jst_ni, jI_i, jcmp_lt, jcmp_gt, w32_id, jcpy_out, Sum.elim_inl, Sum.elim_inr, jt2, jt3, jt4, jt5, jt6, jt7, jt8] at se2
        try simp (disch := omega) only [jst_eq, jst_ne, jst_ni, jI_i, jcmp_lt, jcmp_gt, w32_id, jcpy_out, Sum.elim_inl, Sum.elim_inr, jt2, jt3, jt4, jt5, jt6, jt7, jt8] at nt2
        try simp (disch := omega) only [jst_eq, jst_ne, jst_ni, jI_i, jcmp_lt, jcmp_gt, w32_id, jcpy_out, Sum.elim_inl, Sum.elim_inr, jt2, jt3, jt4, jt5, jt6, jt7, jt8] at f02
        try simp (disch := omega) only [jst_eq, jst_ne, jst_ni, jI_i, jcmp_lt, jcmp_gt, w32_id, jcpy_out, Sum.elim_inl, Sum.elim_inr, jt2, jt3, jt4, jt5, jt6, jt7, jt8] at f12
        try simp (disch := omega) only [jst_eq, jst_ne, jst_ni, jI_i, jcmp_lt, jcmp_gt, w32_id, jcpy_out, Sum.elim_inl, Sum.elim_inr, jt2, jt3, jt4, jt5, jt6, jt7, jt8] at bb2
        have F47 := fRq_m (x := g5 200 39) (by rw [E5]; exact LX) f02 A4.1 f12
        have D47 := mdX_s (by rw [E5]; exact LX) D45 (by rw [E5]; exact X0) (by rw [N45 _ _ (by decide)]; exact j2) se2 nt2 f12
        have E46 : h47 200 46 = j := by { rw [F47 _ _ (by decide) (by decide) (by decide) (by decide), N45 _ _ (by decide)]; exact j2 }
        have Q47 : fRq g5 h47 := fun a s y1 y2 y3 y4 => F47 a s (by omega) (by omega) y3 y4
        have RN47 : rnX h47 E Rf W hl L := rnX_f RN45 bb2 (fRq_G Q47)
        have M47 : mkX h47 hz W L i1 (j + 1) := mkX_f M45 (fun s => F47 _ _ (by omega) (by omega) (by omega) (by omega))
        have H47 : ∀ k, 0 ≤ k → k < L.2.1.1 → h47 406 k = trS W L i1 j k := fun k k0 k1 => by { rw [F47 _ _ (by omega) (by omega) (by omega) (by omega), N45 _ _ (by decide)]; exact j5.2 k k0 k1 }
        have E7 : h47 200 39 = h 200 39 := by { rw [F47 _ _ (by decide) (by decide) (by decide) (by decide)]; exact E5 }
        have G47 : fRq h0 h47 := fRq_t fr (fRq_t Q45 Q47)
        clear F47 Q47 Q45 D45 RN45 M45 F45 se2 nt2 f02 f12 N45 j3 j4 RN2 LO
        rw [E46, w32_id (x := (j : Int) + 1) (by omega) (by omega)]
        refine OK_jl ?_
        have K48 : ∀ a s, ¬ (a = 200 ∧ s = 46) → jst h47 200 46 ((j : Int) + 1) a s = h47 a s := fun a s y => jst_o y
        have C46 : jst h47 200 46 ((j : Int) + 1) 200 46 = (j : Int) + 1 := jst_eq
        generalize jst h47 200 46 ((j : Int) + 1) = g8 at *
        have Q48 : fRq h47 g8 := fun a s y1 _ _ _ => K48 a s (fun z => y1 ⟨z.1, by omega⟩)
        have E8 : g8 200 39 = h 200 39 := by { rw [K48 _ _ (by decide)]; exact E7 }
        have B8 : bd10 g8 := by { unfold bd10; rw [K48 _ _ (by decide)]; exact bb2 }
        have RN8 : rnX g8 E Rf W hl L := rnX_f RN47 B8 (fRq_G Q48)
        have LO8 := RN8.2.1
        have H48 : ∀ k, 0 ≤ k → k < L.2.1.1 → g8 406 k = trS W L i1 j k := fun k k0 k1 => by { rw [K48 _ _ (by omega)]; exact H47 k k0 k1 }
        have M48 : mkX g8 hz W L i1 (j + 1) := mkX_f M47 (fun s => K48 _ _ (by omega))
        have D48 : mdX g8 hz W L H T i1 i2 (j + 1) := mdX_f (rnX_x RN47) ⟨E, v⟩ D47 (by rw [E7]; exact X0) (fun a s q => K48 a s (by omega))
        have G48 : fRq h0 g8 := fRq_t G47 Q48
        clear K48 Q48 M47 D47 G47 RN47 H47
        rw [LO8.2.2.1]
        refine OK_jb2 (vX1_workLoop (E := E) (Rf := Rf) (W := W) (hl := hl) (np := L.2.1.1) (kp := L.2.1.2) (R := L.2.2.2.1) (k := 1) _ _ _ (by exact RN8.1) (by exact rnX_x RN8) (by exact ⟨LO8.2.2.2.2.2.1, LO8.2.2.2.2.2.2.2, v.2.2.2.1⟩) (by (have k6 := RN8.2.2.1.1; omega)) (by exact fun c c0 c1 => by rw [H48 c c0 c1]; exact VJ c c0 c1)) (fun v50 h51 r3 => ?_)
        try dsimp only [Sum.elim_inl, Sum.elim_inr, jt2, jt3, jt4, jt5, jt6, jt7, jt8] at r3
        obtain ⟨ev3, fs3, bs3⟩ := r3
        try simp (disch := omega) only [jst_eq, jst_ne, jst_ni, jI_i, jcmp_lt, jcmp_gt, w32_id, jcpy_out, Sum.elim_inl, Sum.elim_inr, jt2, jt3, jt4, jt5, jt6, jt7, jt8] at ev3
        try simp (disch := omega) only [jst_eq, jst_ne, jst_ni, jI_i, jcmp_lt, jcmp_gt, w32_id, jcpy_out, Sum.elim_inl, Sum.elim_inr, jt2, jt3, jt4, jt5, jt6, jt7, jt8] at fs3
        try simp (disch := omega) only [jst_eq, jst_ne, jst_ni, jI_i, jcmp_lt, jcmp_gt, w32_id, jcpy_out, Sum.elim_inl, Sum.elim_inr, jt2, jt3, jt4, jt5, jt6, jt7, jt8] at bs3
        have V50 : v50 = cdS W L (trS W L i1 j) := by { rw [ev3]; exact evL_c v.2.2.2.1.2.2.1 H48 }
        have TB : okV 1 v50 := by { rw [V50]; exact evL_ty ac wt v.2.2.2.1 VJ }
        have F51 : ∀ a s, ¬ (a = 200 ∧ (s = 9 ∨ s = 10)) → ¬ (a = 269 ∧ 0 ≤ s) → h51 a s = g8 a s := fun a s y1 y2 => fs3 a s y1 y2
        have RN51 : rnX h51 E Rf W hl L := rnX_f RN8 bs3 (frG_9 fs3)
        have E51 : h51 200 39 = h 200 39 := by { rw [F51 _ _ (by decide) (by decide)]; exact E8 }
        have M51 : mkX h51 hz W L i1 (j + 1) := mkX_f M48 (fun s => F51 _ _ (by omega) (fun z => absurd z.1 (by decide)))
        have D51 : mdX h51 hz W L H T i1 i2 (j + 1) := mdX_f (rnX_x RN8) ⟨E, v⟩ D48 (by rw [E8]; exact X0) (fun a s z => F51 a s (by omega) (by omega))
        have C51 : h51 200 46 = (j : Int) + 1 := by { rw [F51 _ _ (by decide) (by decide)]; exact C46 }
        have H51 : ∀ k, 0 ≤ k → k < L.2.1.1 → h51 406 k = trS W L i1 j k := fun k k0 k1 => by { rw [F51 _ _ (by omega) (fun z => absurd z.1 (by decide))]; exact H48 k k0 k1 }
        have G51 : fRq h0 h51 := fRq_t G48 (fRq_9 fs3)
        clear M48 D48 RN8 LO8 H48 G48
        refine OK_if (fun c3 => ?_) (fun c3 => ?_)
        · skip
          try simp (disch := omega) only [jst_eq, jst_ne, jst_ni, jI_i, jcmp_lt, jcmp_gt, w32_id, jcpy_out, Sum.elim_inl, Sum.elim_inr, jt2, jt3, jt4, jt5, jt6, jt7, jt8] at c3
          refine OK_ir ?_
          try dsimp only [Sum.elim_inl, Sum.elim_inr, jt2, jt3, jt4, jt5, jt6, jt7, jt8]
          refine ⟨?_, ?_⟩
          · exact ⟨j, j1, j5.1, DJ, by omega, C51, M51, D51, H51⟩ -- o18 e3.1
          · exact ⟨G51, bs3⟩ -- o19 e3.2
        · skip
          try simp (disch := omega) only [jst_eq, jst_ne, jst_ni, jI_i, jcmp_lt, jcmp_gt, w32_id, jcpy_out, Sum.elim_inl, Sum.elim_inr, jt2, jt3, jt4, jt5, jt6, jt7, jt8] at c3
          refine OK_if (fun c4 => ?_) (fun c4 => ?_)
          · skip
            try simp (disch := omega) only [jst_eq, jst_ne, jst_ni, jI_i, jcmp_lt, jcmp_gt, w32_id, jcpy_out, Sum.elim_inl, Sum.elim_inr, jt2, jt3, jt4, jt5, jt6, jt7, jt8] at c4
            refine OK_mono (vX1_goThrough_j305_163 (E := E) (Rf := Rf) (W := W) (hl := hl) (L := L) (s9 := trS W L i1 j) _ _ _ _ (by exact RN51) (by exact ⟨VJ, H51⟩) (by exact Or.inl rfl)) (fun r r4 => ?_)
            rcases r with r | r
            · skip
              have r5 := r4; clear r4; dsimp only [Sum.elim_inl, Sum.elim_inr] at r5
              obtain ⟨y1, y2⟩ := r
              try dsimp only [Sum.elim_inl, Sum.elim_inr, jt2, jt3, jt4, jt5, jt6, jt7, jt8] at r5
              obtain ⟨z4, q4, fr4, bb4⟩ := r5
              try simp (disch := omega) only [jst_eq, jst_ne, jst_ni, jI_i, jcmp_lt, jcmp_gt, w32_id, jcpy_out, Sum.elim_inl, Sum.elim_inr, jt2, jt3, jt4, jt5, jt6, jt7, jt8] at z4
              try simp (disch := omega) only [jst_eq, jst_ne, jst_ni, jI_i, jcmp_lt, jcmp_gt, w32_id, jcpy_out, Sum.elim_inl, Sum.elim_inr, jt2, jt3, jt4, jt5, jt6, jt7, jt8] at q4
              try simp (disch := omega) only [jst_eq, jst_ne, jst_ni, jI_i, jcmp_lt, jcmp_gt, w32_id, jcpy_out, Sum.elim_inl, Sum.elim_inr, jt2, jt3, jt4, jt5, jt6, jt7, jt8] at fr4
              try simp (disch := omega) only [jst_eq, jst_ne, jst_ni, jI_i, jcmp_lt, jcmp_gt, w32_id, jcpy_out, Sum.elim_inl, Sum.elim_inr, jt2, jt3, jt4, jt5, jt6, jt7, jt8] at bb4
              try dsimp only [Sum.elim_inl, Sum.elim_inr, jt2, jt3, jt4, jt5, jt6, jt7, jt8]
              refine ⟨?_, ?_⟩
              · try dsimp only [Sum.elim_inl, Sum.elim_inr, jt2, jt3, jt4, jt5, jt6, jt7, jt8]
                refine ⟨?_, ?_, ?_⟩
                · (right; exact ⟨j, j1, j5.1, DJ, by omega, by rw [fr4 200 46 (by decide) (by decide)]; exact C51, mkX_f M51 (fun s => fr4 _ _ (by omega) (fun z => absurd z.1 (by decide))), mdX_f (rnX_x RN51) ⟨E, v⟩ D51 (by rw [E51]; exact X0) (fun a s q => fr4 a s (by omega) (by omega)), z4 (by first | rfl | trivial)⟩) -- o23 e4i.1
                · exact fRq_t G51 (fun a s y1 y2 _ _ => fr4 a s (by omega) (by omega)) -- o24 e4i.2
                · exact bb4 -- o25 e4i.3
              · (have q46 := fr4 200 46 (by decide) (by decide); omega) -- o26 e4m
            · skip
              have r6 := r4; clear r4; dsimp only [Sum.elim_inl, Sum.elim_inr] at r6
              rcases r with r | r
              · skip
                have r7 := r6; clear r6; dsimp only [Sum.elim_inl, Sum.elim_inr] at r7
                try dsimp only [Sum.elim_inl, Sum.elim_inr, jt2, jt3, jt4, jt5, jt6, jt7, jt8] at r7
                have n15 := r7
                clear r7
                try simp (disch := omega) only [jst_eq, jst_ne, jst_ni, jI_i, jcmp_lt, jcmp_gt, w32_id, jcpy_out, Sum.elim_inl, Sum.elim_inr, jt2, jt3, jt4, jt5, jt6, jt7, jt8] at n15
                try dsimp only [Sum.elim_inl, Sum.elim_inr, jt2, jt3, jt4, jt5, jt6, jt7, jt8]
                try dsimp only [Sum.elim_inl, Sum.elim_inr, jt2, jt3, jt4, jt5, jt6, jt7, jt8]
                refine ⟨?_, ?_⟩
                · (first | assumption | omega | ((try dsimp only [jt2, jt3, jt4]); first | omega | (simp (disch := omega) only [jst_eq, jst_ne, jst_ni, jst_o, jI_i, jcpy_out, w32_id, jdiv_nn, jshr_k, jand_255] <;> first | done | omega | assumption)) | (intros; simp (disch := omega) only [jst_eq, jst_ne, jst_ni, jst_o, jI_i, jcpy_out, w32_id, jdiv_nn, *] <;> first | done | omega) | (intros; simp (disch := omega) only [jst_eq, jst_ne, jst_ni, jst_o, jI_i, jcpy_out, w32_id, jdiv_nn] at * <;> first | done | omega | assumption) | (intros; first | rfl | (exfalso; omega) | ((repeat' apply And.intro) <;> first | assumption | rfl | omega | trivial))) -- o27 e5.1
                · (first | assumption | omega | ((try dsimp only [jt2, jt3, jt4]); first | omega | (simp (disch := omega) only [jst_eq, jst_ne, jst_ni, jst_o, jI_i, jcpy_out, w32_id, jdiv_nn, jshr_k, jand_255] <;> first | done | omega | assumption)) | (intros; simp (disch := omega) only [jst_eq, jst_ne, jst_ni, jst_o, jI_i, jcpy_out, w32_id, jdiv_nn, *] <;> first | done | omega) | (intros; simp (disch := omega) only [jst_eq, jst_ne, jst_ni, jst_o, jI_i, jcpy_out, w32_id, jdiv_nn] at * <;> first | done | omega | assumption) | (intros; first | rfl | (exfalso; omega) | ((repeat' apply And.intro) <;> first | assumption | rfl | omega | trivial))) -- o28 e5.2
              · skip
                have r8 := r6; clear r6; dsimp only [Sum.elim_inl, Sum.elim_inr] at r8
                rcases r with r | r
                · skip
                  have r9 := r8; clear r8; dsimp only [Sum.elim_inl, Sum.elim_inr] at r9
                  try dsimp only [Sum.elim_inl, Sum.elim_inr, jt2, jt3, jt4, jt5, jt6, jt7, jt8] at r9
                  have n26 := r9
                  clear r9
                  try simp (disch := omega) only [jst_eq, jst_ne, jst_ni, jI_i, jcmp_lt, jcmp_gt, w32_id, jcpy_out, Sum.elim_inl, Sum.elim_inr, jt2, jt3, jt4, jt5, jt6, jt7, jt8] at n26
                  try dsimp only [Sum.elim_inl, Sum.elim_inr, jt2, jt3, jt4, jt5, jt6, jt7, jt8]
                  try dsimp only [Sum.elim_inl, Sum.elim_inr, jt2, jt3, jt4, jt5, jt6, jt7, jt8]
                  refine ⟨?_, ?_⟩
                  · (first | assumption | omega | ((try dsimp only [jt2, jt3, jt4]); first | omega | (simp (disch := omega) only [jst_eq, jst_ne, jst_ni, jst_o, jI_i, jcpy_out, w32_id, jdiv_nn, jshr_k, jand_255] <;> first | done | omega | assumption)) | (intros; simp (disch := omega) only [jst_eq, jst_ne, jst_ni, jst_o, jI_i, jcpy_out, w32_id, jdiv_nn, *] <;> first | done | omega) | (intros; simp (disch := omega) only [jst_eq, jst_ne, jst_ni, jst_o, jI_i, jcpy_out, w32_id, jdiv_nn] at * <;> first | done | omega | assumption) | (intros; first | rfl | (exfalso; omega) | ((repeat' apply And.intro) <;> first | assumption | rfl | omega | trivial))) -- o29 e6.1
                  · (first | assumption | omega | ((try dsimp only [jt2, jt3, jt4]); first | omega | (simp (disch := omega) only [jst_eq, jst_ne, jst_ni, jst_o, jI_i, jcpy_out, w32_id, jdiv_nn, jshr_k, jand_255] <;> first | done | omega | assumption)) | (intros; simp (disch := omega) only [jst_eq, jst_ne, jst_ni, jst_o, jI_i, jcpy_out, w32_id, jdiv_nn, *] <;> first | done | omega) | (intros; simp (disch := omega) only [jst_eq, jst_ne, jst_ni, jst_o, jI_i, jcpy_out, w32_id, jdiv_nn] at * <;> first | done | omega | assumption) | (intros; first | rfl | (exfalso; omega) | ((repeat' apply And.intro) <;> first | assumption | rfl | omega | trivial))) -- o30 e6.2
                · skip
                  have r10 := r8; clear r8; dsimp only [Sum.elim_inl, Sum.elim_inr] at r10
                  try dsimp only [Sum.elim_inl, Sum.elim_inr, jt2, jt3, jt4, jt5, jt6, jt7, jt8] at r10
                  have n47 := r10
                  clear r10
                  try simp (disch := omega) only [jst_eq, jst_ne, jst_ni, jI_i, jcmp_lt, jcmp_gt, w32_id, jcpy_out, Sum.elim_inl, Sum.elim_inr, jt2, jt3, jt4, jt5, jt6, jt7, jt8] at n47
                  try dsimp only [Sum.elim_inl, Sum.elim_inr, jt2, jt3, jt4, jt5, jt6, jt7, jt8]
                  try dsimp only [Sum.elim_inl, Sum.elim_inr, jt2, jt3, jt4, jt5, jt6, jt7, jt8]
                  refine ⟨?_, ?_⟩
                  · (first | assumption | omega | ((try dsimp only [jt2, jt3, jt4]); first | omega | (simp (disch := omega) only [jst_eq, jst_ne, jst_ni, jst_o, jI_i, jcpy_out, w32_id, jdiv_nn, jshr_k, jand_255] <;> first | done | omega | assumption)) | (intros; simp (disch := omega) only [jst_eq, jst_ne, jst_ni, jst_o, jI_i, jcpy_out, w32_id, jdiv_nn, *] <;> first | done | omega) | (intros; simp (disch := omega) only [jst_eq, jst_ne, jst_ni, jst_o, jI_i, jcpy_out, w32_id, jdiv_nn] at * <;> first | done | omega | assumption) | (intros; first | rfl | (exfalso; omega) | ((repeat' apply And.intro) <;> first | assumption | rfl | omega | trivial))) -- o31 e7.1
                  · (first | assumption | omega | ((try dsimp only [jt2, jt3, jt4]); first | omega | (simp (disch := omega) only [jst_eq, jst_ne, jst_ni, jst_o, jI_i, jcpy_out, w32_id, jdiv_nn, jshr_k, jand_255] <;> first | done | omega | assumption)) | (intros; simp (disch := omega) only [jst_eq, jst_ne, jst_ni, jst_o, jI_i, jcpy_out, w32_id, jdiv_nn, *] <;> first | done | omega) | (intros; simp (disch := omega) only [jst_eq, jst_ne, jst_ni, jst_o, jI_i, jcpy_out, w32_id, jdiv_nn] at * <;> first | done | omega | assumption) | (intros; first | rfl | (exfalso; omega) | ((repeat' apply And.intro) <;> first | assumption | rfl | omega | trivial))) -- o32 e7.2
          · skip
            try simp (disch := omega) only [jst_eq, jst_ne, jst_ni, jI_i, jcmp_lt, jcmp_gt, w32_id, jcpy_out, Sum.elim_inl, Sum.elim_inr, jt2, jt3, jt4, jt5, jt6, jt7, jt8] at c4
            refine OK_mono (vX1_goThrough_j305_163 (E := E) (Rf := Rf) (W := W) (hl := hl) (L := L) (s9 := trS W L i1 j) _ _ _ _ (by exact RN51) (by exact ⟨VJ, H51⟩) (by exact Or.inr rfl)) (fun r r11 => ?_)
            rcases r with r | r
            · skip
              have r12 := r11; clear r11; dsimp only [Sum.elim_inl, Sum.elim_inr] at r12
              obtain ⟨y3, y4⟩ := r
              try dsimp only [Sum.elim_inl, Sum.elim_inr, jt2, jt3, jt4, jt5, jt6, jt7, jt8] at r12
              obtain ⟨z8, q8, fr8, bb8⟩ := r12
              try simp (disch := omega) only [jst_eq, jst_ne, jst_ni, jI_i, jcmp_lt, jcmp_gt, w32_id, jcpy_out, Sum.elim_inl, Sum.elim_inr, jt2, jt3, jt4, jt5, jt6, jt7, jt8] at z8
              try simp (disch := omega) only [jst_eq, jst_ne, jst_ni, jI_i, jcmp_lt, jcmp_gt, w32_id, jcpy_out, Sum.elim_inl, Sum.elim_inr, jt2, jt3, jt4, jt5, jt6, jt7, jt8] at q8
              try simp (disch := omega) only [jst_eq, jst_ne, jst_ni, jI_i, jcmp_lt, jcmp_gt, w32_id, jcpy_out, Sum.elim_inl, Sum.elim_inr, jt2, jt3, jt4, jt5, jt6, jt7, jt8] at fr8
              try simp (disch := omega) only [jst_eq, jst_ne, jst_ni, jI_i, jcmp_lt, jcmp_gt, w32_id, jcpy_out, Sum.elim_inl, Sum.elim_inr, jt2, jt3, jt4, jt5, jt6, jt7, jt8] at bb8
              try dsimp only [Sum.elim_inl, Sum.elim_inr, jt2, jt3, jt4, jt5, jt6, jt7, jt8]
              refine ⟨?_, ?_⟩
              · try dsimp only [Sum.elim_inl, Sum.elim_inr, jt2, jt3, jt4, jt5, jt6, jt7, jt8]
                refine ⟨?_, ?_, ?_⟩
                · (left; have C1 : cdS W L (trS W L i1 j) = 1 := (by rw [← V50]; rcases TB with z | z; { omega }; { have := z.2.2.1 rfl; have := z.1; omega }); refine ⟨j + 1, psI_s j1 j5.1 C1 DJ, by rw [fr8 200 46 (by decide) (by decide), C51]; omega, mkX_f M51 (fun s => fr8 _ _ (by omega) (fun z => absurd z.1 (by decide))), mdX_f (rnX_x RN51) ⟨E, v⟩ D51 (by rw [E51]; exact X0) (fun a s q => fr8 a s (by omega) (by omega)), ?_⟩; rcases q8 (by first | rfl | trivial) with z | z; { exact Or.inl z }; { exact Or.inr z }) -- o36 e8i.1
                · exact fRq_t G51 (fun a s y1 y2 _ _ => fr8 a s (by omega) (by omega)) -- o37 e8i.2
                · exact bb8 -- o38 e8i.3
              · (have q46 := fr8 200 46 (by decide) (by decide); omega) -- o39 e8m
            · skip
              have r13 := r11; clear r11; dsimp only [Sum.elim_inl, Sum.elim_inr] at r13
              rcases r with r | r
              · skip
                have r14 := r13; clear r13; dsimp only [Sum.elim_inl, Sum.elim_inr] at r14
                try dsimp only [Sum.elim_inl, Sum.elim_inr, jt2, jt3, jt4, jt5, jt6, jt7, jt8] at r14
                have n19 := r14
                clear r14
                try simp (disch := omega) only [jst_eq, jst_ne, jst_ni, jI_i, jcmp_lt, jcmp_gt, w32_id, jcpy_out, Sum.elim_inl, Sum.elim_inr, jt2, jt3, jt4, jt5, jt6, jt7, jt8] at n19
                try dsimp only [Sum.elim_inl, Sum.elim_inr, jt2, jt3, jt4, jt5, jt6, jt7, jt8]
                try dsimp only [Sum.elim_inl, Sum.elim_inr, jt2, jt3, jt4, jt5, jt6, jt7, jt8]
                refine ⟨?_, ?_⟩
                · (first | assumption | omega | ((try dsimp only [jt2, jt3, jt4]); first | omega | (simp (disch := omega) only [jst_eq, jst_ne, jst_ni, jst_o, jI_i, jcpy_out, w32_id, jdiv_nn, jshr_k, jand_255] <;> first | done | omega | assumption)) | (intros; simp (disch := omega) only [jst_eq, jst_ne, jst_ni, jst_o, jI_i, jcpy_out, w32_id, jdiv_nn, *] <;> first | done | omega) | (intros; simp (disch := omega) only [jst_eq, jst_ne, jst_ni, jst_o, jI_i, jcpy_out, w32_id, jdiv_nn] at * <;> first | done | omega | assumption) | (intros; first | rfl | (exfalso; omega) | ((repeat' apply And.intro) <;> first | assumption | rfl | omega | trivial))) -- o40 e9.1
                · (first | assumption | omega | ((try dsimp only [jt2, jt3, jt4]); first | omega | (simp (disch := omega) only [jst_eq, jst_ne, jst_ni, jst_o, jI_i, jcpy_out, w32_id, jdiv_nn, jshr_k, jand_255] <;> first | done | omega | assumption)) | (intros; simp (disch := omega) only [jst_eq, jst_ne, jst_ni, jst_o, jI_i, jcpy_out, w32_id, jdiv_nn, *] <;> first | done | omega) | (intros; simp (disch := omega) only [jst_eq, jst_ne, jst_ni, jst_o, jI_i, jcpy_out, w32_id, jdiv_nn] at * <;> first | done | omega | assumption) | (intros; first | rfl | (exfalso; omega) | ((repeat' apply And.intro) <;> first | assumption | rfl | omega | trivial))) -- o41 e9.2
              · skip
                have r15 := r13; clear r13; dsimp only [Sum.elim_inl, Sum.elim_inr] at r15
                rcases r with r | r
                · skip
                  have r16 := r15; clear r15; dsimp only [Sum.elim_inl, Sum.elim_inr] at r16
                  try dsimp only [Sum.elim_inl, Sum.elim_inr, jt2, jt3, jt4, jt5, jt6, jt7, jt8] at r16
                  have n210 := r16
                  clear r16
                  try simp (disch := omega) only [jst_eq, jst_ne, jst_ni, jI_i, jcmp_lt, jcmp_gt, w32_id, jcpy_out, Sum.elim_inl, Sum.elim_inr, jt2, jt3, jt4, jt5, jt6, jt7, jt8] at n210
                  try dsimp only [Sum.elim_inl, Sum.elim_inr, jt2, jt3, jt4, jt5, jt6, jt7, jt8]
                  try dsimp only [Sum.elim_inl, Sum.elim_inr, jt2, jt3, jt4, jt5, jt6, jt7, jt8]
                  refine ⟨?_, ?_⟩
                  · (first | assumption | omega | ((try dsimp only [jt2, jt3, jt4]); first | omega | (simp (disch := omega) only [jst_eq, jst_ne, jst_ni, jst_o, jI_i, jcpy_out, w32_id, jdiv_nn, jshr_k, jand_255] <;> first | done | omega | assumption)) | (intros; simp (disch := omega) only [jst_eq, jst_ne, jst_ni, jst_o, jI_i, jcpy_out, w32_id, jdiv_nn, *] <;> first | done | omega) | (intros; simp (disch := omega) only [jst_eq, jst_ne, jst_ni, jst_o, jI_i, jcpy_out, w32_id, jdiv_nn] at * <;> first | done | omega | assumption) | (intros; first | rfl | (exfalso; omega) | ((repeat' apply And.intro) <;> first | assumption | rfl | omega | trivial))) -- o42 e10.1
                  · (first | assumption | omega | ((try dsimp only [jt2, jt3, jt4]); first | omega | (simp (disch := omega) only [jst_eq, jst_ne, jst_ni, jst_o, jI_i, jcpy_out, w32_id, jdiv_nn, jshr_k, jand_255] <;> first | done | omega | assumption)) | (intros; simp (disch := omega) only [jst_eq, jst_ne, jst_ni, jst_o, jI_i, jcpy_out, w32_id, jdiv_nn, *] <;> first | done | omega) | (intros; simp (disch := omega) only [jst_eq, jst_ne, jst_ni, jst_o, jI_i, jcpy_out, w32_id, jdiv_nn] at * <;> first | done | omega | assumption) | (intros; first | rfl | (exfalso; omega) | ((repeat' apply And.intro) <;> first | assumption | rfl | omega | trivial))) -- o43 e10.2
                · skip
                  have r17 := r15; clear r15; dsimp only [Sum.elim_inl, Sum.elim_inr] at r17
                  try dsimp only [Sum.elim_inl, Sum.elim_inr, jt2, jt3, jt4, jt5, jt6, jt7, jt8] at r17
                  have n411 := r17
                  clear r17
                  try simp (disch := omega) only [jst_eq, jst_ne, jst_ni, jI_i, jcmp_lt, jcmp_gt, w32_id, jcpy_out, Sum.elim_inl, Sum.elim_inr, jt2, jt3, jt4, jt5, jt6, jt7, jt8] at n411
                  try dsimp only [Sum.elim_inl, Sum.elim_inr, jt2, jt3, jt4, jt5, jt6, jt7, jt8]
                  try dsimp only [Sum.elim_inl, Sum.elim_inr, jt2, jt3, jt4, jt5, jt6, jt7, jt8]
                  refine ⟨?_, ?_⟩
                  · (first | assumption | omega | ((try dsimp only [jt2, jt3, jt4]); first | omega | (simp (disch := omega) only [jst_eq, jst_ne, jst_ni, jst_o, jI_i, jcpy_out, w32_id, jdiv_nn, jshr_k, jand_255] <;> first | done | omega | assumption)) | (intros; simp (disch := omega) only [jst_eq, jst_ne, jst_ni, jst_o, jI_i, jcpy_out, w32_id, jdiv_nn, *] <;> first | done | omega) | (intros; simp (disch := omega) only [jst_eq, jst_ne, jst_ni, jst_o, jI_i, jcpy_out, w32_id, jdiv_nn] at * <;> first | done | omega | assumption) | (intros; first | rfl | (exfalso; omega) | ((repeat' apply And.intro) <;> first | assumption | rfl | omega | trivial))) -- o44 e11.1
                  · (first | assumption | omega | ((try dsimp only [jt2, jt3, jt4]); first | omega | (simp (disch := omega) only [jst_eq, jst_ne, jst_ni, jst_o, jI_i, jcpy_out, w32_id, jdiv_nn, jshr_k, jand_255] <;> first | done | omega | assumption)) | (intros; simp (disch := omega) only [jst_eq, jst_ne, jst_ni, jst_o, jI_i, jcpy_out, w32_id, jdiv_nn, *] <;> first | done | omega) | (intros; simp (disch := omega) only [jst_eq, jst_ne, jst_ni, jst_o, jI_i, jcpy_out, w32_id, jdiv_nn] at * <;> first | done | omega | assumption) | (intros; first | rfl | (exfalso; omega) | ((repeat' apply And.intro) <;> first | assumption | rfl | omega | trivial))) -- o45 e11.2
  · try dsimp only [Sum.elim_inl, Sum.elim_inr, jt2, jt3, jt4, jt5, jt6, jt7, jt8]
    refine ⟨?_, ?_, ?_⟩
    · exact li -- o46 init.1
    · exact fRq_r -- o47 init.2
    · exact rn.1.2.2.2.2 -- o48 init.3

