/-! x: an act comes, live -/
def frXn (N : Int) (h h' : AH) : Prop := ∀ a s, a ≠ 0 → a < h 0 0 → ¬ (a = 200 ∧ (s = 7 ∨ s = 55 ∨ s = 56)) → ¬ (a = 324 ∧ s = 0) → ¬ (325 ≤ a ∧ a ≤ 329 ∧ 0 ≤ s) → ¬ (a = 434 ∧ 5 ≤ s ∧ s ≤ 7) → ¬ (a = 436 ∧ h 434 5 ≤ s) → ¬ (a = 441 ∧ 0 ≤ s ∧ s ≤ 24) → ¬ ((a = 442 ∨ a = 444) ∧ 0 ≤ s ∧ s < 3) → ¬ (a = 445 ∧ 0 ≤ s) → ¬ ((a = 264 ∨ a = 265 ∨ a = 267 ∨ a = 268) ∧ s = N - 26) → ¬ (a = 266 ∧ 3 * (N - 26) ≤ s ∧ s < 3 * (N - 26) + 3) → ¬ (a = 258 ∧ s = 0) → ¬ (259 ≤ a ∧ a ≤ 262 ∧ h 258 0 ≤ s) → ¬ (a = 263 ∧ 3 * h 258 0 ≤ s) → h' a s = h a s
def xaR (B : Int → Int) (n : Int) (E : EV) (h h' : AH) (v : Int) : Prop := (v < 0 ∧ xaF B n E v h' ∧ frXa h h') ∨ ∃ q l kr T, xaO B n E q l kr T ∧ owGd E l kr T ∧ ¬ tkN E (tV B n q) ∧ ((v = -3 ∧ 200 - h 434 4 < (h 434 5 + n + 123) / 121 ∧ frXa h h') ∨ ((h 434 5 + n + 123) / 121 ≤ 200 - h 434 4 ∧ v = E.1.1 - 25 ∧ lgXa B n 1 h h' ∧ nwX E (tV B n q) kr l T h h' ∧ frXn E.1.1 h h'))
theorem xaO_G {B : Int → Int} {n q kr : Int} {l : List Int} {T : TR} {E : EV} (ac : acE E) (l0 : E.2.2.1 = 0) (ew : ∀ a, 26 ≤ a → 0 ≤ E.1.2.2.2.1 a) (hB : ∀ i, 0 ≤ i → i < n → 0 ≤ B i ∧ B i < 256) (hn : 0 ≤ n ∧ n ≤ 2000) (o : xaO B n E q l kr T) : owGd E l kr T ∧ ¬ tkN E (tV B n q) ∧ tO B n q = 1 ∧ 0 < tS B n q := by
  obtain ⟨o1, o2⟩ := o
  obtain ⟨b, eb, ew1⟩ := bS_r o1
  have br := beg_r eb
  obtain ⟨g1, g2, g3, g4⟩ := owG_of ac l0 ew hB hn.2 (by omega) (by omega) br.2 ew1 o2
  have S := tS_r (B := B) g4.2
  exact ⟨g1, g2, g3, by omega⟩
theorem actX_w {h : AH} {E : EV} (ax : actX h E.1.1 E.1.2.1 E.1.2.2.1 E.1.2.2.2.1 E.1.2.2.2.2) (a : Int) (a0 : 26 ≤ a) (a1 : a < E.1.1) : h 267 (a - 26) = E.1.2.2.2.1 a ∧ E.1.2.2.2.1 a ≤ 40 := by
  obtain ⟨_, _, _, x⟩ := ax
  obtain ⟨_, _, _, _, _, _, x1, _, x2, x3⟩ := x a (by omega) a1
  exact ⟨(x1 a0).2, x3⟩
theorem nmS_hi {h h' : AH} {a w : Int} (n : nmS h a w) (a1 : 1078 ≤ a) (a2 : 1078 ≤ h a 0) (f : ∀ x s, 1078 ≤ x → h' x s = h x s) : nmS h' a w := by
  obtain ⟨c, m, ⟨s1, s2, s3, s4, s5, s6, s7⟩, m8, lt, we⟩ := n
  refine ⟨c, m, ⟨?_, ?_, ?_, ?_, s5, s6, ?_⟩, m8, lt, we⟩
  · rw [f _ _ a1]; exact s1
  · rw [f _ _ a1]; exact s2
  · rw [f a 0 a1, f _ _ a2]; exact s3
  · rw [f a 0 a1, f _ _ a2]; exact s4
  · intro k k0 k1
    rw [f a 0 a1, f _ _ a2]; exact s7 k k0 k1
theorem frXn_mk {h h12 h24 h26 : AH} {N z : Int} (G9 : frXa h h12) (H24 : ∀ a s, a ≠ 0 → a < h 0 0 → ¬ (a = 434 ∧ 5 ≤ s ∧ s ≤ 7) → ¬ (a = 436 ∧ h 434 5 ≤ s) → h24 a s = h12 a s) (f9 : frAd (N - 26) (h 258 0) z h24 h26) : frXn N h h26 := fun a s y0 y1 y2 y3 y4 y5 y6 y7 y8 y9 y10 y11 y12 y13 y14 => (f9 a s (fun q => y2 ⟨q.1, Or.inl q.2⟩) y10 y11 y12 (fun q => y13 ⟨q.1, q.2.1, q.2.2.1⟩) (fun q => y14 ⟨q.1, q.2.1⟩)).trans ((H24 a s y0 y1 y5 y6).trans (G9 a s (fun q => y2 ⟨q.1, Or.inr q.2⟩) y3 y4 y7 y8 y9))
theorem vX1_act {h : AH} {B : Int → Int} {n : Int} {E : EV} (hB : ∀ i, 0 ≤ i → i < n → 0 ≤ B i ∧ B i < 256) (tp : n = h 200 55 ∧ 0 ≤ n ∧ n ≤ 2000 ∧ h 440 (-2) = 103 ∧ n ≤ h 440 (-1) ∧ h 440 (-1) ≤ 1000000 ∧ ∀ i, 0 ≤ i → i < n → h 440 i % 256 = B i ∧ -128 ≤ h 440 i ∧ h 440 i ≤ 127) (ac : acE E) (l0 : E.2.2.1 = 0) (ew : ∀ a, 26 ≤ a → 0 ≤ E.1.2.2.2.1 a) (ax : actX h E.1.1 E.1.2.1 E.1.2.2.1 E.1.2.2.2.1 E.1.2.2.2.2 ∧ Od h) (ob : capT h 324 2200 ∧ h 327 (-2) = 101 ∧ h 444 (-2) = 101 ∧ h 444 (-1) = 3) (lg : 0 ≤ h 434 5 ∧ h 434 5 ≤ 24200 ∧ 0 ≤ h 434 4 ∧ h 434 4 ≤ 200 ∧ 0 ≤ h 434 6 ∧ h 434 6 ≤ 29999) (hp : 1078 ≤ h 0 0 ∧ h 0 1 + 2 ≤ 575367 ∧ h 0 2 + 12 ≤ 7362325) (cx : capT h 258 1300 ∧ 0 ≤ h 258 0 ∧ h 258 0 ≤ 121 * (E.1.1 - 26)) : OK (gX1_act h) (fun r => jt2 r fun v h' => (h 200 53 ≠ 0 → v = -5 ∧ h' = h) ∧ (h 200 53 = 0 → xaR B n E h h' v)) := by
  unfold gX1_act
  refine OK_if (fun c1 => ?_) (fun c1 => ?_)
  · skip
    try simp (disch := omega) only [jst_eq, jst_ne, jst_ni, jI_i, jcmp_lt, jcmp_gt, w32_id, jcpy_out, Sum.elim_inl, Sum.elim_inr, jt2, jt3, jt4, jt5, jt6, jt7, jt8] at c1
    refine OK_jb2 (vX1_takeTape) (fun v3 h4 r1 => ?_)
    try dsimp only [Sum.elim_inl, Sum.elim_inr, jt2, jt3, jt4, jt5, jt6, jt7, jt8] at r1
    obtain ⟨v1, hh1⟩ := r1
    try simp (disch := omega) only [jst_eq, jst_ne, jst_ni, jI_i, jcmp_lt, jcmp_gt, w32_id, jcpy_out, Sum.elim_inl, Sum.elim_inr, jt2, jt3, jt4, jt5, jt6, jt7, jt8] at v1
    try simp (disch := omega) only [jst_eq, jst_ne, jst_ni, jI_i, jcmp_lt, jcmp_gt, w32_id, jcpy_out, Sum.elim_inl, Sum.elim_inr, jt2, jt3, jt4, jt5, jt6, jt7, jt8] at hh1
    have F4 : ∀ a s, ¬ (a = 200 ∧ s = 55) → h4 a s = h a s := fun a s y => by { rw [hh1]; exact jst_o (by omega) }
    have V3 : v3 = n := v1.trans tp.1.symm
    rw [V3]
    refine OK_jl ?_
    have F5 : ∀ a s, ¬ (a = 324 ∧ s = 0) → jst h4 324 0 0 a s = h4 a s := fun a s y => jst_o (by omega)
    have V5 : jst h4 324 0 0 324 0 = 0 := jst_eq
    generalize jst h4 324 0 0 = g5 at *
    have G5 : ∀ a s, ¬ (a = 200 ∧ s = 55) → ¬ (a = 324 ∧ s = 0) → g5 a s = h a s := fun a s y1 y2 => (F5 _ _ y2).trans (F4 _ _ y1)
    refine OK_jb (vX13_beginB (B := B) _ _ _ (by exact hB) (by exact ⟨tp.2.1, tp.2.2.1, by decide, by decide, (G5 _ _ (by omega) (by omega)).trans tp.2.2.2.1, by { rw [G5 _ _ (by omega) (by omega)]; exact tp.2.2.2.2.1 }, fun i i0 i1 => by { rw [G5 _ _ (by omega) (by omega)]; exact tp.2.2.2.2.2.2 i i0 i1 }⟩)) (fun h7 r2 => ?_)
    try dsimp only [Sum.elim_inl, Sum.elim_inr, jt2, jt3, jt4, jt5, jt6, jt7, jt8] at r2
    obtain ⟨sx2, tx2, ce2, fr2, b62⟩ := r2
    try simp (disch := omega) only [jst_eq, jst_ne, jst_ni, jI_i, jcmp_lt, jcmp_gt, w32_id, jcpy_out, Sum.elim_inl, Sum.elim_inr, jt2, jt3, jt4, jt5, jt6, jt7, jt8] at sx2
    try simp (disch := omega) only [jst_eq, jst_ne, jst_ni, jI_i, jcmp_lt, jcmp_gt, w32_id, jcpy_out, Sum.elim_inl, Sum.elim_inr, jt2, jt3, jt4, jt5, jt6, jt7, jt8] at tx2
    try simp (disch := omega) only [jst_eq, jst_ne, jst_ni, jI_i, jcmp_lt, jcmp_gt, w32_id, jcpy_out, Sum.elim_inl, Sum.elim_inr, jt2, jt3, jt4, jt5, jt6, jt7, jt8] at ce2
    try simp (disch := omega) only [jst_eq, jst_ne, jst_ni, jI_i, jcmp_lt, jcmp_gt, w32_id, jcpy_out, Sum.elim_inl, Sum.elim_inr, jt2, jt3, jt4, jt5, jt6, jt7, jt8] at fr2
    try simp (disch := omega) only [jst_eq, jst_ne, jst_ni, jI_i, jcmp_lt, jcmp_gt, w32_id, jcpy_out, Sum.elim_inl, Sum.elim_inr, jt2, jt3, jt4, jt5, jt6, jt7, jt8] at b62
    have G7 : ∀ a s, ¬ (a = 200 ∧ s = 55) → ¬ (a = 324 ∧ s = 0) → ¬ (a = 441 ∧ 0 ≤ s ∧ s ≤ 17) → h7 a s = h a s := fun a s y1 y2 y3 => (fr2 a s (by omega)).trans (G5 a s y1 y2)
    have K7 : FK h7 = 1000000 := by { unfold FK; rw [if_pos (by omega)] }
    have A7 : actX h7 E.1.1 E.1.2.1 E.1.2.2.1 E.1.2.2.2.1 E.1.2.2.2.2 := actX_fr ax.1 (fun a s y => by { unfold actC at y; exact G7 a s (by omega) (by omega) (by omega) })
    have O7 : Od h7 := Od_fr ax.2 (fun a i x y => G7 a i (by omega) (by omega) (by omega))
    refine OK_jb (vX13_own (B := B) (n := n) (A := 440) (E := E) (R := beg B n) (by exact hB) (by exact sx2) (by exact ⟨tx2, A7, O7, ⟨capT_fr ob.1 (fun a x y => G7 _ _ (by omega) (by omega) (by omega)), (G7 _ _ (by omega) (by omega) (by omega)).trans ob.2.1⟩, ⟨(G7 _ _ (by omega) (by omega) (by omega)).trans ob.2.2.1, (G7 _ _ (by omega) (by omega) (by omega)).trans ob.2.2.2⟩, by omega, by omega, ⟨ce2.2.2.2.1, ce2.2.2.2.2.2, ce2.2.2.1⟩, l0⟩) (by exact ⟨(fr2 _ _ (by omega)).trans V5, ce2.2.2.2.2.1⟩) (by exact nm_act O7)) (fun h9 r3 => ?_)
    try dsimp only [Sum.elim_inl, Sum.elim_inr, jt2, jt3, jt4, jt5, jt6, jt7, jt8] at r3
    obtain ⟨vo3, fr3, f83⟩ := r3
    try simp (disch := omega) only [jst_eq, jst_ne, jst_ni, jI_i, jcmp_lt, jcmp_gt, w32_id, jcpy_out, Sum.elim_inl, Sum.elim_inr, jt2, jt3, jt4, jt5, jt6, jt7, jt8] at vo3
    try simp (disch := omega) only [jst_eq, jst_ne, jst_ni, jI_i, jcmp_lt, jcmp_gt, w32_id, jcpy_out, Sum.elim_inl, Sum.elim_inr, jt2, jt3, jt4, jt5, jt6, jt7, jt8] at fr3
    try simp (disch := omega) only [jst_eq, jst_ne, jst_ni, jI_i, jcmp_lt, jcmp_gt, w32_id, jcpy_out, Sum.elim_inl, Sum.elim_inr, jt2, jt3, jt4, jt5, jt6, jt7, jt8] at f83
    rw [K7] at vo3
    have G9 : frXa h h9 := fun a s y1 y2 y3 y4 y5 y6 => (fr3 a s y2 y3 (by omega) y5 y6).trans (G7 a s (by omega) y2 (by omega))
    have T9 : TX B n 440 h9 := TX_fr tx2 (fr3 _ _ (by omega) (by omega) (by omega) (by omega) (by omega)) (fr3 _ _ (by omega) (by omega) (by omega) (by omega) (by omega)) (fun s => fr3 _ _ (by omega) (by omega) (by omega) (by omega) (by omega))
    refine OK_jb2 (vX13_result (by exact ⟨f83.1, f83.2.1⟩) (by exact f83.2.2) (by exact xa_b vo3)) (fun v11 h12 r4 => ?_)
    try dsimp only [Sum.elim_inl, Sum.elim_inr, jt2, jt3, jt4, jt5, jt6, jt7, jt8] at r4
    obtain ⟨b14, b04, bf4⟩ := r4
    try simp (disch := omega) only [jst_eq, jst_ne, jst_ni, jI_i, jcmp_lt, jcmp_gt, w32_id, jcpy_out, Sum.elim_inl, Sum.elim_inr, jt2, jt3, jt4, jt5, jt6, jt7, jt8] at b14
    try simp (disch := omega) only [jst_eq, jst_ne, jst_ni, jI_i, jcmp_lt, jcmp_gt, w32_id, jcpy_out, Sum.elim_inl, Sum.elim_inr, jt2, jt3, jt4, jt5, jt6, jt7, jt8] at b04
    try simp (disch := omega) only [jst_eq, jst_ne, jst_ni, jI_i, jcmp_lt, jcmp_gt, w32_id, jcpy_out, Sum.elim_inl, Sum.elim_inr, jt2, jt3, jt4, jt5, jt6, jt7, jt8] at bf4
    have CS := xa_cs vo3 b14 b04 bf4
    clear b14 b04 bf4
    refine OK_if (fun c2 => ?_) (fun c2 => ?_)
    · skip
      try simp (disch := omega) only [jst_eq, jst_ne, jst_ni, jI_i, jcmp_lt, jcmp_gt, w32_id, jcpy_out, Sum.elim_inl, Sum.elim_inr, jt2, jt3, jt4, jt5, jt6, jt7, jt8] at c2
      have CS := CS.resolve_left (fun z => by { have := z.1; omega })
      obtain ⟨V11, E12, q, l, kr, T, XO, XT⟩ := CS
      have GO := xaO_G ac l0 ew hB ⟨tp.2.1, tp.2.2.1⟩ XO
      rw [← E12] at XT G9 T9
      obtain ⟨GO, TK, O1, S0⟩ := GO
      refine OK_jb2 (vX12_begin _ _ (by (rw [G9 _ _ (by omega) (by omega) (by omega) (by omega) (by omega) (by omega)]; omega)) (by (rw [G9 _ _ (by omega) (by omega) (by omega) (by omega) (by omega) (by omega)]; omega)) (by omega)) (fun v15 h16 r5 => ?_)
      try dsimp only [Sum.elim_inl, Sum.elim_inr, jt2, jt3, jt4, jt5, jt6, jt7, jt8] at r5
      have bg5 := r5
      clear r5
      try simp (disch := omega) only [jst_eq, jst_ne, jst_ni, jI_i, jcmp_lt, jcmp_gt, w32_id, jcpy_out, Sum.elim_inl, Sum.elim_inr, jt2, jt3, jt4, jt5, jt6, jt7, jt8] at bg5
      have Z4 : h12 434 4 = h 434 4 := G9 _ _ (by omega) (by omega) (by omega) (by omega) (by omega) (by omega)
      have Z5 : h12 434 5 = h 434 5 := G9 _ _ (by omega) (by omega) (by omega) (by omega) (by omega) (by omega)
      have Z6 : h12 434 6 = h 434 6 := G9 _ _ (by omega) (by omega) (by omega) (by omega) (by omega) (by omega)
      rw [Z4, Z5] at bg5
      refine OK_if (fun c3 => ?_) (fun c3 => ?_)
      · skip
        try simp (disch := omega) only [jst_eq, jst_ne, jst_ni, jI_i, jcmp_lt, jcmp_gt, w32_id, jcpy_out, Sum.elim_inl, Sum.elim_inr, jt2, jt3, jt4, jt5, jt6, jt7, jt8] at c3
        have B5 := bg5.resolve_right (fun z => by { have := z.1; omega })
        refine OK_some ?_
        try dsimp only [Sum.elim_inl, Sum.elim_inr, jt2, jt3, jt4, jt5, jt6, jt7, jt8]
        try dsimp only [Sum.elim_inl, Sum.elim_inr, jt2, jt3, jt4, jt5, jt6, jt7, jt8]
        refine ⟨?_, ?_⟩
        · exact fun z => absurd c1 z -- o14 e1.1
        · exact fun _ => Or.inr ⟨q, l, kr, T, XO, GO, TK, Or.inl ⟨rfl, B5.2.1, by { rw [B5.2.2]; exact G9 }⟩⟩ -- o15 e1.2
      · skip
        try simp (disch := omega) only [jst_eq, jst_ne, jst_ni, jI_i, jcmp_lt, jcmp_gt, w32_id, jcpy_out, Sum.elim_inl, Sum.elim_inr, jt2, jt3, jt4, jt5, jt6, jt7, jt8] at c3
        have B5 := bg5.resolve_left (fun z => by { have := z.1; omega })
        obtain ⟨_, RM, Z7, HD, HR, FB⟩ := B5
        clear bg5
        have P16 : h16 440 (-1) = h 440 (-1) := (FB _ _ (by omega) (by omega)).trans (G9 _ _ (by omega) (by omega) (by omega) (by omega) (by omega) (by omega))
        refine OK_jb (vX12_put_2 _ _ (by (rw [P16]; omega)) (by exact (FB _ _ (by omega) (by omega)).trans ((G9 _ _ (by omega) (by omega) (by omega) (by omega) (by omega) (by omega)).trans tp.2.2.2.1)) (by (constructor; decide; decide)) (by omega)) (fun h19 r6 => ?_)
        try dsimp only [Sum.elim_inl, Sum.elim_inr, jt2, jt3, jt4, jt5, jt6, jt7, jt8] at r6
        obtain ⟨n6, b6, fr6⟩ := r6
        try simp (disch := omega) only [jst_eq, jst_ne, jst_ni, jI_i, jcmp_lt, jcmp_gt, w32_id, jcpy_out, Sum.elim_inl, Sum.elim_inr, jt2, jt3, jt4, jt5, jt6, jt7, jt8] at n6
        try simp (disch := omega) only [jst_eq, jst_ne, jst_ni, jI_i, jcmp_lt, jcmp_gt, w32_id, jcpy_out, Sum.elim_inl, Sum.elim_inr, jt2, jt3, jt4, jt5, jt6, jt7, jt8] at b6
        try simp (disch := omega) only [jst_eq, jst_ne, jst_ni, jI_i, jcmp_lt, jcmp_gt, w32_id, jcpy_out, Sum.elim_inl, Sum.elim_inr, jt2, jt3, jt4, jt5, jt6, jt7, jt8] at fr6
        have Y6 : h19 434 6 = h 434 6 := (fr6 _ _ (by omega) (by omega)).trans ((FB _ _ (by omega) (by omega)).trans Z6)
        refine OK_jb (vX12_end (by (rw [Y6]; omega))) (fun h21 r7 => ?_)
        try dsimp only [Sum.elim_inl, Sum.elim_inr, jt2, jt3, jt4, jt5, jt6, jt7, jt8] at r7
        obtain ⟨z7, n7, fr7⟩ := r7
        try simp (disch := omega) only [jst_eq, jst_ne, jst_ni, jI_i, jcmp_lt, jcmp_gt, w32_id, jcpy_out, Sum.elim_inl, Sum.elim_inr, jt2, jt3, jt4, jt5, jt6, jt7, jt8] at z7
        try simp (disch := omega) only [jst_eq, jst_ne, jst_ni, jI_i, jcmp_lt, jcmp_gt, w32_id, jcpy_out, Sum.elim_inl, Sum.elim_inr, jt2, jt3, jt4, jt5, jt6, jt7, jt8] at n7
        try simp (disch := omega) only [jst_eq, jst_ne, jst_ni, jI_i, jcmp_lt, jcmp_gt, w32_id, jcpy_out, Sum.elim_inl, Sum.elim_inr, jt2, jt3, jt4, jt5, jt6, jt7, jt8] at fr7
        have H21 : ∀ a s, ¬ (a = 434 ∧ 5 ≤ s ∧ s ≤ 7) → ¬ (a = 436 ∧ h 434 5 ≤ s) → h21 a s = h12 a s := fun a s y1 y2 => (fr7 a s (by omega)).trans ((fr6 a s (by omega) (by omega)).trans (FB a s (by omega) (by omega)))
        have T21 : TX B n 440 h21 := TX_fr T9 (H21 _ _ (by omega) (by omega)) (H21 _ _ (by omega) (by omega)) (fun s => H21 _ _ (by omega) (by omega))
        obtain ⟨x0, x23, xr, x24, x13, xk, x21, x22⟩ := XT
        refine OK_jb2 (vX13_ownName (B := B) (n := n) (A := 440) (q := q) (by exact hB) (by exact T21) (by exact Or.inr rfl) (by exact O1) (by exact ⟨(H21 _ _ (by omega) (by omega)).trans x21, (H21 _ _ (by omega) (by omega)).trans x22, S0⟩) (by (rw [H21 _ _ (by omega) (by omega), H21 _ _ (by omega) (by omega), H21 _ _ (by omega) (by omega), G9 _ _ (by omega) (by omega) (by omega) (by omega) (by omega) (by omega), G9 _ _ (by omega) (by omega) (by omega) (by omega) (by omega) (by omega), G9 _ _ (by omega) (by omega) (by omega) (by omega) (by omega) (by omega)]; exact hp)) (by (rw [H21 _ _ (by omega) (by omega), G9 _ _ (by omega) (by omega) (by omega) (by omega) (by omega) (by omega)]; exact tp.2.2.2.2.2.1))) (fun v23 h24 r8 => ?_)
        try dsimp only [Sum.elim_inl, Sum.elim_inr, jt2, jt3, jt4, jt5, jt6, jt7, jt8] at r8
        have nn8 := r8
        clear r8
        try simp (disch := omega) only [jst_eq, jst_ne, jst_ni, jI_i, jcmp_lt, jcmp_gt, w32_id, jcpy_out, Sum.elim_inl, Sum.elim_inr, jt2, jt3, jt4, jt5, jt6, jt7, jt8] at nn8
        obtain ⟨nv, nS, n0, n00, n01, n02, fn⟩ := nn8
        have J : ∀ s, h21 0 s = h 0 s := fun s => (H21 _ _ (by omega) (by omega)).trans (G9 _ _ (by omega) (by omega) (by omega) (by omega) (by omega) (by omega))
        rw [J] at nv n0 n00 n01 n02 fn
        have H24 : ∀ a s, a ≠ 0 → a < h 0 0 → ¬ (a = 434 ∧ 5 ≤ s ∧ s ≤ 7) → ¬ (a = 436 ∧ h 434 5 ≤ s) → h24 a s = h12 a s := fun a s y1 y2 y3 y4 => (fn a s y1 y2).trans (H21 a s y3 y4)
        have K24 : ∀ a s, a ≠ 0 → a < h 0 0 → ¬ (a = 434 ∧ 5 ≤ s ∧ s ≤ 7) → ¬ (a = 436 ∧ h 434 5 ≤ s) → ¬ (a = 200 ∧ (s = 55 ∨ s = 56)) → ¬ (324 ≤ a ∧ a ≤ 329) → ¬ (441 ≤ a ∧ a ≤ 445) → h24 a s = h a s := fun a s y1 y2 y3 y4 y5 y6 y7 => (H24 a s y1 y2 y3 y4).trans (G9 a s y5 (by omega) (by omega) (by omega) (by omega) (by omega))
        have X23 : h24 441 23 = 0 := (H24 _ _ (by omega) (by omega) (by omega) (by omega)).trans x23
        have X13' : h24 441 13 = (l.length : Int) := (H24 _ _ (by omega) (by omega) (by omega) (by omega)).trans x13
        have X24 : h24 441 24 = kr := (H24 _ _ (by omega) (by omega) (by omega) (by omega)).trans x24
        rw [X23, X13', X24, nv]
        have G0 := GO
        obtain ⟨ll, lk, e35, tmw, krr, wt, sz1, dp1, hl0, ar⟩ := GO
        have SZ : sz (rsE (EL E l) T 0) = sz T := sz_rs _ _ _ _ _ _ T 0
        have SP := sz_pos T
        have C8 : h24 258 0 = h 258 0 := K24 _ _ (by omega) (by omega) (by omega) (by omega) (by omega) (by omega) (by omega)
        have E26 := ac.1
        have O24 : h24 200 7 = E.1.1 - 26 := (K24 _ _ (by omega) (by omega) (by omega) (by omega) (by omega) (by omega) (by omega)).trans ax.1.1
        have TR : trX h12 324 0 2200 (rsE (EL E l) T 0) 0 0 := rXc_tr ac tmw.1 xr (by omega) (by omega) (by omega) (by omega) (by omega)
        refine OK_jb (vX1_addOwn (o := E.1.1 - 26) (N := h 258 0) (M1 := 2200) (R := rsE (EL E l) T 0) (wA := E.1.2.2.2.1) _ _ _ _ _ _ (by exact ⟨O24, by omega, by omega⟩) (by (obtain ⟨c, m, ⟨s1, _⟩, _⟩ := nS; rw [nv] at s1; exact s1)) (by exact ew) (by exact fun a a0 a1 => by { rw [K24 _ _ (by omega) (by omega) (by omega) (by omega) (by omega) (by omega) (by omega)]; exact actX_w ax.1 a a0 (by omega) }) (by exact trX_fr (fun a s x y z w => H24 _ _ (by omega) (by omega) (by omega) (by omega)) (fun s z w => H24 _ _ (by omega) (by omega) (by omega) (by omega)) TR (Int.le_refl _)) (by exact ⟨capT_fr cx.1 (fun a x y => K24 _ _ (by omega) (by omega) (by omega) (by omega) (by omega) (by omega) (by omega)), capT_fr ob.1 (fun a x y => (H24 _ _ (by omega) (by omega) (by omega) (by omega)).trans (G9 _ _ (by omega) (by omega) (by omega) (by omega) (by omega) (by omega))), by omega, by omega⟩) (by (rw [C8, SZ]; omega)) (by exact ⟨by omega, by { rw [show E.1.1 - 26 + 26 = E.1.1 by omega]; exact ar }, by omega⟩) (by exact ⟨(H24 _ _ (by omega) (by omega) (by omega) (by omega)).trans ((G9 _ _ (by omega) (by omega) (by omega) (by omega) (by omega) (by omega)).trans ob.2.2.1), by { rw [H24 _ _ (by omega) (by omega) (by omega) (by omega), G9 _ _ (by omega) (by omega) (by omega) (by omega) (by omega) (by omega), ob.2.2.2]; decide }, by decide⟩)) (fun h26 r9 => ?_)
        try dsimp only [Sum.elim_inl, Sum.elim_inr, jt2, jt3, jt4, jt5, jt6, jt7, jt8] at r9
        obtain ⟨vv9, tx9, fr9⟩ := r9
        try simp (disch := omega) only [jst_eq, jst_ne, jst_ni, jI_i, jcmp_lt, jcmp_gt, w32_id, jcpy_out, Sum.elim_inl, Sum.elim_inr, jt2, jt3, jt4, jt5, jt6, jt7, jt8] at vv9
        try simp (disch := omega) only [jst_eq, jst_ne, jst_ni, jI_i, jcmp_lt, jcmp_gt, w32_id, jcpy_out, Sum.elim_inl, Sum.elim_inr, jt2, jt3, jt4, jt5, jt6, jt7, jt8] at tx9
        try simp (disch := omega) only [jst_eq, jst_ne, jst_ni, jI_i, jcmp_lt, jcmp_gt, w32_id, jcpy_out, Sum.elim_inl, Sum.elim_inr, jt2, jt3, jt4, jt5, jt6, jt7, jt8] at fr9
        have L : ∀ s, h26 436 s = h19 436 s := fun s => (fr9 _ _ (by omega) (by omega) (by omega) (by omega) (by omega) (by omega)).trans ((fn _ _ (by omega) (by omega)).trans (fr7 _ _ (by omega)))
        have L3 : ∀ s, s < h 434 5 + 3 → h26 436 s = h16 436 s := fun s y => (L s).trans (fr6 _ _ (by omega) (by omega))
        have LB : ∀ k, 0 ≤ k → k < n → h26 436 (h 434 5 + 3 + k) % 256 = B k ∧ -128 ≤ h26 436 (h 434 5 + 3 + k) ∧ h26 436 (h 434 5 + 3 + k) ≤ 127 := fun k k0 k1 => by { have y := b6 k k0 k1; rw [Z7, FB 440 k (by omega) (by omega), G9 440 k (by omega) (by omega) (by omega) (by omega) (by omega) (by omega), (tp.2.2.2.2.2.2 k k0 k1).1] at y; rw [L]; exact y }
        have D5 : h26 434 5 = h 434 5 + 3 + n := by { rw [fr9 _ _ (by omega) (by omega) (by omega) (by omega) (by omega) (by omega), fn _ _ (by omega) (by omega), z7, n6, Z7] }
        have D6 : h26 434 6 = h 434 6 + 1 := by { rw [fr9 _ _ (by omega) (by omega) (by omega) (by omega) (by omega) (by omega), fn _ _ (by omega) (by omega), n7, Y6] }
        have LX : lgXa B n 1 h h26 := ⟨D5, D6, ⟨by { rw [L3 _ (by omega)]; have := HD.1; omega }, by { rw [L3 _ (by omega)]; exact HD.2.1 }, by { rw [L3 _ (by omega)]; exact HD.2.2 }⟩, fun k k0 k1 => (LB k k0 k1).1, fun k k0 k1 => by { by_cases c : k < 3; { rw [L3 _ (by omega)]; exact HR k k0 c }; { rw [show h 434 5 + k = h 434 5 + 3 + (k - 3) by omega]; exact (LB (k - 3) (by omega) (by omega)).2 } }⟩
        have F26 : ∀ x s, 1078 ≤ x → h26 x s = h24 x s := fun x s y => fr9 _ _ (by omega) (by omega) (by omega) (by omega) (by omega) (by omega)
        have F0 : ∀ s, h26 0 s = h24 0 s := fun s => fr9 _ _ (by omega) (by omega) (by omega) (by omega) (by omega) (by omega)
        rw [nv] at nS n0
        have NS : nmS h26 (h 0 0) (tV B n q) := nmS_hi nS hp.1 (by { rw [n0]; omega }) F26
        rw [SZ] at tx9
        have NX : nwX E (tV B n q) kr l T h h26 := ⟨by { have := vv9.1; omega }, vv9.2.1, NS, (F26 _ _ hp.1).trans n0, vv9.2.2.1, vv9.2.2.2.1, fun k k0 k1 => (vv9.2.2.2.2.1 k k0 (by omega)).trans ((H24 _ _ (by omega) (by omega) (by omega) (by omega)).trans (xk k k0 k1)), vv9.2.2.2.2.2.1, vv9.2.2.2.2.2.2, tx9.1, tx9.2, (F0 0).trans n00, (F0 1).trans n01, by { rw [F0 2]; exact n02 }⟩
        have FX : frXn E.1.1 h h26 := frXn_mk G9 H24 fr9
        refine OK_some ?_
        try dsimp only [Sum.elim_inl, Sum.elim_inr, jt2, jt3, jt4, jt5, jt6, jt7, jt8]
        try dsimp only [Sum.elim_inl, Sum.elim_inr, jt2, jt3, jt4, jt5, jt6, jt7, jt8]
        refine ⟨?_, ?_⟩
        · exact fun z => absurd c1 z -- o37 e2.1
        · exact fun _ => Or.inr ⟨q, l, kr, T, XO, G0, TK, Or.inr ⟨RM, NX.1, LX, NX, FX⟩⟩ -- o38 e2.2
    · skip
      try simp (disch := omega) only [jst_eq, jst_ne, jst_ni, jI_i, jcmp_lt, jcmp_gt, w32_id, jcpy_out, Sum.elim_inl, Sum.elim_inr, jt2, jt3, jt4, jt5, jt6, jt7, jt8] at c2
      have CS := CS.resolve_right (fun z => by { have := z.1; omega })
      refine OK_some ?_
      try dsimp only [Sum.elim_inl, Sum.elim_inr, jt2, jt3, jt4, jt5, jt6, jt7, jt8]
      try dsimp only [Sum.elim_inl, Sum.elim_inr, jt2, jt3, jt4, jt5, jt6, jt7, jt8]
      refine ⟨?_, ?_⟩
      · exact fun z => absurd c1 z -- o39 e3.1
      · exact fun _ => Or.inl ⟨CS.1, CS.2.1, fun a s y1 y2 y3 y4 y5 y6 => (CS.2.2 a s (by omega)).trans (G9 a s y1 y2 y3 y4 y5 y6)⟩ -- o40 e3.2
  · skip
    try simp (disch := omega) only [jst_eq, jst_ne, jst_ni, jI_i, jcmp_lt, jcmp_gt, w32_id, jcpy_out, Sum.elim_inl, Sum.elim_inr, jt2, jt3, jt4, jt5, jt6, jt7, jt8] at c1
    refine OK_some ?_
    try dsimp only [Sum.elim_inl, Sum.elim_inr, jt2, jt3, jt4, jt5, jt6, jt7, jt8]
    try dsimp only [Sum.elim_inl, Sum.elim_inr, jt2, jt3, jt4, jt5, jt6, jt7, jt8]
    refine ⟨?_, ?_⟩
    · exact fun _ => ⟨rfl, rfl⟩ -- o41 e4.1
    · exact fun z => absurd z c1 -- o42 e4.2

