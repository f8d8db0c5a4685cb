/-! x: an act comes, from a tape that is replayed -/
def frXo (N : Int) (h h' : AH) : Prop := ∀ a s, a ≠ 0 → a < h 0 0 → ¬ (a = 200 ∧ (s = 7 ∨ s = 56)) → ¬ (a = 324 ∧ s = 0) → ¬ (325 ≤ a ∧ a ≤ 329 ∧ 0 ≤ s) → ¬ (a = 441 ∧ 0 ≤ s ∧ s ≤ 24) → ¬ ((a = 442 ∨ a = 444) ∧ 0 ≤ s ∧ s < 3) → ¬ (a = 445 ∧ 0 ≤ s) → ¬ ((a = 264 ∨ a = 265 ∨ a = 267 ∨ a = 268) ∧ s = N - 26) → ¬ (a = 266 ∧ 3 * (N - 26) ≤ s ∧ s < 3 * (N - 26) + 3) → ¬ (a = 258 ∧ s = 0) → ¬ (259 ≤ a ∧ a ≤ 262 ∧ h 258 0 ≤ s) → ¬ (a = 263 ∧ 3 * h 258 0 ≤ s) → h' a s = h a s
def xoR (B : Int → Int) (n : Int) (E : EV) (h h' : AH) (v : Int) : Prop := (v < 0 ∧ xaF B n E v h' ∧ frXa h h') ∨ ∃ q l kr T, xaO B n E q l kr T ∧ owGd E l kr T ∧ ¬ tkN E (tV B n q) ∧ v = 0 ∧ nwX E (tV B n q) kr l T h h' ∧ frXo E.1.1 h h'
theorem vX1_actOf (a2 : Int) {h : AH} {B : Int → Int} {E : EV} (hB : ∀ i, 0 ≤ i → i < a2 → 0 ≤ B i ∧ B i < 256) (tp : 0 ≤ a2 ∧ h 439 (-2) = 103 ∧ a2 ≤ h 439 (-1) ∧ h 439 (-1) ≤ 1000000 ∧ ∀ i, 0 ≤ i → i < a2 → h 439 i % 256 = B i ∧ -128 ≤ h 439 i ∧ h 439 i ≤ 127) (ac : acE E) (l0 : E.2.2.1 = 0) (ew : ∀ a, 26 ≤ a → 0 ≤ E.1.2.2.2.1 a) (ax : actX h E.1.1 E.1.2.1 E.1.2.2.1 E.1.2.2.2.1 E.1.2.2.2.2 ∧ Od h) (ob : capT h 324 2200 ∧ h 327 (-2) = 101 ∧ h 444 (-2) = 101 ∧ h 444 (-1) = 3) (hp : 1078 ≤ h 0 0 ∧ h 0 1 + 2 ≤ 575367 ∧ h 0 2 + 12 ≤ 7362325) (cx : capT h 258 1300 ∧ 0 ≤ h 258 0 ∧ h 258 0 ≤ 121 * (E.1.1 - 26)) : OK (gX1_actOf a2 h) (fun r => jt2 r fun v h' => (¬ a2 ≤ 2000 → v = -1 ∧ h' = h) ∧ (a2 ≤ 2000 → xoR B a2 E h h' v)) := by
  unfold gX1_actOf
  refine OK_if (fun c1 => ?_) (fun c1 => ?_)
  · skip
    try simp (disch := omega) only [jst_eq, jst_ne, jst_ni, jI_i, jcmp_lt, jcmp_gt, w32_id, jcpy_out, Sum.elim_inl, Sum.elim_inr, jt2, jt3, jt4, jt5, jt6, jt7, jt8] at c1
    refine OK_jl ?_
    have G5 : ∀ a s, ¬ (a = 324 ∧ s = 0) → jst h 324 0 0 a s = h a s := fun a s y => jst_o (by omega)
    have V5 : jst h 324 0 0 324 0 = 0 := jst_eq
    generalize jst h 324 0 0 = g5 at *
    refine OK_jb (vX13_beginB (B := B) _ _ _ (by exact hB) (by exact ⟨tp.1, by omega, by decide, by decide, (G5 _ _ (by omega)).trans tp.2.1, by { rw [G5 _ _ (by omega)]; exact tp.2.2.1 }, fun i i0 i1 => by { rw [G5 _ _ (by omega)]; exact tp.2.2.2.2 i i0 i1 }⟩)) (fun h4 r1 => ?_)
    try dsimp only [Sum.elim_inl, Sum.elim_inr, jt2, jt3, jt4, jt5, jt6, jt7, jt8] at r1
    obtain ⟨sx1, tx1, ce1, fr1, b61⟩ := r1
    try simp (disch := omega) only [jst_eq, jst_ne, jst_ni, jI_i, jcmp_lt, jcmp_gt, w32_id, jcpy_out, Sum.elim_inl, Sum.elim_inr, jt2, jt3, jt4, jt5, jt6, jt7, jt8] at sx1
    try simp (disch := omega) only [jst_eq, jst_ne, jst_ni, jI_i, jcmp_lt, jcmp_gt, w32_id, jcpy_out, Sum.elim_inl, Sum.elim_inr, jt2, jt3, jt4, jt5, jt6, jt7, jt8] at tx1
    try simp (disch := omega) only [jst_eq, jst_ne, jst_ni, jI_i, jcmp_lt, jcmp_gt, w32_id, jcpy_out, Sum.elim_inl, Sum.elim_inr, jt2, jt3, jt4, jt5, jt6, jt7, jt8] at ce1
    try simp (disch := omega) only [jst_eq, jst_ne, jst_ni, jI_i, jcmp_lt, jcmp_gt, w32_id, jcpy_out, Sum.elim_inl, Sum.elim_inr, jt2, jt3, jt4, jt5, jt6, jt7, jt8] at fr1
    try simp (disch := omega) only [jst_eq, jst_ne, jst_ni, jI_i, jcmp_lt, jcmp_gt, w32_id, jcpy_out, Sum.elim_inl, Sum.elim_inr, jt2, jt3, jt4, jt5, jt6, jt7, jt8] at b61
    have G7 : ∀ a s, ¬ (a = 324 ∧ s = 0) → ¬ (a = 441 ∧ 0 ≤ s ∧ s ≤ 17) → h4 a s = h a s := fun a s y2 y3 => (fr1 a s (by omega)).trans (G5 a s y2)
    have K7 : FK h4 = 1000000 := by { unfold FK; rw [if_pos (by omega)] }
    have A7 : actX h4 E.1.1 E.1.2.1 E.1.2.2.1 E.1.2.2.2.1 E.1.2.2.2.2 := actX_fr ax.1 (fun a s y => by { unfold actC at y; exact G7 a s (by omega) (by omega) })
    have O7 : Od h4 := Od_fr ax.2 (fun a i x y => G7 a i (by omega) (by omega))
    refine OK_jb (vX13_own (B := B) (n := a2) (A := 439) (E := E) (R := beg B a2) (by exact hB) (by exact sx1) (by exact ⟨tx1, A7, O7, ⟨capT_fr ob.1 (fun a x y => G7 _ _ (by omega) (by omega)), (G7 _ _ (by omega) (by omega)).trans ob.2.1⟩, ⟨(G7 _ _ (by omega) (by omega)).trans ob.2.2.1, (G7 _ _ (by omega) (by omega)).trans ob.2.2.2⟩, by omega, by omega, ⟨ce1.2.2.2.1, ce1.2.2.2.2.2, ce1.2.2.1⟩, l0⟩) (by exact ⟨(fr1 _ _ (by omega)).trans V5, ce1.2.2.2.2.1⟩) (by exact nm_act O7)) (fun h6 r2 => ?_)
    try dsimp only [Sum.elim_inl, Sum.elim_inr, jt2, jt3, jt4, jt5, jt6, jt7, jt8] at r2
    obtain ⟨vo2, fr2, f82⟩ := r2
    try simp (disch := omega) only [jst_eq, jst_ne, jst_ni, jI_i, jcmp_lt, jcmp_gt, w32_id, jcpy_out, Sum.elim_inl, Sum.elim_inr, jt2, jt3, jt4, jt5, jt6, jt7, jt8] at vo2
    try simp (disch := omega) only [jst_eq, jst_ne, jst_ni, jI_i, jcmp_lt, jcmp_gt, w32_id, jcpy_out, Sum.elim_inl, Sum.elim_inr, jt2, jt3, jt4, jt5, jt6, jt7, jt8] at fr2
    try simp (disch := omega) only [jst_eq, jst_ne, jst_ni, jI_i, jcmp_lt, jcmp_gt, w32_id, jcpy_out, Sum.elim_inl, Sum.elim_inr, jt2, jt3, jt4, jt5, jt6, jt7, jt8] at f82
    rw [K7] at vo2
    have G9 : frXa h h6 := fun a s y1 y2 y3 y4 y5 y6 => (fr2 a s y2 y3 (by omega) y5 y6).trans (G7 a s y2 (by omega))
    have T9 : TX B a2 439 h6 := TX_fr tx1 (fr2 _ _ (by omega) (by omega) (by omega) (by omega) (by omega)) (fr2 _ _ (by omega) (by omega) (by omega) (by omega) (by omega)) (fun s => fr2 _ _ (by omega) (by omega) (by omega) (by omega) (by omega))
    have G55 : h6 200 55 = h 200 55 := (fr2 _ _ (by omega) (by omega) (by omega) (by omega) (by omega)).trans (G7 _ _ (by omega) (by omega))
    refine OK_jb2 (vX13_result (by exact ⟨f82.1, f82.2.1⟩) (by exact f82.2.2) (by exact xa_b vo2)) (fun v8 h9 r3 => ?_)
    try dsimp only [Sum.elim_inl, Sum.elim_inr, jt2, jt3, jt4, jt5, jt6, jt7, jt8] at r3
    obtain ⟨b13, b03, bf3⟩ := r3
    try simp (disch := omega) only [jst_eq, jst_ne, jst_ni, jI_i, jcmp_lt, jcmp_gt, w32_id, jcpy_out, Sum.elim_inl, Sum.elim_inr, jt2, jt3, jt4, jt5, jt6, jt7, jt8] at b13
    try simp (disch := omega) only [jst_eq, jst_ne, jst_ni, jI_i, jcmp_lt, jcmp_gt, w32_id, jcpy_out, Sum.elim_inl, Sum.elim_inr, jt2, jt3, jt4, jt5, jt6, jt7, jt8] at b03
    try simp (disch := omega) only [jst_eq, jst_ne, jst_ni, jI_i, jcmp_lt, jcmp_gt, w32_id, jcpy_out, Sum.elim_inl, Sum.elim_inr, jt2, jt3, jt4, jt5, jt6, jt7, jt8] at bf3
    have CS := xa_cs vo2 b13 b03 bf3
    clear b13 b03 bf3
    refine OK_if (fun c2 => ?_) (fun c2 => ?_)
    · skip
      try simp (disch := omega) only [jst_eq, jst_ne, jst_ni, jI_i, jcmp_lt, jcmp_gt, w32_id, jcpy_out, Sum.elim_inl, Sum.elim_inr, jt2, jt3, jt4, jt5, jt6, jt7, jt8] at c2
      have CS := CS.resolve_left (fun z => by { have := z.1; omega })
      obtain ⟨V11, E12, q, l, kr, T, XO, XT⟩ := CS
      have GO := xaO_G ac l0 ew hB ⟨tp.1, c1⟩ XO
      rw [← E12] at XT G9 T9
      obtain ⟨GO, TK, O1, S0⟩ := GO
      obtain ⟨x0, x23, xr, x24, x13, xk, x21, x22⟩ := XT
      rw [← E12] at G55
      refine OK_jb2 (vX13_ownName (B := B) (n := a2) (A := 439) (q := q) (by exact hB) (by exact T9) (by exact Or.inl rfl) (by exact O1) (by exact ⟨x21, x22, S0⟩) (by (rw [G9 _ _ (by omega) (by omega) (by omega) (by omega) (by omega) (by omega), G9 _ _ (by omega) (by omega) (by omega) (by omega) (by omega) (by omega), G9 _ _ (by omega) (by omega) (by omega) (by omega) (by omega) (by omega)]; exact hp)) (by (rw [G9 _ _ (by omega) (by omega) (by omega) (by omega) (by omega) (by omega)]; exact tp.2.2.2.1))) (fun v12 h13 r4 => ?_)
      try dsimp only [Sum.elim_inl, Sum.elim_inr, jt2, jt3, jt4, jt5, jt6, jt7, jt8] at r4
      have nn4 := r4
      clear r4
      try simp (disch := omega) only [jst_eq, jst_ne, jst_ni, jI_i, jcmp_lt, jcmp_gt, w32_id, jcpy_out, Sum.elim_inl, Sum.elim_inr, jt2, jt3, jt4, jt5, jt6, jt7, jt8] at nn4
      obtain ⟨nv, nS, n0, n00, n01, n02, fn⟩ := nn4
      have J : ∀ s, h9 0 s = h 0 s := fun s => G9 _ _ (by omega) (by omega) (by omega) (by omega) (by omega) (by omega)
      rw [J] at nv n0 n00 n01 n02 fn
      have H24 : ∀ a s, a ≠ 0 → a < h 0 0 → h13 a s = h9 a s := fun a s y1 y2 => fn a s y1 y2
      have K24 : ∀ a s, a ≠ 0 → a < h 0 0 → ¬ (a = 200 ∧ (s = 55 ∨ s = 56)) → ¬ (324 ≤ a ∧ a ≤ 329) → ¬ (441 ≤ a ∧ a ≤ 445) → h13 a s = h a s := fun a s y1 y2 y5 y6 y7 => (H24 a s y1 y2).trans (G9 a s y5 (by omega) (by omega) (by omega) (by omega) (by omega))
      have X23 : h13 441 23 = 0 := (H24 _ _ (by omega) (by omega)).trans x23
      have X13' : h13 441 13 = (l.length : Int) := (H24 _ _ (by omega) (by omega)).trans x13
      have X24 : h13 441 24 = kr := (H24 _ _ (by omega) (by omega)).trans x24
      rw [X23, X13', X24, nv]
      have G0 := GO
      obtain ⟨ll, lk, e35, tmw, krr, wt, sz1, dp1, hl0, ar⟩ := GO
      have SZ : sz (rsE (EL E l) T 0) = sz T := sz_rs _ _ _ _ _ _ T 0
      have SP := sz_pos T
      have C8 : h13 258 0 = h 258 0 := K24 _ _ (by omega) (by omega) (by omega) (by omega) (by omega)
      have E26 := ac.1
      have O24 : h13 200 7 = E.1.1 - 26 := (K24 _ _ (by omega) (by omega) (by omega) (by omega) (by omega)).trans ax.1.1
      have TR : trX h9 324 0 2200 (rsE (EL E l) T 0) 0 0 := rXc_tr ac tmw.1 xr (by omega) (by omega) (by omega) (by omega) (by omega)
      refine OK_jb (vX1_addOwn (o := E.1.1 - 26) (N := h 258 0) (M1 := 2200) (R := rsE (EL E l) T 0) (wA := E.1.2.2.2.1) _ _ _ _ _ _ (by exact ⟨O24, by omega, by omega⟩) (by (obtain ⟨c, m, ⟨s1, _⟩, _⟩ := nS; rw [nv] at s1; exact s1)) (by exact ew) (by exact fun a a0 a1 => by { rw [K24 _ _ (by omega) (by omega) (by omega) (by omega) (by omega)]; exact actX_w ax.1 a a0 (by omega) }) (by exact trX_fr (fun a s x y z w => H24 _ _ (by omega) (by omega)) (fun s z w => H24 _ _ (by omega) (by omega)) TR (Int.le_refl _)) (by exact ⟨capT_fr cx.1 (fun a x y => K24 _ _ (by omega) (by omega) (by omega) (by omega) (by omega)), capT_fr ob.1 (fun a x y => (H24 _ _ (by omega) (by omega)).trans (G9 _ _ (by omega) (by omega) (by omega) (by omega) (by omega) (by omega))), by omega, by omega⟩) (by (rw [C8, SZ]; omega)) (by exact ⟨by omega, by { rw [show E.1.1 - 26 + 26 = E.1.1 by omega]; exact ar }, by omega⟩) (by exact ⟨(H24 _ _ (by omega) (by omega)).trans ((G9 _ _ (by omega) (by omega) (by omega) (by omega) (by omega) (by omega)).trans ob.2.2.1), by { rw [H24 _ _ (by omega) (by omega), G9 _ _ (by omega) (by omega) (by omega) (by omega) (by omega) (by omega), ob.2.2.2]; decide }, by decide⟩)) (fun h15 r5 => ?_)
      try dsimp only [Sum.elim_inl, Sum.elim_inr, jt2, jt3, jt4, jt5, jt6, jt7, jt8] at r5
      obtain ⟨vv5, tx5, fr5⟩ := r5
      try simp (disch := omega) only [jst_eq, jst_ne, jst_ni, jI_i, jcmp_lt, jcmp_gt, w32_id, jcpy_out, Sum.elim_inl, Sum.elim_inr, jt2, jt3, jt4, jt5, jt6, jt7, jt8] at vv5
      try simp (disch := omega) only [jst_eq, jst_ne, jst_ni, jI_i, jcmp_lt, jcmp_gt, w32_id, jcpy_out, Sum.elim_inl, Sum.elim_inr, jt2, jt3, jt4, jt5, jt6, jt7, jt8] at tx5
      try simp (disch := omega) only [jst_eq, jst_ne, jst_ni, jI_i, jcmp_lt, jcmp_gt, w32_id, jcpy_out, Sum.elim_inl, Sum.elim_inr, jt2, jt3, jt4, jt5, jt6, jt7, jt8] at fr5
      have F26 : ∀ x s, 1078 ≤ x → h15 x s = h13 x s := fun x s y => fr5 _ _ (by omega) (by omega) (by omega) (by omega) (by omega) (by omega)
      have F0 : ∀ s, h15 0 s = h13 0 s := fun s => fr5 _ _ (by omega) (by omega) (by omega) (by omega) (by omega) (by omega)
      rw [nv] at nS n0
      have NS : nmS h15 (h 0 0) (tV B a2 q) := nmS_hi nS hp.1 (by { rw [n0]; omega }) F26
      rw [SZ] at tx5
      have NX : nwX E (tV B a2 q) kr l T h h15 := ⟨by { have := vv5.1; omega }, vv5.2.1, NS, (F26 _ _ hp.1).trans n0, vv5.2.2.1, vv5.2.2.2.1, fun k k0 k1 => (vv5.2.2.2.2.1 k k0 (by omega)).trans ((H24 _ _ (by omega) (by omega)).trans (xk k k0 k1)), vv5.2.2.2.2.2.1, vv5.2.2.2.2.2.2, tx5.1, tx5.2, (F0 0).trans n00, (F0 1).trans n01, by { rw [F0 2]; exact n02 }⟩
      have FX : frXo E.1.1 h h15 := fun a s y0 y1 y2 y3 y4 y7 y8 y9 y10 y11 y12 y13 y14 => by { by_cases c : a = 200 ∧ s = 55; { rw [c.1, c.2, fr5 _ _ (by omega) (by omega) (by omega) (by omega) (by omega) (by omega), H24 _ _ (by omega) (by omega)]; exact G55 }; { exact (fr5 a s (by omega) (by omega) (by omega) (by omega) (by omega) (by omega)).trans ((H24 a s y0 y1).trans (G9 a s (by omega) y3 y4 y7 y8 y9)) } }
      refine OK_some ?_
      try dsimp only [Sum.elim_inl, Sum.elim_inr, jt2, jt3, jt4, jt5, jt6, jt7, jt8]
      try dsimp only [Sum.elim_inl, Sum.elim_inr, jt2, jt3, jt4, jt5, jt6, jt7, jt8]
      refine ⟨?_, ?_⟩
      · exact fun z => absurd c1 z -- o27 e1.1
      · exact fun _ => Or.inr ⟨q, l, kr, T, XO, G0, TK, rfl, NX, FX⟩ -- o28 e1.2
    · skip
      try simp (disch := omega) only [jst_eq, jst_ne, jst_ni, jI_i, jcmp_lt, jcmp_gt, w32_id, jcpy_out, Sum.elim_inl, Sum.elim_inr, jt2, jt3, jt4, jt5, jt6, jt7, jt8] at c2
      have CS := CS.resolve_right (fun z => by { have := z.1; omega })
      refine OK_some ?_
      try dsimp only [Sum.elim_inl, Sum.elim_inr, jt2, jt3, jt4, jt5, jt6, jt7, jt8]
      try dsimp only [Sum.elim_inl, Sum.elim_inr, jt2, jt3, jt4, jt5, jt6, jt7, jt8]
      refine ⟨?_, ?_⟩
      · exact fun z => absurd c1 z -- o29 e2.1
      · exact fun _ => Or.inl ⟨CS.1, CS.2.1, fun a s y1 y2 y3 y4 y5 y6 => (CS.2.2 a s (by omega)).trans (G9 a s y1 y2 y3 y4 y5 y6)⟩ -- o30 e2.2
  · skip
    try simp (disch := omega) only [jst_eq, jst_ne, jst_ni, jI_i, jcmp_lt, jcmp_gt, w32_id, jcpy_out, Sum.elim_inl, Sum.elim_inr, jt2, jt3, jt4, jt5, jt6, jt7, jt8] at c1
    refine OK_some ?_
    try dsimp only [Sum.elim_inl, Sum.elim_inr, jt2, jt3, jt4, jt5, jt6, jt7, jt8]
    try dsimp only [Sum.elim_inl, Sum.elim_inr, jt2, jt3, jt4, jt5, jt6, jt7, jt8]
    refine ⟨?_, ?_⟩
    · exact fun _ => ⟨rfl, rfl⟩ -- o31 e3.1
    · exact fun z => absurd z c1 -- o32 e3.2

