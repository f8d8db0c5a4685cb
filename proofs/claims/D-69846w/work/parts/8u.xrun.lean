/-! x: a run, whole; all runs -/
theorem vX1_goThrough (a1 : Int) (a2 : Int) (a3 : Int) {h : AH} {E : EV} {Rf : Int → TR} {W : Int → Int → Int → VW} {hl : Int → Int} {L : LE} {H : List (Int → Int)} {T : TR} (rn : rnX h E Rf W hl L) (hi : 0 ≤ a1 ∧ a1 ≤ 1000) (h2 : (a2 = 0 ∧ H.length ≤ 1990000) ∨ (a2 = 324 ∧ vwX h 324 2200 (-1) 0 T a3 0 ∧ capX h 324 2200 ∧ tmW E L.2.1.1 L.2.1.2 T 1)) (mk : ∀ p, 0 ≤ p → p < 4096 → h 404 p ≠ a1 + 1) (se : a2 = 0 → snX h L H) : OK (gX1_goThrough a1 a2 a3 h) (fun h' => (RN W L a1 (h' 200 45) (h' 200 46) (h' 200 47) ∧ 0 ≤ h' 200 46) ∧ (mdX h' h W L H T a1 a2 (h' 200 46).toNat) ∧ (∀ p, h' 404 p = a1 + 1 ∨ h' 404 p = h 404 p) ∧ (frG h h') ∧ (bd10 h')) := by
  have v := rn.2.2.2
  have n2 := v.1
  have n3 := v.2.1
  have LX := rnX_x rn
  have LN := rn.2.1.2.1
  have LM := rn.2.1.2.2.1
  have B0 : bd10 h := rn.1.2.2.2.2
  unfold gX1_goThrough
  refine OK_jlx (fun x1 ex1 => ?_)
  try simp (disch := omega) only [jst_eq, jst_ne, jst_ni, jI_i, jcmp_lt, jcmp_gt, w32_id, jcpy_out, Sum.elim_inl, Sum.elim_inr, jt2, jt3, jt4, jt5, jt6, jt7, jt8] at ex1
  have X1 : x1 = L.1.1 - 1 := by { rw [ex1, LN]; first | done | rfl | exact w32_id (by omega) (by omega) }
  refine OK_jb (vX1_goThrough_l14 (E := E) (L := L) _ _ _ _ _ (by exact rn.2.1) (by (first | assumption | omega | ((try dsimp only [jt2, jt3, jt4]); first | omega | (simp (disch := omega) only [jst_eq, jst_ne, jst_ni, jst_o, jI_i, jcpy_out, w32_id, jdiv_nn, jshr_k, jand_255] <;> first | done | omega | assumption)) | (intros; simp (disch := omega) only [jst_eq, jst_ne, jst_ni, jst_o, jI_i, jcpy_out, w32_id, jdiv_nn, *] <;> first | done | omega) | (intros; simp (disch := omega) only [jst_eq, jst_ne, jst_ni, jst_o, jI_i, jcpy_out, w32_id, jdiv_nn] at * <;> first | done | omega | assumption) | (intros; first | rfl | (exfalso; omega) | ((repeat' apply And.intro) <;> first | assumption | rfl | omega | trivial)))) (by exact ⟨hi.1, by omega, rfl, X1⟩)) (fun o2 r1 => ?_)
  try dsimp only [Sum.elim_inl, Sum.elim_inr, jt2, jt3, jt4, jt5, jt6, jt7, jt8] at r1
  obtain ⟨q21, fr1⟩ := r1
  try simp (disch := omega) only [jst_eq, jst_ne, jst_ni, jI_i, jcmp_lt, jcmp_gt, w32_id, jcpy_out, Sum.elim_inl, Sum.elim_inr, jt2, jt3, jt4, jt5, jt6, jt7, jt8] at q21
  try simp (disch := omega) only [jst_eq, jst_ne, jst_ni, jI_i, jcmp_lt, jcmp_gt, w32_id, jcpy_out, Sum.elim_inl, Sum.elim_inr, jt2, jt3, jt4, jt5, jt6, jt7, jt8] at fr1
  have F2 : ∀ a s, ¬ (a = 407 ∧ 0 ≤ s) → o2 a s = h a s := by assumption
  have Q2 : ∀ k, 0 ≤ k → k < L.1.1 → o2 407 k = inS L a1 k := by assumption
  refine OK_jl ?_
  refine OK_jl ?_
  refine OK_jl ?_
  refine OK_jl ?_
  have F7 : ∀ a s, ¬ (a = 200 ∧ (45 ≤ s ∧ s ≤ 48)) → ¬ (a = 407 ∧ 0 ≤ s) → jst (jst (jst (jst o2 200 46 0) 200 48 (-1)) 200 47 (-1)) 200 45 2 a s = h a s := fun a s y1 y2 => by { rw [jst_o (by omega), jst_o (by omega), jst_o (by omega), jst_o (by omega)]; exact F2 a s y2 }
  have C7 : jst (jst (jst (jst o2 200 46 0) 200 48 (-1)) 200 47 (-1)) 200 45 2 200 45 = 2 ∧ jst (jst (jst (jst o2 200 46 0) 200 48 (-1)) 200 47 (-1)) 200 45 2 200 46 = 0 ∧ jst (jst (jst (jst o2 200 46 0) 200 48 (-1)) 200 47 (-1)) 200 45 2 200 47 = -1 ∧ jst (jst (jst (jst o2 200 46 0) 200 48 (-1)) 200 47 (-1)) 200 45 2 200 48 = -1 := ⟨jst_eq, by { rw [jst_ni (by decide), jst_ni (by decide), jst_ni (by decide), jst_eq] }, by { rw [jst_ni (by decide), jst_eq] }, by { rw [jst_ni (by decide), jst_ni (by decide), jst_eq] }⟩
  have Q7 : ∀ k, 0 ≤ k → k < L.1.1 → jst (jst (jst (jst o2 200 46 0) 200 48 (-1)) 200 47 (-1)) 200 45 2 407 k = inS L a1 k := fun k k0 k1 => by { rw [jst_ne (by decide), jst_ne (by decide), jst_ne (by decide), jst_ne (by decide)]; exact Q2 k k0 k1 }
  generalize jst (jst (jst (jst o2 200 46 0) 200 48 (-1)) 200 47 (-1)) 200 45 2 = g7 at *
  have RN7 : rnX g7 E Rf W hl L := rnX_f rn (by { unfold bd10; rw [F7 _ _ (by omega) (by omega)]; exact B0 }) (fun a s y1 y2 y3 y4 => F7 a s (by omega) (by omega))
  refine OK_jb (vX1_goThrough_l92 (E := E) (Rf := Rf) (W := W) (hl := hl) (L := L) _ _ _ _ _ (by exact RN7) (by exact Q7) (by exact ⟨rfl, rfl⟩)) (fun o8 r2 => ?_)
  obtain ⟨y10, h11⟩ := o8
  refine OK_jt2 ?_
  try dsimp only [Sum.elim_inl, Sum.elim_inr, jt2, jt3, jt4, jt5, jt6, jt7, jt8] at r2
  obtain ⟨q12, q22, fr2, bb2⟩ := r2
  try simp (disch := omega) only [jst_eq, jst_ne, jst_ni, jI_i, jcmp_lt, jcmp_gt, w32_id, jcpy_out, Sum.elim_inl, Sum.elim_inr, jt2, jt3, jt4, jt5, jt6, jt7, jt8] at q12
  try simp (disch := omega) only [jst_eq, jst_ne, jst_ni, jI_i, jcmp_lt, jcmp_gt, w32_id, jcpy_out, Sum.elim_inl, Sum.elim_inr, jt2, jt3, jt4, jt5, jt6, jt7, jt8] at q22
  try simp (disch := omega) only [jst_eq, jst_ne, jst_ni, jI_i, jcmp_lt, jcmp_gt, w32_id, jcpy_out, Sum.elim_inl, Sum.elim_inr, jt2, jt3, jt4, jt5, jt6, jt7, jt8] at fr2
  try simp (disch := omega) only [jst_eq, jst_ne, jst_ni, jI_i, jcmp_lt, jcmp_gt, w32_id, jcpy_out, Sum.elim_inl, Sum.elim_inr, jt2, jt3, jt4, jt5, jt6, jt7, jt8] at bb2
  have F11 : ∀ a s, ¬ (a = 200 ∧ (s = 9 ∨ s = 10)) → ¬ ((a = 269 ∨ a = 406) ∧ 0 ≤ s) → h11 a s = g7 a s := by assumption
  have BB : bd10 h11 := by assumption
  have S0 : ∀ k, 0 ≤ k → k < L.2.1.1 → h11 406 k = st0 W L a1 k := by assumption
  have GD : (y10 = 1 ∧ gdS L (st0 W L a1)) ∨ (y10 = 0 ∧ ¬ gdS L (st0 W L a1)) := by assumption
  have FF : ∀ a s, ¬ (a = 200 ∧ (s = 9 ∨ s = 10 ∨ (45 ≤ s ∧ s ≤ 48))) → ¬ ((a = 269 ∨ a = 406 ∨ a = 407) ∧ 0 ≤ s) → h11 a s = h a s := fun a s y1 y2 => by { rw [F11 a s (by omega) (by omega)]; exact F7 a s (by omega) (by omega) }
  have RN11 : rnX h11 E Rf W hl L := rnX_f rn BB (fun a s y1 y2 y3 y4 => FF a s (by omega) (by omega))
  have C45 : h11 200 45 = 2 := by { rw [F11 _ _ (by omega) (by omega)]; exact C7.1 }
  have C46 : h11 200 46 = 0 := by { rw [F11 _ _ (by omega) (by omega)]; exact C7.2.1 }
  have C47 : h11 200 47 = -1 := by { rw [F11 _ _ (by omega) (by omega)]; exact C7.2.2.1 }
  have C48 : h11 200 48 = -1 := by { rw [F11 _ _ (by omega) (by omega)]; exact C7.2.2.2 }
  have X11 : h11 200 39 = h 200 39 := FF _ _ (by omega) (by omega)
  refine OK_jb (vX1_goThrough_l163 (E := E) (Rf := Rf) (W := W) (hl := hl) (L := L) (H := H) (T := T) (hz := h) _ _ _ _ (by exact RN11) (by exact hi) (by (rcases h2 with z | z; { exact Or.inl z }; { right; exact ⟨z.1, vwX_fr (fun a s q => FF _ _ (by omega) (by omega)) z.2.1, capX_fr z.2.2.1 (fun a a0 a1 => FF _ _ (by omega) (by omega)), z.2.2.2⟩ })) (by (left; refine ⟨0, fun q l => absurd l (Nat.not_lt_zero q), C46, ⟨fun r l => absurd l (Nat.not_lt_zero r), fun p p0 p1 e => ?_, fun p => Or.inr (FF _ _ (by omega) (by omega))⟩, ?_, ?_⟩; { rw [FF _ _ (by omega) (by omega)] at e; exact absurd e (mk p p0 p1) }; { rcases h2 with z | z; { exact Or.inl ⟨z.1, snX_f LX (se z.1) (fun a s q => FF _ _ (by omega) (by omega)) ⟨E, v⟩⟩ }; { exact Or.inr ⟨z.1, Or.inl ⟨C48, fun q l => by omega⟩, fun a s q => FF _ _ (by omega) (by omega)⟩ } }; { rcases GD with z | z; { exact Or.inl ⟨z.1, z.2, S0⟩ }; { exact Or.inr z } })) (by exact X11)) (fun o12 r3 => ?_)
  rcases o12 with o14 | o15
  · skip
    have r4 := r3; clear r3
    dsimp only [Sum.elim_inl, Sum.elim_inr] at r4
    try dsimp only [Sum.elim_inl, Sum.elim_inr, jt2, jt3, jt4, jt5, jt6, jt7, jt8] at r4
    obtain ⟨vi3, g13⟩ := r4
    try simp (disch := omega) only [jst_eq, jst_ne, jst_ni, jI_i, jcmp_lt, jcmp_gt, w32_id, jcpy_out, Sum.elim_inl, Sum.elim_inr, jt2, jt3, jt4, jt5, jt6, jt7, jt8] at vi3
    try simp (disch := omega) only [jst_eq, jst_ne, jst_ni, jI_i, jcmp_lt, jcmp_gt, w32_id, jcpy_out, Sum.elim_inl, Sum.elim_inr, jt2, jt3, jt4, jt5, jt6, jt7, jt8] at g13
    refine OK_jml ?_
    have VI : ∃ j : Nat, psI W L a1 j ∧ gdS L (trS W L a1 j) ∧ (∃ r, r < j ∧ trS W L a1 r = trS W L a1 j) ∧ o14 200 46 = j ∧ mkX o14 h W L a1 j ∧ mdX o14 h W L H T a1 a2 j := by assumption
    obtain ⟨j, j1, j2, j3, j4, j5, j6⟩ := VI
    have G1 : fRq h11 o14 ∧ bd10 o14 := by assumption
    have X14 : o14 200 39 = h 200 39 := by { rw [G1.1 _ _ (by omega) (by omega) (by omega) (by omega)]; exact X11 }
    refine OK_jl ?_
    have K16 : ∀ a s, ¬ (a = 200 ∧ s = 45) → jst o14 200 45 0 a s = o14 a s := fun a s y => jst_o y
    have C16 : jst o14 200 45 0 200 45 = 0 := jst_eq
    generalize jst o14 200 45 0 = g9 at *
    refine OK_some ?_
    try dsimp only [Sum.elim_inl, Sum.elim_inr, jt2, jt3, jt4, jt5, jt6, jt7, jt8]
    try dsimp only [Sum.elim_inl, Sum.elim_inr, jt2, jt3, jt4, jt5, jt6, jt7, jt8]
    refine ⟨?_, ?_, ?_, ?_, ?_⟩
    · (rw [C16, K16 200 46 (by omega), K16 200 47 (by omega), j4, G1.1 200 47 (by omega) (by omega) (by omega) (by omega), C47]; exact ⟨⟨j, j1, Or.inr (Or.inl ⟨j2, j3, rfl, rfl, rfl⟩)⟩, by omega⟩) -- o12 e1.1
    · (rw [K16 200 46 (by omega), j4, show ((j : Int)).toNat = j by omega]; exact mdX_f (by rw [X14]; exact LX) ⟨E, v⟩ j6 X14.symm (fun a s q => K16 a s (by omega))) -- o13 e1.2
    · (intro p; rw [K16 _ _ (by omega)]; exact j5.2.2 p) -- o14 e1.3
    · exact fun a s y1 y2 y3 y4 => by rw [K16 _ _ (by omega), G1.1 a s (by omega) y2 y3 y4]; exact FF a s y1 (by omega) -- o15 e1.4
    · (unfold bd10; rw [K16 _ _ (by omega)]; exact G1.2) -- o16 e1.5
  · skip
    have r5 := r3; clear r3
    dsimp only [Sum.elim_inl, Sum.elim_inr] at r5
    refine OK_jmr ?_
    rcases o15 with o17 | o18
    · skip
      have r6 := r5; clear r5
      dsimp only [Sum.elim_inl, Sum.elim_inr] at r6
      try dsimp only [Sum.elim_inl, Sum.elim_inr, jt2, jt3, jt4, jt5, jt6, jt7, jt8] at r6
      obtain ⟨zo4, g24⟩ := r6
      try simp (disch := omega) only [jst_eq, jst_ne, jst_ni, jI_i, jcmp_lt, jcmp_gt, w32_id, jcpy_out, Sum.elim_inl, Sum.elim_inr, jt2, jt3, jt4, jt5, jt6, jt7, jt8] at zo4
      try simp (disch := omega) only [jst_eq, jst_ne, jst_ni, jI_i, jcmp_lt, jcmp_gt, w32_id, jcpy_out, Sum.elim_inl, Sum.elim_inr, jt2, jt3, jt4, jt5, jt6, jt7, jt8] at g24
      refine OK_jml ?_
      have ZO : ∃ j : Nat, psI W L a1 j ∧ gdS L (trS W L a1 j) ∧ (∀ r, r < j → trS W L a1 r ≠ trS W L a1 j) ∧ cdS W L (trS W L a1 j) = 0 ∧ o17 200 46 = j + 1 ∧ mkX o17 h W L a1 (j + 1) ∧ mdX o17 h W L H T a1 a2 (j + 1) ∧ ∀ k, 0 ≤ k → k < L.2.1.1 → o17 406 k = trS W L a1 j k := by assumption
      obtain ⟨j, j1, j2, j3, j4, j5, j6, j7, j8⟩ := ZO
      have G2 : fRq h11 o17 ∧ bd10 o17 := by assumption
      have X17 : o17 200 39 = h 200 39 := by { rw [G2.1 _ _ (by omega) (by omega) (by omega) (by omega)]; exact X11 }
      have X172 : o17 (h 200 39) 2 = L.2.1.1 := by { rw [G2.1 _ _ (by omega) (by omega) (by omega) (by omega), FF _ _ (by omega) (by omega)]; exact LM }
      have FF2 : frG h o17 := fun a s y1 y2 y3 y4 => by { rw [G2.1 a s (by omega) y2 y3 y4]; exact FF a s y1 (by omega) }
      have RN17 : rnX o17 E Rf W hl L := rnX_f rn G2.2 FF2
      have VJ := psI_v2 (rnX_a rn).1 (rnX_a rn).2 v hi.1 j1 j2
      obtain ⟨gk, GK⟩ := v.2.2.2.2
      rw [X17, X172]
      refine OK_jb2 (vX1_workLoop (E := E) (Rf := Rf) (W := W) (hl := hl) (np := L.2.1.1) (kp := L.2.1.2) (R := L.2.2.2.2.2) (k := gk) _ _ _ (by exact RN17.1) (by exact rnX_x RN17) (by (have q := RN17.2.1.2.2.2.2.2.2.1; have q2 := RN17.2.1.2.2.2.2.2.2.2; rw [X17] at q q2 ⊢; exact ⟨q, q2, GK⟩)) (by (have k6 := RN17.2.2.1.1; omega)) (by exact fun c c0 c1 => by rw [j8 c c0 c1]; exact VJ c c0 c1)) (fun v20 h21 r7 => ?_)
      try dsimp only [Sum.elim_inl, Sum.elim_inr, jt2, jt3, jt4, jt5, jt6, jt7, jt8] at r7
      obtain ⟨ev5, fs5, bs5⟩ := r7
      try simp (disch := omega) only [jst_eq, jst_ne, jst_ni, jI_i, jcmp_lt, jcmp_gt, w32_id, jcpy_out, Sum.elim_inl, Sum.elim_inr, jt2, jt3, jt4, jt5, jt6, jt7, jt8] at ev5
      try simp (disch := omega) only [jst_eq, jst_ne, jst_ni, jI_i, jcmp_lt, jcmp_gt, w32_id, jcpy_out, Sum.elim_inl, Sum.elim_inr, jt2, jt3, jt4, jt5, jt6, jt7, jt8] at fs5
      try simp (disch := omega) only [jst_eq, jst_ne, jst_ni, jI_i, jcmp_lt, jcmp_gt, w32_id, jcpy_out, Sum.elim_inl, Sum.elim_inr, jt2, jt3, jt4, jt5, jt6, jt7, jt8] at bs5
      have V20 : v20 = evL W L.2.2.2.2.2 (trS W L a1 j) := by { rw [show v20 = evL W L.2.2.2.2.2 (o17 406) by assumption]; exact evL_c GK.2.2.1 j8 }
      have FS : f269 o17 h21 := by assumption
      have BS : bd10 h21 := by assumption
      refine OK_jl ?_
      have E22 : jst h21 200 47 v20 200 47 = v20 := jst_eq
      have K22 : ∀ a s, ¬ (a = 200 ∧ s = 47) → jst h21 200 47 v20 a s = h21 a s := fun a s y => jst_o y
      rw [E22]
      generalize jst h21 200 47 v20 = g22 at *
      have P22 : ∀ t1 a s, ¬ (a = 200 ∧ (s = 9 ∨ s = 10 ∨ s = 45 ∨ s = 47)) → ¬ (a = 269 ∧ 0 ≤ s) → jst g22 200 45 t1 a s = o17 a s := fun t1 a s y1 y2 => by { rw [jst_o (by omega), K22 _ _ (by omega)]; exact FS a s (by omega) y2 }
      have P47 : ∀ t1, jst g22 200 45 t1 200 47 = v20 := fun t1 => by { rw [jst_ni (by decide)]; exact E22 }
      have PB : ∀ t1, bd10 (jst g22 200 45 t1) := fun t1 => by { unfold bd10; rw [jst_ni (by decide), K22 _ _ (by omega)]; exact BS }
      have PR : ∀ t1, t1 = (if v20 = -1 then (2 : Int) else 1) → RN W L a1 (jst g22 200 45 t1 200 45) (jst g22 200 45 t1 200 46) (jst g22 200 45 t1 200 47) ∧ 0 ≤ jst g22 200 45 t1 200 46 := fun t1 e9 => by { rw [jst_eq, P47, P22 t1 200 46 (by omega) (by omega), j5]; exact ⟨⟨j, j1, Or.inr (Or.inr (Or.inr ⟨j2, j3, j4, V20, e9, rfl⟩))⟩, by omega⟩ }
      have PM : ∀ t1, mdX (jst g22 200 45 t1) h W L H T a1 a2 (jst g22 200 45 t1 200 46).toNat := fun t1 => by { rw [P22 t1 200 46 (by omega) (by omega), j5, show ((j : Int) + 1).toNat = j + 1 by omega]; exact mdX_f (by rw [X17]; exact LX) ⟨E, v⟩ j7 X17.symm (fun a s q => P22 t1 a s (by omega) (by omega)) }
      have PK : ∀ t1 p, jst g22 200 45 t1 404 p = a1 + 1 ∨ jst g22 200 45 t1 404 p = h 404 p := fun t1 p => by { rw [P22 t1 404 p (by omega) (by omega)]; exact j6.2.2 p }
      have PF : ∀ t1, frG h (jst g22 200 45 t1) := fun t1 a s y1 y2 y3 y4 => by { rw [P22 t1 a s (by omega) (by omega)]; exact FF2 a s y1 y2 y3 y4 }
      refine OK_if (fun c1 => ?_) (fun c1 => ?_)
      · skip
        try simp (disch := omega) only [jst_eq, jst_ne, jst_ni, jI_i, jcmp_lt, jcmp_gt, w32_id, jcpy_out, Sum.elim_inl, Sum.elim_inr, jt2, jt3, jt4, jt5, jt6, jt7, jt8] at c1
        unfold gX1_goThrough_j290
        refine OK_jl ?_
        refine OK_some ?_
        try dsimp only [Sum.elim_inl, Sum.elim_inr, jt2, jt3, jt4, jt5, jt6, jt7, jt8]
        try dsimp only [Sum.elim_inl, Sum.elim_inr, jt2, jt3, jt4, jt5, jt6, jt7, jt8]
        refine ⟨?_, ?_, ?_, ?_, ?_⟩
        · exact PR 2 (by rw [if_pos (by omega)]) -- o22 e2.1
        · exact PM 2 -- o23 e2.2
        · exact PK 2 -- o24 e2.3
        · exact PF 2 -- o25 e2.4
        · exact PB 2 -- o26 e2.5
      · skip
        try simp (disch := omega) only [jst_eq, jst_ne, jst_ni, jI_i, jcmp_lt, jcmp_gt, w32_id, jcpy_out, Sum.elim_inl, Sum.elim_inr, jt2, jt3, jt4, jt5, jt6, jt7, jt8] at c1
        unfold gX1_goThrough_j290
        refine OK_jl ?_
        refine OK_some ?_
        try dsimp only [Sum.elim_inl, Sum.elim_inr, jt2, jt3, jt4, jt5, jt6, jt7, jt8]
        try dsimp only [Sum.elim_inl, Sum.elim_inr, jt2, jt3, jt4, jt5, jt6, jt7, jt8]
        refine ⟨?_, ?_, ?_, ?_, ?_⟩
        · exact PR 1 (by rw [if_neg (by omega)]) -- o27 e3.1
        · exact PM 1 -- o28 e3.2
        · exact PK 1 -- o29 e3.3
        · exact PF 1 -- o30 e3.4
        · exact PB 1 -- o31 e3.5
    · skip
      have r8 := r5; clear r5
      dsimp only [Sum.elim_inl, Sum.elim_inr] at r8
      try dsimp only [Sum.elim_inl, Sum.elim_inr, jt2, jt3, jt4, jt5, jt6, jt7, jt8] at r8
      obtain ⟨no6, g36⟩ := r8
      try simp (disch := omega) only [jst_eq, jst_ne, jst_ni, jI_i, jcmp_lt, jcmp_gt, w32_id, jcpy_out, Sum.elim_inl, Sum.elim_inr, jt2, jt3, jt4, jt5, jt6, jt7, jt8] at no6
      try simp (disch := omega) only [jst_eq, jst_ne, jst_ni, jI_i, jcmp_lt, jcmp_gt, w32_id, jcpy_out, Sum.elim_inl, Sum.elim_inr, jt2, jt3, jt4, jt5, jt6, jt7, jt8] at g36
      refine OK_jmr ?_
      have NO : ∃ met : Nat, (∃ j, psI W L a1 j ∧ enI W L a1 j 2 met (-1)) ∧ o18 200 46 = met ∧ mkX o18 h W L a1 met ∧ mdX o18 h W L H T a1 a2 met := by assumption
      obtain ⟨met, m1, m2, m3, m4⟩ := NO
      have G3 : fRq h11 o18 ∧ bd10 o18 := by assumption
      refine OK_some ?_
      try dsimp only [Sum.elim_inl, Sum.elim_inr, jt2, jt3, jt4, jt5, jt6, jt7, jt8]
      try dsimp only [Sum.elim_inl, Sum.elim_inr, jt2, jt3, jt4, jt5, jt6, jt7, jt8]
      refine ⟨?_, ?_, ?_, ?_, ?_⟩
      · (rw [G3.1 200 45 (by omega) (by omega) (by omega) (by omega), G3.1 200 47 (by omega) (by omega) (by omega) (by omega), C45, C47, m2]; exact ⟨m1, by omega⟩) -- o32 e4.1
      · (rw [m2, show ((met : Int)).toNat = met by omega]; exact m4) -- o33 e4.2
      · exact m3.2.2 -- o34 e4.3
      · exact fun a s y1 y2 y3 y4 => by rw [G3.1 a s (by omega) y2 y3 y4]; exact FF a s y1 (by omega) -- o35 e4.4
      · exact G3.2 -- o36 e4.5

